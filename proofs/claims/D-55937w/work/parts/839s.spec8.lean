set_option maxRecDepth 100000
theorem uA_o {r : Row} {a w z j : Int} (h : j ≠ 56 + 6 * a + w) : uA r a w z j = r j := if_neg h
theorem uA_s {r : Row} {a w z : Int} : uA r a w z (56 + 6 * a + w) = z := if_pos rfl
theorem RI_gl {r : Row} {a : Int} (hI : RI r) (ha : 0 ≤ a ∧ a < r 0) (hg : fA r a 1 ≠ 4) : RI (uA r a 1 (fA r a 1 + 1)) := by
  have ho := hI.2.1 a ha.1 ha.2
  have e1 : fA (uA r a 1 (fA r a 1 + 1)) a 1 = fA r a 1 + 1 := uA_s
  have eo : ∀ w, w ≠ 1 → fA (uA r a 1 (fA r a 1 + 1)) a w = fA r a w := fun w h => uA_o (by omega)
  refine RI_art hI ha.1 ha.2 (fun j hj _ => uA_o (by omega)) ?_ (by rw [eo 4 (by omega)])
  unfold artOk at ho ⊢
  rw [eo 0 (by omega), e1, eo 2 (by omega), eo 3 (by omega), eo 4 (by omega)]
  omega
theorem RI_sv {r : Row} {a s : Int} (hI : RI r) (ha : 0 ≤ a ∧ a < r 0) (hl : 0 ≤ fA r a 4) (hs : 0 ≤ s ∧ s ≤ 2) : RI (uA r a 4 s) := by
  have ho := hI.2.1 a ha.1 ha.2
  have e1 : fA (uA r a 4 s) a 4 = s := uA_s
  have eo : ∀ w, w ≠ 4 → fA (uA r a 4 s) a w = fA r a w := fun w h => uA_o (by omega)
  refine RI_art hI ha.1 ha.2 (fun j hj _ => uA_o (by omega)) ?_ (by rw [e1]; omega)
  unfold artOk at ho ⊢
  rw [eo 0 (by omega), e1, eo 2 (by omega), eo 3 (by omega), eo 1 (by omega)]
  omega
theorem cm_o {r : Row} {c s j : Int} (h0 : j ≠ 0) (h : j < 56 + 6 * r 0) : cmR r c s j = r j := by
  unfold cmR
  rw [if_neg h0, if_neg (by omega), if_neg (by omega), if_neg (by omega)]
theorem cm_0 {r : Row} {c s : Int} : cmR r c s 0 = r 0 + 1 := rfl
theorem cm_w {r : Row} {c s w : Int} (h0 : 0 ≤ r 0) (hw : 0 ≤ w ∧ w < 6) : fA (cmR r c s) (r 0) w = if w = 0 then c else if w = 4 then s else 0 := by
  unfold fA cmR
  rw [if_neg (by omega)]
  (repeat' split) <;> first | rfl | omega
theorem RI_cm {r : Row} {c s : Int} (hI : RI r) (hc : 1 ≤ c ∧ c ≤ 9) (hs : 0 ≤ s ∧ s ≤ 2) (h12 : r 0 ≠ 12) : RI (cmR r c s) := by
  obtain ⟨⟨b1, b2, b3⟩, c1, c2, c3, c4, c5⟩ := hI
  have e1 : cmR r c s 1 = r 1 := cm_o (by omega) (by omega)
  have e2 : cmR r c s 2 = r 2 := cm_o (by omega) (by omega)
  have el : ∀ k, 0 ≤ k → k < r 1 → cmR r c s (12 + k) = r (12 + k) := fun k k0 k1 => cm_o (by omega) (by omega)
  have ea : ∀ b w, 0 ≤ b → b < r 0 → 0 ≤ w → w < 6 → fA (cmR r c s) b w = fA r b w := fun b w b0 bn w0 w1 => cm_o (by omega) (by omega)
  refine ⟨⟨by rw [cm_0]; omega, by rw [cm_0, e1]; omega, by rw [e2]; exact b3⟩, ?_, ?_, ?_, ?_, ?_⟩
  · intro b hb0 hb1
    rw [cm_0] at hb1
    by_cases e : b < r 0
    · exact artOk_of (c1 b hb0 e) (fun w w0 w1 => ea b w hb0 e w0 w1)
    · have : b = r 0 := by omega
      rw [this]
      unfold artOk
      rw [cm_w b1.1 (by omega), cm_w b1.1 (by omega), cm_w b1.1 (by omega), cm_w b1.1 (by omega), cm_w b1.1 (by omega)]
      rw [if_pos rfl, if_neg (by omega), if_neg (by omega), if_neg (by omega), if_neg (by omega), if_neg (by omega), if_neg (by omega), if_neg (by omega), if_pos rfl]
      omega
  · intro t t0 t1
    rw [e2] at t1
    exact shOk_of (c2 t t0 t1) (fun w w0 w1 => cm_o (by omega) (by omega))
  · intro k k0 k1
    rw [e1] at k1
    obtain ⟨q1, q2, q3⟩ := c3 k k0 k1
    rw [el k k0 k1, cm_0, ea _ 4 q1 q2 (by omega) (by omega)]
    exact ⟨q1, by omega, q3⟩
  · intro k l k0 k1 l0 l1 e
    rw [e1] at k1 l1
    rw [el k k0 k1, el l l0 l1] at e
    exact c4 k l k0 k1 l0 l1 e
  · intro b hb0 hb1 hb4
    rw [cm_0] at hb1
    by_cases e : b < r 0
    · rw [ea b 4 hb0 e (by omega) (by omega)] at hb4
      obtain ⟨k, k0, k1, k2⟩ := c5 b hb0 e hb4
      exact ⟨k, k0, by rw [e1]; exact k1, by rw [el k k0 k1]; exact k2⟩
    · have : b = r 0 := by omega
      rw [this, cm_w b1.1 (by omega), if_neg (by omega), if_pos rfl] at hb4
      omega
theorem ra_o {r : Row} {a j : Int} (h1 : j ≠ 1) (h8 : j ≠ 8) (hl : j ≠ 12 + r 1) (h4 : j ≠ 56 + 6 * a + 4) : raR r a j = r j := by
  unfold raR
  rw [if_neg h1, if_neg h8, if_neg hl, if_neg h4]
theorem RI_ra {r : Row} {a : Int} (hI : RI r) (ha : 0 ≤ a ∧ a < r 0) (hl : 0 ≤ fA r a 4) (hf : fA r a 3 ≠ 0) (hx : fA r a 2 ≤ 0) : RI (raR r a) := by
  have ho := hI.2.1 a ha.1 ha.2
  obtain ⟨⟨b1, b2, b3⟩, c1, c2, c3, c4, c5⟩ := hI
  have hp : r 1 ≤ r 0 - 1 := pig c4 (fun k k0 k1 => ⟨(c3 k k0 k1).1, (c3 k k0 k1).2.1, fun e => by have := (c3 k k0 k1).2.2; rw [e] at this; omega⟩) ha.1 ha.2 b2.1
  have e0 : raR r a 0 = r 0 := ra_o (by omega) (by omega) (by omega) (by omega)
  have e1 : raR r a 1 = r 1 + 1 := rfl
  have e2 : raR r a 2 = r 2 := ra_o (by omega) (by omega) (by omega) (by omega)
  have el : ∀ k, 0 ≤ k → k < r 1 → raR r a (12 + k) = r (12 + k) := fun k k0 k1 => ra_o (by omega) (by omega) (by omega) (by omega)
  have en : raR r a (12 + r 1) = a := by
    unfold raR
    rw [if_neg (by omega), if_neg (by omega), if_pos rfl]
  have ea : ∀ b w, 0 ≤ b → 0 ≤ w → w < 6 → ¬ (b = a ∧ w = 4) → fA (raR r a) b w = fA r b w := fun b w b0 w0 w1 hn => ra_o (by omega) (by omega) (by omega) (by omega)
  have e4 : fA (raR r a) a 4 = -1 := by
    show raR r a (56 + 6 * a + 4) = -1
    unfold raR
    rw [if_neg (by omega), if_neg (by omega), if_neg (by omega), if_pos rfl]
  refine ⟨⟨by rw [e0]; exact b1, by rw [e0, e1]; omega, by rw [e2]; exact b3⟩, ?_, ?_, ?_, ?_, ?_⟩
  · intro b hb0 hb1
    rw [e0] at hb1
    by_cases e : b = a
    · rw [e]
      unfold artOk at ho ⊢
      rw [ea a 0 ha.1 (by omega) (by omega) (by omega), ea a 1 ha.1 (by omega) (by omega) (by omega), ea a 2 ha.1 (by omega) (by omega) (by omega), ea a 3 ha.1 (by omega) (by omega) (by omega), e4]
      omega
    · exact artOk_of (c1 b hb0 hb1) (fun w w0 w1 => ea b w hb0 w0 w1 (fun q => e q.1))
  · intro t t0 t1
    rw [e2] at t1
    exact shOk_of (c2 t t0 t1) (fun w w0 w1 => ra_o (by omega) (by omega) (by omega) (by omega))
  · intro k k0 k1
    rw [e1] at k1
    by_cases e : k < r 1
    · obtain ⟨q1, q2, q3⟩ := c3 k k0 e
      rw [el k k0 e, e0]
      refine ⟨q1, q2, ?_⟩
      rw [ea _ 4 q1 (by omega) (by omega) (fun q => by rw [q.1] at q3; omega)]
      exact q3
    · rw [show k = r 1 by omega, en, e0]
      exact ⟨ha.1, ha.2, e4⟩
  · intro k l k0 k1 l0 l1 e
    rw [e1] at k1 l1
    have hne : ∀ i, 0 ≤ i → i < r 1 → r (12 + i) ≠ a := fun i i0 i1 q => by have := (c3 i i0 i1).2.2; rw [q] at this; omega
    by_cases ek : k < r 1
    · by_cases el2 : l < r 1
      · rw [el k k0 ek, el l l0 el2] at e
        exact c4 k l k0 ek l0 el2 e
      · rw [el k k0 ek, show l = r 1 by omega, en] at e
        exact absurd e (hne k k0 ek)
    · by_cases el2 : l < r 1
      · rw [show k = r 1 by omega, en, el l l0 el2] at e
        exact absurd e.symm (hne l l0 el2)
      · omega
  · intro b hb0 hb1 hb4
    rw [e0] at hb1
    by_cases e : b = a
    · exact ⟨r 1, b2.1, by rw [e1]; omega, by rw [e]; exact en⟩
    · rw [ea b 4 hb0 (by omega) (by omega) (fun q => e q.1)] at hb4
      obtain ⟨k, k0, k1, k2⟩ := c5 b hb0 hb1 hb4
      exact ⟨k, k0, by rw [e1]; omega, by rw [el k k0 k1]; exact k2⟩
theorem re_k {r : Row} {a s k : Int} (ha : 0 ≤ a) (h12 : r 1 ≤ 12) (h0 : 0 ≤ k) (hk : k < r 1 - 1) (hp : 0 ≤ plOf r a) : reR r a s (12 + k) = r (12 + (if k < plOf r a then k else k + 1)) := by
  unfold reR
  rw [if_neg (by omega), if_neg (by omega), if_neg (by omega), if_neg (by omega)]
  by_cases e : k < plOf r a
  · rw [if_pos e, if_neg (by omega), if_neg (by omega)]
  · rw [if_neg e, if_pos (by omega)]
    congr 1
    omega
theorem re_o {r : Row} {a s j : Int} (hj : j < 12 ∨ 24 ≤ j) (h12 : 1 ≤ r 1 ∧ r 1 ≤ 12) (hp : 0 ≤ plOf r a) (h1 : j ≠ 1) (h9 : j ≠ 9) (h4 : j ≠ 56 + 6 * a + 4) (h3 : j ≠ 56 + 6 * a + 3) : reR r a s j = r j := by
  unfold reR
  rw [if_neg h1, if_neg h9, if_neg h4, if_neg h3, if_neg (by omega), if_neg (by omega)]
theorem RI_re {r : Row} {a s : Int} (hI : RI r) (ha : 0 ≤ a ∧ a < r 0) (hl : fA r a 4 < 0) (hs : 0 ≤ s ∧ s ≤ 2) : RI (reR r a s) := by
  have ho := hI.2.1 a ha.1 ha.2
  have hp := pl_law hI ha hl
  obtain ⟨⟨b1, b2, b3⟩, c1, c2, c3, c4, c5⟩ := hI
  have hb : 1 ≤ r 1 ∧ r 1 ≤ 12 := by omega
  have e0 : reR r a s 0 = r 0 := re_o (by omega) hb hp.1 (by omega) (by omega) (by omega) (by omega)
  have e1 : reR r a s 1 = r 1 - 1 := rfl
  have e2 : reR r a s 2 = r 2 := re_o (by omega) hb hp.1 (by omega) (by omega) (by omega) (by omega)
  have el : ∀ k, 0 ≤ k → k < r 1 - 1 → reR r a s (12 + k) = r (12 + (if k < plOf r a then k else k + 1)) := fun k k0 k1 => re_k ha.1 hb.2 k0 k1 hp.1
  have ea : ∀ b w, 0 ≤ b → 0 ≤ w → w < 6 → ¬ (b = a ∧ (w = 4 ∨ w = 3)) → fA (reR r a s) b w = fA r b w := fun b w b0 w0 w1 hn => re_o (by omega) hb hp.1 (by omega) (by omega) (by omega) (by omega)
  have e4 : fA (reR r a s) a 4 = s := by
    show reR r a s (56 + 6 * a + 4) = s
    unfold reR
    rw [if_neg (by omega), if_neg (by omega), if_pos rfl]
  have e3 : fA (reR r a s) a 3 = 0 := by
    show reR r a s (56 + 6 * a + 3) = 0
    unfold reR
    rw [if_neg (by omega), if_neg (by omega), if_neg (by omega), if_pos rfl]
  have hq : ∀ k, 0 ≤ k → k < r 1 - 1 → 0 ≤ (if k < plOf r a then k else k + 1) ∧ (if k < plOf r a then k else k + 1) < r 1 ∧ (if k < plOf r a then k else k + 1) ≠ plOf r a := fun k k0 k1 => by split <;> omega
  refine ⟨⟨by rw [e0]; exact b1, by rw [e0, e1]; omega, by rw [e2]; exact b3⟩, ?_, ?_, ?_, ?_, ?_⟩
  · intro b hb0 hb1
    rw [e0] at hb1
    by_cases e : b = a
    · rw [e]
      unfold artOk at ho ⊢
      rw [ea a 0 ha.1 (by omega) (by omega) (by omega), ea a 1 ha.1 (by omega) (by omega) (by omega), ea a 2 ha.1 (by omega) (by omega) (by omega), e3, e4]
      omega
    · exact artOk_of (c1 b hb0 hb1) (fun w w0 w1 => ea b w hb0 w0 w1 (fun q => e q.1))
  · intro t t0 t1
    rw [e2] at t1
    exact shOk_of (c2 t t0 t1) (fun w w0 w1 => re_o (by omega) hb hp.1 (by omega) (by omega) (by omega) (by omega))
  · intro k k0 k1
    rw [e1] at k1
    obtain ⟨g1, g2, g3⟩ := hq k k0 k1
    obtain ⟨q1, q2, q3⟩ := c3 _ g1 g2
    rw [el k k0 k1, e0]
    refine ⟨q1, q2, ?_⟩
    rw [ea _ 4 q1 (by omega) (by omega) (fun q => g3 (c4 _ _ g1 g2 hp.1 hp.2.1 (q.1.trans hp.2.2.symm)))]
    exact q3
  · intro k l k0 k1 l0 l1 e
    rw [e1] at k1 l1
    obtain ⟨g1, g2, g3⟩ := hq k k0 k1
    obtain ⟨f1, f2, f3⟩ := hq l l0 l1
    rw [el k k0 k1, el l l0 l1] at e
    have e5 := c4 _ _ g1 g2 f1 f2 e
    revert e5
    split <;> split <;> intro e5 <;> omega
  · intro b hb0 hb1 hb4
    rw [e0] at hb1
    by_cases e : b = a
    · rw [e, e4] at hb4; omega
    · rw [ea b 4 hb0 (by omega) (by omega) (fun q => e q.1)] at hb4
      obtain ⟨k, k0, k1, k2⟩ := c5 b hb0 hb1 hb4
      have hk : k ≠ plOf r a := fun q => e (by rw [q, hp.2.2] at k2; exact k2.symm)
      by_cases ek : k < plOf r a
      · exact ⟨k, k0, by rw [e1]; omega, by rw [el k k0 (by omega), if_pos ek]; exact k2⟩
      · refine ⟨k - 1, by omega, by rw [e1]; omega, ?_⟩
        rw [el (k - 1) (by omega) (by omega), if_neg (by omega), show k - 1 + 1 = k by omega]
        exact k2
theorem RI_bu {x : Int} (hx : 10 ≤ x ∧ x ≤ 99) : ∀ (n : Nat) (r : Row) (a b : Int), RI r → 0 ≤ a → RI (buZ x n r a b).1 := by
  intro n
  induction n with
  | zero => intro r a b hI _; exact hI
  | succ n ih =>
    intro r a b hI h0
    show RI (if r 0 ≤ a then (r, b) else if fA r a 4 < 0 then buZ x n r (a + 1) b else if burP r a x then buZ x n (goR (scR r (fA r a 0)) a) a (b + 1) else buZ x n (inR r a x) (a + 1) b).1
    by_cases h1 : r 0 ≤ a
    · rw [if_pos h1]; exact hI
    · rw [if_neg h1]
      have ho := hI.2.1 a h0 (by omega)
      unfold artOk at ho
      by_cases h2 : fA r a 4 < 0
      · rw [if_pos h2]; exact ih _ _ _ hI (by omega)
      · rw [if_neg h2]
        by_cases h3 : burP r a x
        · rw [if_pos h3]
          exact ih _ _ _ (RI_go (RI_sc hI (by omega)) h0 (by rw [sc_0 hI]; omega) (by rw [sc_A hI h0 (by omega)]; omega)) h0
        · rw [if_neg h3]
          exact ih _ _ _ (RI_in hI h0 (by omega) (by omega) h3 hx) (by omega)
theorem RI_fi {r : Row} {x : Int} (hI : RI r) (hx : 10 ≤ x ∧ x ≤ 99) : RI (fiR r x) := by
  have h := RI_bu hx (r 0).toNat r 0 0 hI (by omega)
  have b := h.1
  have e : ∀ j, j ≠ 3 → j ≠ 4 → fiR r x j = (buZ x (r 0).toNat r 0 0).1 j := fun j h3 h4 => by
    unfold fiR
    rw [if_neg h3, if_neg h4]
  refine RI_sh h (fun j hj => e j (by omega) (by omega)) (by rw [e 2 (by omega) (by omega)]; omega) (fun s s0 s1 => ?_)
  rw [e 2 (by omega) (by omega)] at s1
  exact shOk_of (h.2.2.1 s s0 s1) (fun w w0 w1 => e _ (by omega) (by omega))
/-! one order of a text -/
def refC (r : Row) (c : Cm) : Rf := if c.1 = 0 then refClay r c.2.1 c.2.2 else if c.1 = 1 then refGlaze r c.2.1 else if c.1 = 2 then refShelve r c.2.1 c.2.2 else if c.1 = 3 then refFire r c.2.1 else if c.1 = 4 then refCite r c.2.1 c.2.2 else if c.1 = 5 then refRatify r c.2.1 else if c.1 = 6 then refRepeal r c.2.1 c.2.2 else refScrap r c.2.1
def efC (r : Row) (c : Cm) : Row := if c.1 = 0 then cmR r c.2.1 c.2.2 else if c.1 = 1 then uA r c.2.1 1 (fA r c.2.1 1 + 1) else if c.1 = 2 then uA r c.2.1 4 c.2.2 else if c.1 = 3 then fiR r c.2.1 else if c.1 = 4 then ciR r c.2.1 c.2.2 else if c.1 = 5 then raR r c.2.1 else if c.1 = 6 then reR r c.2.1 c.2.2 else goR r c.2.1
theorem RI_ef {r : Row} {c : Cm} (hI : RI r) (h : refC r c = none) : RI (efC r c) := by
  unfold refC at h
  unfold efC
  by_cases h0 : c.1 = 0
  · rw [if_pos h0] at h ⊢; have := refClay_n h; exact RI_cm hI this.1 this.2.1 this.2.2.2
  · rw [if_neg h0] at h ⊢
    by_cases h1 : c.1 = 1
    · rw [if_pos h1] at h ⊢; have := refGlaze_n h; exact RI_gl hI this.1 this.2.2
    · rw [if_neg h1] at h ⊢
      by_cases h2 : c.1 = 2
      · rw [if_pos h2] at h ⊢; have := refShelve_n h; exact RI_sv hI this.1 this.2.2.1 this.2.1
      · rw [if_neg h2] at h ⊢
        by_cases h3 : c.1 = 3
        · rw [if_pos h3] at h ⊢; have := refFire_n h; exact RI_fi hI this.1
        · rw [if_neg h3] at h ⊢
          by_cases h4 : c.1 = 4
          · rw [if_pos h4] at h ⊢; have := refCite_n h; exact RI_ci hI this.1 this.2.1 this.2.2.1 this.2.2.2.2
          · rw [if_neg h4] at h ⊢
            by_cases h5 : c.1 = 5
            · rw [if_pos h5] at h ⊢; have := refRatify_n h; exact RI_ra hI this.1 this.2.1 this.2.2.1 this.2.2.2
            · rw [if_neg h5] at h ⊢
              by_cases h6 : c.1 = 6
              · rw [if_pos h6] at h ⊢; have := refRepeal_n h; exact RI_re hI this.1 this.2.2.1 this.2.1
              · rw [if_neg h6] at h ⊢; have := refScrap_n h; exact RI_go hI this.1.1 this.1.2 (by omega)
/-- all orders, one behind the other: the row behind them; which is refused, and why -/
def doL : List Cm → Row → Int → Row × Option (Int × (Int × Int))
  | [], r, _ => (r, none)
  | c :: l, r, k => match refC r c with
    | some p => (r, some (k, p))
    | none => doL l (efC r c) (k + 1)
theorem doL_f {c : Cm} {l : List Cm} {r : Row} {k : Int} {p : Int × Int} (h : refC r c = some p) : doL (c :: l) r k = (r, some (k, p)) := by
  show (match refC r c with | some p => (r, some (k, p)) | none => doL l (efC r c) (k + 1)) = _
  rw [h]
theorem doL_t {c : Cm} {l : List Cm} {r : Row} {k : Int} (h : refC r c = none) : doL (c :: l) r k = doL l (efC r c) (k + 1) := by
  show (match refC r c with | some p => (r, some (k, p)) | none => doL l (efC r c) (k + 1)) = _
  rw [h]
