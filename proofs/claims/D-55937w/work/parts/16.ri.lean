set_option maxRecDepth 100000
/-! the invariant of the row goes through every order -/
theorem go_0 {r : Row} {a : Int} : goR r a 0 = r 0 - 1 := by simp [goR]
theorem go_12 {r : Row} {a i : Int} (h0 : 0 ≤ a) (h1 : a < r 0) (h : 1 ≤ i ∧ i < 12) : goR r a i = r i := by
  unfold goR
  rw [if_neg (by omega), if_neg (by omega), if_neg (by omega), if_neg (by omega)]
theorem go_law {r : Row} {a k : Int} (hk : 0 ≤ k ∧ k < r 1) : goR r a (12 + k) = if a < r (12 + k) then r (12 + k) - 1 else r (12 + k) := by
  unfold goR
  rw [if_neg (by omega), if_pos (by omega)]
theorem go_art {r : Row} {a b w : Int} (h0 : 0 ≤ a) (h1 : a < r 0) (h2 : r 1 ≤ 12) (hb : 0 ≤ b ∧ b < r 0 - 1) (hw : 0 ≤ w ∧ w < 6) : fA (goR r a) b w = fA r (if b < a then b else b + 1) w := by
  unfold fA goR
  rw [if_neg (by omega), if_neg (by omega)]
  by_cases h : b < a
  · rw [if_pos h, if_neg (by omega), if_neg (by omega)]
  · rw [if_neg h, if_pos (by omega)]
    congr 1
    omega
theorem go_sh {r : Row} {a s w : Int} (h0 : 0 ≤ a) (h1 : a < r 0) (h2 : r 1 ≤ 12) (hs : 0 ≤ s ∧ s < 8) (hw : 0 ≤ w ∧ w < 3) : fS (goR r a) s w = fS r s w := by
  unfold fS goR
  rw [if_neg (by omega), if_neg (by omega), if_neg (by omega), if_neg (by omega)]
theorem artOk_of {r r' : Row} {a b : Int} (h : artOk r a) (e : ∀ w, 0 ≤ w → w < 6 → fA r' b w = fA r a w) : artOk r' b := by
  unfold artOk at h ⊢
  rw [e 0 (by omega) (by omega), e 1 (by omega) (by omega), e 2 (by omega) (by omega), e 3 (by omega) (by omega), e 4 (by omega) (by omega)]
  exact h
theorem shOk_of {r r' : Row} {s t : Int} (h : shOk r s) (e : ∀ w, 0 ≤ w → w < 3 → fS r' t w = fS r s w) : shOk r' t := by
  unfold shOk at h ⊢
  rw [e 0 (by omega) (by omega), e 1 (by omega) (by omega)]
  exact h
/-- different numbers below N, none of them a: at most N - 1 of them -/
theorem pigN : ∀ (N : Nat) (n : Nat) (f : Nat → Nat), (∀ i, i < n → f i < N) → (∀ i j, i < n → j < n → f i = f j → i = j) → n ≤ N := by
  intro N
  induction N with
  | zero =>
    intro n f h1 _
    cases n with
    | zero => exact Nat.le_refl _
    | succ n => exact absurd (h1 0 (by omega)) (by omega)
  | succ N ih =>
    intro n f h1 h2
    cases n with
    | zero => omega
    | succ n =>
      -- move the value N away
      have := ih n (fun i => if f i = N then f n else f i) (fun i hi => by
        have a := h1 i (by omega)
        have b := h1 n (by omega)
        split
        · rename_i e
          have : f n ≠ N := fun q => by have := h2 i n (by omega) (by omega) (e.trans q.symm); omega
          omega
        · omega) (fun i j hi hj e => by
        have ni : f i ≠ f n := fun q => by have := h2 i n (by omega) (by omega) q; omega
        have nj : f j ≠ f n := fun q => by have := h2 j n (by omega) (by omega) q; omega
        by_cases a : f i = N
        · by_cases b : f j = N
          · exact h2 i j (by omega) (by omega) (a.trans b.symm)
          · rw [if_pos a, if_neg b] at e; exact absurd e.symm nj
        · by_cases b : f j = N
          · rw [if_neg a, if_pos b] at e; exact absurd e ni
          · rw [if_neg a, if_neg b] at e; exact h2 i j (by omega) (by omega) e)
      omega
theorem pig {r : Row} {N n a : Int} (h4 : ∀ k l, 0 ≤ k → k < n → 0 ≤ l → l < n → r (12 + k) = r (12 + l) → k = l) (h3 : ∀ k, 0 ≤ k → k < n → 0 ≤ r (12 + k) ∧ r (12 + k) < N ∧ r (12 + k) ≠ a) (h0 : 0 ≤ a) (h1 : a < N) (hn : 0 ≤ n) : n ≤ N - 1 := by
  have := pigN N.toNat (n.toNat + 1) (fun i => if i < n.toNat then (r (12 + (i : Int))).toNat else a.toNat) (fun i hi => by
    split
    · have := h3 i (by omega) (by omega); omega
    · omega) (fun i j hi hj e => by
    by_cases a1 : i < n.toNat
    · have t1 := h3 i (by omega) (by omega)
      by_cases b1 : j < n.toNat
      · have t2 := h3 j (by omega) (by omega)
        rw [if_pos a1, if_pos b1] at e
        have := h4 i j (by omega) (by omega) (by omega) (by omega) (by omega)
        omega
      · rw [if_pos a1, if_neg b1] at e; omega
    · by_cases b1 : j < n.toNat
      · have t2 := h3 j (by omega) (by omega)
        rw [if_neg a1, if_pos b1] at e; omega
      · omega)
  omega
theorem RI_go {r : Row} {a : Int} (hI : RI r) (h0 : 0 ≤ a) (h1 : a < r 0) (hl : fA r a 4 ≠ -1) : RI (goR r a) := by
  obtain ⟨⟨b1, b2, b3⟩, c1, c2, c3, c4, c5⟩ := hI
  have e0 : goR r a 0 = r 0 - 1 := go_0
  have e1 : goR r a 1 = r 1 := go_12 h0 h1 (by omega)
  have e2 : goR r a 2 = r 2 := go_12 h0 h1 (by omega)
  have hne : ∀ k, 0 ≤ k → k < r 1 → r (12 + k) ≠ a := fun k k0 k1 e => hl (by have := (c3 k k0 k1).2.2; rwa [e] at this)
  have hlt : r 1 ≤ r 0 - 1 := by
    -- as many laws as articles would make a one of them: by counting; here by the laws' places
    by_cases hq : r 1 ≤ r 0 - 1
    · exact hq
    · exfalso
      exact absurd (pig c4 (fun k k0 k1 => ⟨(c3 k k0 k1).1, (c3 k k0 k1).2.1, hne k k0 k1⟩) h0 h1 b2.1) (by omega)
  refine ⟨⟨by rw [e0]; omega, by rw [e0, e1]; omega, by rw [e2]; exact b3⟩, ?_, ?_, ?_, ?_, ?_⟩
  · intro b hb0 hb1
    rw [e0] at hb1
    exact artOk_of (c1 (if b < a then b else b + 1) (by split <;> omega) (by split <;> omega)) (fun w w0 w1 => go_art h0 h1 (by omega) ⟨hb0, hb1⟩ ⟨w0, w1⟩)
  · intro s s0 s1
    rw [e2] at s1
    exact shOk_of (c2 s s0 s1) (fun w w0 w1 => go_sh h0 h1 (by omega) (by omega) ⟨w0, w1⟩)
  · intro k k0 k1
    rw [e1] at k1
    have := hne k k0 k1
    obtain ⟨q1, q2, q3⟩ := c3 k k0 k1
    rw [go_law ⟨k0, k1⟩, e0]
    by_cases h : a < r (12 + k)
    · rw [if_pos h]
      refine ⟨by omega, by omega, ?_⟩
      rw [go_art h0 h1 (by omega) (by omega) (by omega), if_neg (by omega), show r (12 + k) - 1 + 1 = r (12 + k) by omega]
      exact q3
    · rw [if_neg h]
      refine ⟨by omega, by omega, ?_⟩
      rw [go_art h0 h1 (by omega) (by omega) (by omega), if_pos (by omega)]
      exact q3
  · intro k l k0 k1 l0 l1 e
    rw [e1] at k1 l1
    have n1 := hne k k0 k1
    have n2 := hne l l0 l1
    rw [go_law ⟨k0, k1⟩, go_law ⟨l0, l1⟩] at e
    refine c4 k l k0 k1 l0 l1 ?_
    revert e
    (repeat' split) <;> omega
  · intro b hb0 hb1 hb4
    rw [e0] at hb1
    rw [go_art h0 h1 (by omega) ⟨hb0, hb1⟩ (by omega)] at hb4
    obtain ⟨k, k0, k1, k2⟩ := c5 _ (by split <;> omega) (by split <;> omega) hb4
    refine ⟨k, k0, by rw [e1]; exact k1, ?_⟩
    rw [go_law ⟨k0, k1⟩, k2]
    (repeat' split) <;> omega
/-- a change of one article that is, and stays, as much a law as it was -/
theorem RI_art {r r' : Row} {a : Int} (hI : RI r) (h0 : 0 ≤ a) (h1 : a < r 0) (hd : ∀ j, j < 56 + 6 * a ∨ 56 + 6 * a + 6 ≤ j → j ≠ 3 ∧ j ≠ 4 ∧ j ≠ 5 ∧ j ≠ 6 ∧ j ≠ 7 ∧ j ≠ 8 ∧ j ≠ 9 → r' j = r j) (ho : artOk r' a) (hl : fA r' a 4 = -1 ↔ fA r a 4 = -1) : RI r' := by
  obtain ⟨⟨b1, b2, b3⟩, c1, c2, c3, c4, c5⟩ := hI
  have e0 : r' 0 = r 0 := hd 0 (by omega) (by omega)
  have e1 : r' 1 = r 1 := hd 1 (by omega) (by omega)
  have e2 : r' 2 = r 2 := hd 2 (by omega) (by omega)
  have el : ∀ k, 0 ≤ k → k < r 1 → r' (12 + k) = r (12 + k) := fun k k0 k1 => hd _ (by omega) (by omega)
  have ea : ∀ b w, 0 ≤ b → b ≠ a → 0 ≤ w → w < 6 → fA r' b w = fA r b w := fun b w b0 bn w0 w1 => hd _ (by omega) (by omega)
  refine ⟨⟨by rw [e0]; exact b1, by rw [e0, e1]; exact b2, by rw [e2]; exact b3⟩, ?_, ?_, ?_, ?_, ?_⟩
  · intro b hb0 hb1
    rw [e0] at hb1
    by_cases e : b = a
    · rw [e]; exact ho
    · exact artOk_of (c1 b hb0 hb1) (fun w w0 w1 => ea b w hb0 e w0 w1)
  · intro s s0 s1
    rw [e2] at s1
    exact shOk_of (c2 s s0 s1) (fun w w0 w1 => hd _ (by omega) (by omega))
  · intro k k0 k1
    rw [e1] at k1
    obtain ⟨q1, q2, q3⟩ := c3 k k0 k1
    rw [el k k0 k1, e0]
    refine ⟨q1, q2, ?_⟩
    by_cases e : r (12 + k) = a
    · rw [e] at q3 ⊢; exact hl.mpr q3
    · rw [ea _ 4 q1 e (by omega) (by omega)]; exact q3
  · intro k l k0 k1 l0 l1 e
    rw [e1] at k1 l1
    rw [el k k0 k1, el l l0 l1] at e
    exact c4 k l k0 k1 l0 l1 e
  · intro b hb0 hb1 hb4
    rw [e0] at hb1
    have hb5 : fA r b 4 = -1 := by
      by_cases e : b = a
      · rw [e] at hb4 ⊢; exact hl.mp hb4
      · rw [← ea b 4 hb0 e (by omega) (by omega)]; exact hb4
    obtain ⟨k, k0, k1, k2⟩ := c5 b hb0 hb1 hb5
    exact ⟨k, k0, by rw [e1]; exact k1, by rw [el k k0 k1]; exact k2⟩
/-- a change of shards and counters alone -/
theorem RI_sh {r r' : Row} (hI : RI r) (hd : ∀ j, (j = 0 ∨ j = 1 ∨ (12 ≤ j ∧ j < 26) ∨ 56 ≤ j) → r' j = r j) (h2 : 0 ≤ r' 2 ∧ r' 2 ≤ 8) (hs : ∀ s, 0 ≤ s → s < r' 2 → shOk r' s) : RI r' := by
  obtain ⟨⟨b1, b2, b3⟩, c1, c2, c3, c4, c5⟩ := hI
  have e0 : r' 0 = r 0 := hd 0 (by omega)
  have e1 : r' 1 = r 1 := hd 1 (by omega)
  have ea : ∀ b w, 0 ≤ b → 0 ≤ w → fA r' b w = fA r b w := fun b w b0 w0 => hd _ (by omega)
  have el : ∀ k, 0 ≤ k → k < r 1 → r' (12 + k) = r (12 + k) := fun k k0 k1 => hd _ (by omega)
  refine ⟨⟨by rw [e0]; exact b1, by rw [e0, e1]; exact b2, h2⟩, ?_, hs, ?_, ?_, ?_⟩
  · intro b hb0 hb1
    rw [e0] at hb1
    exact artOk_of (c1 b hb0 hb1) (fun w w0 w1 => ea b w hb0 w0)
  · intro k k0 k1
    rw [e1] at k1
    obtain ⟨q1, q2, q3⟩ := c3 k k0 k1
    rw [el k k0 k1, e0, ea _ 4 q1 (by omega)]
    exact ⟨q1, q2, q3⟩
  · intro k l k0 k1 l0 l1 e
    rw [e1] at k1 l1
    rw [el k k0 k1, el l l0 l1] at e
    exact c4 k l k0 k1 l0 l1 e
  · intro b hb0 hb1 hb4
    rw [e0] at hb1
    rw [ea b 4 hb0 (by omega)] at hb4
    obtain ⟨k, k0, k1, k2⟩ := c5 b hb0 hb1 hb4
    exact ⟨k, k0, by rw [e1]; exact k1, by rw [el k k0 k1]; exact k2⟩
theorem sg_fS {r : Row} {s t w : Int} (hs : 0 ≤ s ∧ s < r 2) (h8 : r 2 ≤ 8) (ht : 0 ≤ t ∧ t < r 2 - 1) (hw : 0 ≤ w ∧ w < 3) : fS (sgR r s) t w = fS r (if t < s then t else t + 1) w := by
  unfold fS sgR
  rw [if_neg (by omega), if_neg (by omega)]
  by_cases h : t < s
  · rw [if_pos h, if_neg (by omega), if_neg (by omega)]
  · rw [if_neg h, if_pos (by omega)]
    congr 1
    omega
theorem sg_o {r : Row} {s j : Int} (hs : 0 ≤ s ∧ s < r 2) (h8 : r 2 ≤ 8) (hj : j < 26 ∨ 50 ≤ j) (h2 : j ≠ 2) (h7 : j ≠ 7) : sgR r s j = r j := by
  unfold sgR
  rw [if_neg h2, if_neg h7, if_neg (by omega), if_neg (by omega)]
theorem sg_2 {r : Row} {s : Int} : sgR r s 2 = r 2 - 1 := by simp [sgR]
theorem RI_sg {r : Row} {s : Int} (hI : RI r) (hs : 0 ≤ s ∧ s < r 2) : RI (sgR r s) := by
  have b := hI.1
  refine RI_sh hI (fun j hj => sg_o hs (by omega) (by omega) (by omega) (by omega)) (by rw [sg_2]; omega) (fun t t0 t1 => ?_)
  rw [sg_2] at t1
  exact shOk_of (hI.2.2.1 (if t < s then t else t + 1) (by split <;> omega) (by split <;> omega)) (fun w w0 w1 => sg_fS hs (by omega) ⟨t0, t1⟩ ⟨w0, w1⟩)
theorem RI_sc1 {r : Row} (hI : RI r) : RI (sc1 r) ∧ sc1 r 2 ≤ 7 := by
  have b := hI.1
  by_cases h : r 2 = 8
  · rw [show sc1 r = sgR r 0 from if_pos h]
    exact ⟨RI_sg hI (by omega), by rw [sg_2]; omega⟩
  · rw [show sc1 r = r from if_neg h]
    exact ⟨hI, by omega⟩
theorem sc1_o {r : Row} {j : Int} (hI : RI r) (hj : j < 26 ∨ 50 ≤ j) (h2 : j ≠ 2) (h7 : j ≠ 7) : sc1 r j = r j := by
  have b := hI.1
  by_cases h : r 2 = 8
  · rw [show sc1 r = sgR r 0 from if_pos h]
    exact sg_o (by omega) (by omega) hj h2 h7
  · rw [show sc1 r = r from if_neg h]
theorem sc_o {r : Row} {c j : Int} (hI : RI r) (hj : j < 26 ∨ 50 ≤ j) (h2 : j ≠ 2) (h7 : j ≠ 7) : scR r c j = r j := by
  have b := (RI_sc1 hI).1.1
  have b2 := (RI_sc1 hI).2
  unfold scR
  rw [if_neg h2, if_neg (by omega), if_neg (by omega), if_neg (by omega)]
  exact sc1_o hI hj h2 h7
theorem sc_2 {r : Row} {c : Int} : scR r c 2 = sc1 r 2 + 1 := by simp [scR]
theorem RI_sc {r : Row} {c : Int} (hI : RI r) (hc : 1 ≤ c ∧ c ≤ 9) : RI (scR r c) := by
  have b := (RI_sc1 hI).1.1
  have b2 := (RI_sc1 hI).2
  refine RI_sh hI (fun j hj => sc_o hI (by omega) (by omega) (by omega)) (by rw [sc_2]; omega) (fun t t0 t1 => ?_)
  rw [sc_2] at t1
  by_cases e : t < sc1 r 2
  · refine shOk_of ((RI_sc1 hI).1.2.2.1 t t0 e) (fun w w0 w1 => ?_)
    unfold fS scR
    rw [if_neg (by omega), if_neg (by omega), if_neg (by omega), if_neg (by omega)]
  · have et : t = sc1 r 2 := by omega
    unfold shOk fS scR
    rw [if_neg (by omega), if_pos (by omega), if_neg (by omega), if_neg (by omega), if_pos (by omega)]
    omega
/-- an article is in a session -/
def inR (r : Row) (a x : Int) : Row := fun j => if j = 56 + 6 * a + 1 then (if firP r a x ∧ 0 < fA r a 1 then fA r a 1 - 1 else fA r a 1) else if j = 56 + 6 * a + 2 then fA r a 2 + crZ r a x else if j = 56 + 6 * a + 3 then (if firP r a x then 1 else fA r a 3) else if j = 56 + 6 * a + 5 then nz (fA r a 5 + 1) else r j
theorem RI_in {r : Row} {a x : Int} (hI : RI r) (h0 : 0 ≤ a) (h1 : a < r 0) (hl : 0 ≤ fA r a 4) (hb : ¬ burP r a x) (hx : 10 ≤ x ∧ x ≤ 99) : RI (inR r a x) := by
  have ho := hI.2.1 a h0 h1
  have hc := cr_in ho hx
  have e0 : fA (inR r a x) a 0 = fA r a 0 := by
    unfold fA inR; rw [if_neg (by omega), if_neg (by omega), if_neg (by omega), if_neg (by omega)]
  have e1 : fA (inR r a x) a 1 = if firP r a x ∧ 0 < fA r a 1 then fA r a 1 - 1 else fA r a 1 := by
    show inR r a x (56 + 6 * a + 1) = _
    unfold inR; rw [if_pos rfl]
  have e2 : fA (inR r a x) a 2 = fA r a 2 + crZ r a x := by
    show inR r a x (56 + 6 * a + 2) = _
    unfold inR; rw [if_neg (by omega), if_pos rfl]
  have e3 : fA (inR r a x) a 3 = if firP r a x then 1 else fA r a 3 := by
    show inR r a x (56 + 6 * a + 3) = _
    unfold inR; rw [if_neg (by omega), if_neg (by omega), if_pos rfl]
  have e4 : fA (inR r a x) a 4 = fA r a 4 := by
    show inR r a x (56 + 6 * a + 4) = r (56 + 6 * a + 4)
    unfold inR; rw [if_neg (by omega), if_neg (by omega), if_neg (by omega), if_neg (by omega)]
  refine RI_art hI h0 h1 (fun j hj _ => ?_) ?_ (by rw [e4])
  · unfold inR; rw [if_neg (by omega), if_neg (by omega), if_neg (by omega), if_neg (by omega)]
  · unfold artOk at ho ⊢
    rw [e0, e1, e2, e3, e4]
    refine ⟨by omega, by split <;> omega, by omega, by split <;> omega, by omega, by omega⟩
/-- a session, from the article a on: the row behind it, how many burst -/
def buZ (x : Int) : Nat → Row → Int → Int → Row × Int
  | 0, r, _, b => (r, b)
  | n + 1, r, a, b => if r 0 ≤ a then (r, b) else if fA r a 4 < 0 then buZ x n r (a + 1) b else if burP r a x then buZ x n (goR (scR r (fA r a 0)) a) a (b + 1) else buZ x n (inR r a x) (a + 1) b
def fiR (r : Row) (x : Int) : Row := fun j => if j = 3 then nz ((buZ x (r 0).toNat r 0 0).1 3 + 1) else if j = 4 then nz ((buZ x (r 0).toNat r 0 0).1 4 + (buZ x (r 0).toNat r 0 0).2) else (buZ x (r 0).toNat r 0 0).1 j
theorem sc_0 {r : Row} {c : Int} (hI : RI r) : scR r c 0 = r 0 := sc_o hI (by omega) (by omega) (by omega)
theorem buZ_e {x : Int} {r : Row} {a b : Int} (h : r 0 ≤ a) : buZ x (r 0 - a).toNat r a b = (r, b) := by
  rw [show (r 0 - a).toNat = 0 by omega]; rfl
theorem buZ_1 {x : Int} {r : Row} {a b : Int} (h : a < r 0) (hl : fA r a 4 < 0) : buZ x (r 0 - a).toNat r a b = buZ x (r 0 - (a + 1)).toNat r (a + 1) b := by
  rw [show (r 0 - a).toNat = (r 0 - (a + 1)).toNat + 1 by omega]
  show (if r 0 ≤ a then _ else if fA r a 4 < 0 then _ else _) = _
  rw [if_neg (by omega), if_pos hl]
theorem buZ_2 {x : Int} {r : Row} {a b : Int} (hI : RI r) (h0 : 0 ≤ a) (h : a < r 0) (hl : ¬ fA r a 4 < 0) (hb : burP r a x) : buZ x (r 0 - a).toNat r a b = buZ x (goR (scR r (fA r a 0)) a 0 - a).toNat (goR (scR r (fA r a 0)) a) a (b + 1) := by
  rw [go_0, sc_0 hI, show (r 0 - a).toNat = (r 0 - 1 - a).toNat + 1 by omega]
  show (if r 0 ≤ a then _ else if fA r a 4 < 0 then _ else if burP r a x then _ else _) = _
  rw [if_neg (by omega), if_neg hl, if_pos hb]
theorem in_0 {r : Row} {a x : Int} (h0 : 0 ≤ a) : inR r a x 0 = r 0 := by
  unfold inR; rw [if_neg (by omega), if_neg (by omega), if_neg (by omega), if_neg (by omega)]
theorem buZ_3 {x : Int} {r : Row} {a b : Int} (h0 : 0 ≤ a) (h : a < r 0) (hl : ¬ fA r a 4 < 0) (hb : ¬ burP r a x) : buZ x (r 0 - a).toNat r a b = buZ x (inR r a x 0 - (a + 1)).toNat (inR r a x) (a + 1) b := by
  rw [in_0 h0, show (r 0 - a).toNat = (r 0 - (a + 1)).toNat + 1 by omega]
  show (if r 0 ≤ a then _ else if fA r a 4 < 0 then _ else if burP r a x then _ else _) = _
  rw [if_neg (by omega), if_neg hl, if_neg hb]
theorem sc_A {r : Row} {c a w : Int} (hI : RI r) (h0 : 0 ≤ a) (hw : 0 ≤ w) : fA (scR r c) a w = fA r a w := sc_o hI (by omega) (by omega) (by omega)
theorem RI_ci {r : Row} {s a : Int} (hI : RI r) (hs : 0 ≤ s ∧ s < r 2) (ha : 0 ≤ a ∧ a < r 0) (hl : 0 ≤ fA r a 4) (hp : apt r s a ≤ 2) : RI (ciR r s a) := by
  have b := hI.1
  have ho := hI.2.1 a ha.1 ha.2
  have hso := hI.2.2.1 s hs.1 hs.2
  have hn : 0 ≤ ciN r s a ∧ ciN r s a ≤ fA r a 2 := by
    unfold artOk at ho
    unfold ciN leZ
    split <;> omega
  have e2 : fA (uA r a 2 (fA r a 2 - ciN r s a)) a 2 = fA r a 2 - ciN r s a := by
    unfold fA uA uR; rw [if_pos rfl]
  have eo : ∀ w, 0 ≤ w → w < 6 → w ≠ 2 → fA (uA r a 2 (fA r a 2 - ciN r s a)) a w = fA r a w := fun w w0 w1 w2 => by
    show uA _ _ _ _ _ = _
    unfold uA uR; rw [if_neg (by omega)]; rfl
  have h1 : RI (uA r a 2 (fA r a 2 - ciN r s a)) := by
    refine RI_art hI ha.1 ha.2 (fun j hj _ => ?_) ?_ (by rw [eo 4 (by omega) (by omega) (by omega)])
    · unfold uA uR; rw [if_neg (by omega)]
    · unfold artOk at ho ⊢
      rw [eo 0 (by omega) (by omega) (by omega), eo 1 (by omega) (by omega) (by omega), e2, eo 3 (by omega) (by omega) (by omega), eo 4 (by omega) (by omega) (by omega)]
      omega
  have ec : ∀ j, (j < 26 ∨ 50 ≤ j) → j ≠ 5 → j ≠ 6 → ci1 r s a j = uA r a 2 (fA r a 2 - ciN r s a) j := fun j j0 j1 j2 => by
    unfold ci1 uA uR
    rw [if_neg j1, if_neg j2]
    by_cases e : j = 56 + 6 * a + 2
    · rw [if_pos e, if_pos e]
    · rw [if_neg e, if_neg e, if_neg (by omega)]
  have c2 : ci1 r s a 2 = r 2 := by
    rw [ec 2 (by omega) (by omega) (by omega)]; unfold uA uR; rw [if_neg (by omega)]
  have es : ∀ t w, 0 ≤ t → t < r 2 → 0 ≤ w → w < 3 → fS (ci1 r s a) t w = if t = s ∧ w = 1 then fS r s 1 - 1 else fS r t w := fun t w t0 t1 w0 w1 => by
    unfold fS ci1
    rw [if_neg (by omega), if_neg (by omega), if_neg (by omega)]
    by_cases e : 26 + 3 * t + w = 26 + 3 * s + 1
    · rw [if_pos e, if_pos (by omega)]; rfl
    · rw [if_neg e, if_neg (by omega)]
  by_cases hu : fS r s 1 = 1
  · rw [show ciR r s a = sgR (ci1 r s a) s from if_pos hu]
    refine RI_sh h1 (fun j hj => ?_) (by rw [sg_2, c2]; omega) (fun t t0 t1 => ?_)
    · rw [sg_o (by rw [c2]; exact hs) (by rw [c2]; omega) (by omega) (by omega) (by omega)]
      exact ec j (by omega) (by omega) (by omega)
    · rw [sg_2, c2] at t1
      refine shOk_of (hI.2.2.1 (if t < s then t else t + 1) (by split <;> omega) (by split <;> omega)) (fun w w0 w1 => ?_)
      rw [sg_fS (by rw [c2]; exact hs) (by rw [c2]; omega) (by rw [c2]; exact ⟨t0, t1⟩) ⟨w0, w1⟩, es _ w (by split <;> omega) (by split <;> omega) w0 w1, if_neg]
      (repeat' split) <;> omega
  · rw [show ciR r s a = ci1 r s a from if_neg hu]
    refine RI_sh h1 (fun j hj => ec j (by omega) (by omega) (by omega)) (by rw [c2]; omega) (fun t t0 t1 => ?_)
    rw [c2] at t1
    have hto := hI.2.2.1 t t0 t1
    unfold shOk at hto hso ⊢
    rw [es t 0 t0 t1 (by omega) (by omega), es t 1 t0 t1 (by omega) (by omega), if_neg (by omega)]
    refine ⟨hto.1, ?_⟩
    split <;> omega
theorem ci1_2 {r : Row} {s a : Int} (hs : 0 ≤ s) (ha : 0 ≤ a) : ci1 r s a 2 = r 2 := by
  unfold ci1
  rw [if_neg (by omega), if_neg (by omega), if_neg (by omega), if_neg (by omega)]
theorem ci1_u {r : Row} {s a : Int} (hs : 0 ≤ s ∧ s < 8) (ha : 0 ≤ a) : fS (ci1 r s a) s 1 = fS r s 1 - 1 := by
  unfold fS ci1
  rw [if_neg (by omega), if_neg (by omega), if_neg (by omega), if_pos rfl]
  rfl
theorem rf_cases (o : Rf) : o = none ∨ ∃ p : Int × Int, o = some p := by
  cases o with
  | none => exact Or.inl rfl
  | some p => exact Or.inr ⟨p, rfl⟩
theorem refClay_n {r : Row} {c s : Int} (h : refClay r c s = none) : (1 ≤ c ∧ c ≤ 9) ∧ (0 ≤ s ∧ s ≤ 2) ∧ onSh r s ≠ 4 ∧ r 0 ≠ 12 := by
  unfold refClay at h
  (repeat' split at h) <;> first | (cases h; done) | (refine ⟨?_, ?_, ?_, ?_⟩ <;> omega)
theorem refGlaze_n {r : Row} {a : Int} (h : refGlaze r a = none) : (0 ≤ a ∧ a < r 0) ∧ 0 ≤ fA r a 4 ∧ fA r a 1 ≠ 4 := by
  unfold refGlaze at h
  (repeat' split at h) <;> first | (cases h; done) | (refine ⟨?_, ?_, ?_⟩ <;> omega)
theorem refShelve_n {r : Row} {a s : Int} (h : refShelve r a s = none) : (0 ≤ a ∧ a < r 0) ∧ (0 ≤ s ∧ s ≤ 2) ∧ 0 ≤ fA r a 4 ∧ fA r a 4 ≠ s ∧ onSh r s ≠ 4 := by
  unfold refShelve at h
  (repeat' split at h) <;> first | (cases h; done) | (refine ⟨?_, ?_, ?_, ?_, ?_⟩ <;> omega)
theorem refFire_n {r : Row} {x : Int} (h : refFire r x = none) : (10 ≤ x ∧ x ≤ 99) ∧ r 1 ≠ r 0 := by
  unfold refFire at h
  (repeat' split at h) <;> first | (cases h; done) | (refine ⟨?_, ?_⟩ <;> omega)
theorem refCite_n {r : Row} {s a : Int} (h : refCite r s a = none) : (0 ≤ s ∧ s < r 2) ∧ (0 ≤ a ∧ a < r 0) ∧ 0 ≤ fA r a 4 ∧ fA r a 2 ≠ 0 ∧ apt r s a ≤ 2 := by
  unfold refCite at h
  (repeat' split at h) <;> first | (cases h; done) | (refine ⟨?_, ?_, ?_, ?_, ?_⟩ <;> omega)
theorem refRatify_n {r : Row} {a : Int} (h : refRatify r a = none) : (0 ≤ a ∧ a < r 0) ∧ 0 ≤ fA r a 4 ∧ fA r a 3 ≠ 0 ∧ fA r a 2 ≤ 0 := by
  unfold refRatify at h
  (repeat' split at h) <;> first | (cases h; done) | (refine ⟨?_, ?_, ?_, ?_⟩ <;> omega)
theorem refRepeal_n {r : Row} {a s : Int} (h : refRepeal r a s = none) : (0 ≤ a ∧ a < r 0) ∧ (0 ≤ s ∧ s ≤ 2) ∧ fA r a 4 < 0 ∧ onSh r s ≠ 4 := by
  unfold refRepeal at h
  (repeat' split at h) <;> first | (cases h; done) | (refine ⟨?_, ?_, ?_, ?_⟩ <;> omega)
theorem refScrap_n {r : Row} {a : Int} (h : refScrap r a = none) : (0 ≤ a ∧ a < r 0) ∧ 0 ≤ fA r a 4 := by
  unfold refScrap at h
  (repeat' split at h) <;> first | (cases h; done) | (refine ⟨?_, ?_⟩ <;> omega)
/-- a law's place in the charter -/
theorem pl_law {r : Row} {a : Int} (hI : RI r) (ha : 0 ≤ a ∧ a < r 0) (hl : fA r a 4 < 0) : 0 ≤ plOf r a ∧ plOf r a < r 1 ∧ r (12 + plOf r a) = a := by
  have ho := hI.2.1 a ha.1 ha.2
  unfold artOk at ho
  obtain ⟨k, k0, k1, k2⟩ := hI.2.2.2.2.2 a ha.1 ha.2 (by omega)
  rcases fnd_r (p := fun k => r (12 + k) = a) (r 1).toNat 0 (by omega) with ⟨h1, h2⟩ | ⟨h1, h2, h3, h4⟩
  · exact absurd k2 (h2 k k0 (by omega))
  · exact ⟨h1, by unfold plOf fnd; omega, h3⟩
theorem bu_in {x : Int} : ∀ (n : Nat) (r : Row) (a b : Int), b ≤ (buZ x n r a b).2 ∧ (buZ x n r a b).2 ≤ b + n := by
  intro n
  induction n with
  | zero => intro r a b; exact ⟨Int.le_refl _, by show b ≤ b + 0; omega⟩
  | succ n ih =>
    intro r a b
    show b ≤ (if r 0 ≤ a then (r, b) else if fA r a 4 < 0 then buZ x n r (a + 1) b else if burP r a x then buZ x n (goR (scR r (fA r a 0)) a) a (b + 1) else buZ x n (inR r a x) (a + 1) b).2 ∧ (if r 0 ≤ a then (r, b) else if fA r a 4 < 0 then buZ x n r (a + 1) b else if burP r a x then buZ x n (goR (scR r (fA r a 0)) a) a (b + 1) else buZ x n (inR r a x) (a + 1) b).2 ≤ b + ((n + 1 : Nat) : Int)
    (repeat' split)
    · exact ⟨Int.le_refl _, by show b ≤ _; omega⟩
    · have := ih r (a + 1) b; omega
    · have := ih (goR (scR r (fA r a 0)) a) a (b + 1); omega
    · have := ih (inR r a x) (a + 1) b; omega
