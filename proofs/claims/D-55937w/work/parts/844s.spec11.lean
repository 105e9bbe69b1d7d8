set_option maxRecDepth 100000
theorem bg_k {T : TM} {k : Nat} (h1 : k ≠ 1) (h5 : k ≠ 5) : bgT T k = T k := by
  funext j
  unfold bgT cpT
  rw [cpN_k h1, sT_k h5]
theorem bg_1 {T : TM} {j : Int} (h : 0 ≤ j ∧ j < 140) : bgT T 1 j = T 0 j := by
  unfold bgT cpT cpN
  rw [if_pos ⟨rfl, by omega, by omega⟩, sT_k (by decide)]
  congr 1
  omega
theorem kp_cong {T T' : TM} (h1 : T 1 = T' 1) (h4 : T 4 = T' 4) (h6 : T 6 0 = T' 6 0) : kpT T 4 = kpT T' 4 ∧ kpT T 6 0 = kpT T' 6 0 := by
  have e1 : kp1 T 1 = kp1 T' 1 ∧ kp1 T 4 = kp1 T' 4 ∧ kp1 T 6 0 = kp1 T' 6 0 := by
    unfold kp1
    by_cases q : T 6 0 = 8
    · rw [if_pos q, if_pos (h6 ▸ q)]
      refine ⟨?_, ?_, ?_⟩
      · funext j; rw [sT_k (by decide), sT_k (by decide), cpN_k (by decide), cpN_k (by decide), h1]
      · funext j; rw [sT_k (by decide), sT_k (by decide)]; unfold cpN; rw [h4]
      · rw [sT_s, sT_s, h6]
    · rw [if_neg q, if_neg (h6 ▸ q)]
      exact ⟨h1, h4, h6⟩
  obtain ⟨e1, e4, e6⟩ := e1
  constructor
  · funext j
    unfold kpT
    rw [sT_k (by decide), sT_k (by decide)]
    unfold cpT cpN
    rw [e1, e4, e6]
  · unfold kpT
    rw [sT_s, sT_s, e6]
theorem kp_k {T : TM} {k : Nat} (h4 : k ≠ 4) (h6 : k ≠ 6) : kpT T k = T k := by
  have e : kp1 T k = T k := by
    unfold kp1
    split
    · funext j; rw [sT_k h6, cpN_k h4]
    · rfl
  funext j
  unfold kpT cpT
  rw [sT_k h6, cpN_k h4, e]
theorem go_out {r : Row} {a j : Int} (h0 : 0 ≤ a) (h1 : a < r 0) (h2 : r 0 ≤ 12) (h3 : r 1 ≤ 12) (hj : ¬ (0 ≤ j ∧ j < 140)) : goR r a j = r j := by
  unfold goR
  rw [if_neg (by omega), if_neg (by omega), if_neg (by omega), if_neg (by omega)]
theorem bu_out {x j : Int} (hx : 10 ≤ x ∧ x ≤ 99) (hj : ¬ (0 ≤ j ∧ j < 140)) : ∀ (n : Nat) (r : Row) (a b : Int), RI r → 0 ≤ a → (buZ x n r a b).1 j = r j := by
  intro n
  induction n with
  | zero => intro r a b hI _; rfl
  | succ n ih =>
    intro r a b hI h0
    have hb := hI.1
    show (if r 0 ≤ a then (r, b) else if fA r a 4 < 0 then buZ x n r (a + 1) b else if burP r a x then buZ x n (goR (scR r (fA r a 0)) a) a (b + 1) else buZ x n (inR r a x) (a + 1) b).1 j = _
    by_cases h1 : r 0 ≤ a
    · rw [if_pos h1]
    · rw [if_neg h1]
      have ho := hI.2.1 a h0 (by omega)
      unfold artOk at ho
      by_cases h2 : fA r a 4 < 0
      · rw [if_pos h2]; exact ih _ _ _ hI (by omega)
      · rw [if_neg h2]
        by_cases h3 : burP r a x
        · rw [if_pos h3]
          have hs := RI_sc (c := fA r a 0) hI (by omega)
          have hsb := hs.1
          rw [ih _ _ _ (RI_go hs h0 (by rw [sc_0 hI]; omega) (by rw [sc_A hI h0 (by omega)]; omega)) h0, go_out h0 (by rw [sc_0 hI]; omega) (by omega) (by omega) hj]
          exact sc_o hI (by omega) (by omega) (by omega)
        · rw [if_neg h3, ih _ _ _ (RI_in hI h0 (by omega) (by omega) h3 hx) (by omega)]
          unfold inR
          rw [if_neg (by omega), if_neg (by omega), if_neg (by omega), if_neg (by omega)]
theorem ef_out {r : Row} {c : Cm} (hI : RI r) (h : refC r c = none) {j : Int} (hj : ¬ (0 ≤ j ∧ j < 140)) : efC r c j = r j := by
  have hb := hI.1
  unfold refC at h
  unfold efC
  by_cases h0 : c.1 = 0
  · rw [if_pos h0] at h ⊢; have := refClay_n h
    unfold cmR; rw [if_neg (by omega), if_neg (by omega), if_neg (by omega), if_neg (by omega)]
  · rw [if_neg h0] at h ⊢
    by_cases h1 : c.1 = 1
    · rw [if_pos h1] at h ⊢; have := refGlaze_n h; exact uA_o (by omega)
    · rw [if_neg h1] at h ⊢
      by_cases h2 : c.1 = 2
      · rw [if_pos h2] at h ⊢; have := refShelve_n h; exact uA_o (by omega)
      · rw [if_neg h2] at h ⊢
        by_cases h3 : c.1 = 3
        · rw [if_pos h3] at h ⊢; have := refFire_n h
          unfold fiR; rw [if_neg (by omega), if_neg (by omega)]
          exact bu_out this.1 hj _ _ _ _ hI (by omega)
        · rw [if_neg h3] at h ⊢
          by_cases h4 : c.1 = 4
          · rw [if_pos h4] at h ⊢; have := refCite_n h
            exact ci_o this.1 (by omega) (by omega) (by omega) (by omega) (by omega) (by omega) (by omega) (by omega)
          · rw [if_neg h4] at h ⊢
            by_cases h5 : c.1 = 5
            · rw [if_pos h5] at h ⊢; have := refRatify_n h; exact ra_o (by omega) (by omega) (by omega) (by omega)
            · rw [if_neg h5] at h ⊢
              by_cases h6 : c.1 = 6
              · rw [if_pos h6] at h ⊢; have := refRepeal_n h; have hp := pl_law hI this.1 this.2.2.1
                exact re_o (by omega) (by omega) hp.1 (by omega) (by omega) (by omega) (by omega)
              · rw [if_neg h6] at h ⊢; have := refScrap_n h; exact go_out this.1.1 this.1.2 (by omega) (by omega) hj
theorem rdS_7 {tx : Row} {n : Int} : ∀ (f : Nat) (p : Int) (l : List Cm), p ≤ n → (∀ c ∈ l, (0 ≤ c.1 ∧ c.1 ≤ 7) ∧ (0 ≤ c.2.1 ∧ c.2.1 ≤ 99) ∧ (0 ≤ c.2.2 ∧ c.2.2 ≤ 99)) → (∀ c ∈ (rdS tx n f p l).1, (0 ≤ c.1 ∧ c.1 ≤ 7) ∧ (0 ≤ c.2.1 ∧ c.2.1 ≤ 99) ∧ (0 ≤ c.2.2 ∧ c.2.2 ≤ 99)) ∧ (rdS tx n f p l).1.length ≤ l.length + f := by
  intro f
  induction f with
  | zero => intro p l hp hl; exact ⟨hl, Nat.le_refl _⟩
  | succ f ih =>
    intro p l hp hl
    have ho := or_in (tx := tx) hp
    have hl2 : ∀ c ∈ l ++ [orO tx n p], (0 ≤ c.1 ∧ c.1 ≤ 7) ∧ (0 ≤ c.2.1 ∧ c.2.1 ≤ 99) ∧ (0 ≤ c.2.2 ∧ c.2.2 ≤ 99) := by
      intro c hc
      rcases List.mem_append.mp hc with h | h
      · exact hl c h
      · rw [List.mem_singleton.mp h]
        exact ⟨ho.1.1, ⟨ho.2.1.1, ho.2.1.2.1⟩, ⟨ho.2.2.1, ho.2.2.2.1⟩⟩
    by_cases h1 : (orD tx n p).2.2 = 1
    · rw [rd_w rfl (by omega) h1]; exact ⟨hl, by show l.length ≤ _; omega⟩
    · by_cases h2 : (orD tx n p).2.1 < n ∧ tx (orD tx n p).2.1 = 59
      · rw [rd_t rfl (by omega) (by omega) h2.1 h2.2]
        have := ih ((orD tx n p).2.1 + 1) (l ++ [orO tx n p]) (by omega) hl2
        refine ⟨this.1, ?_⟩
        have h3 := this.2
        rw [List.length_append] at h3
        simp only [List.length_cons, List.length_nil] at h3
        show (rdS tx n f _ _).1.length ≤ _
        omega
      · rw [rd_e rfl (by omega) (by omega) h2]
        refine ⟨hl2, ?_⟩
        show (l ++ [orO tx n p]).length ≤ _
        rw [List.length_append]
        simp only [List.length_cons, List.length_nil]
        omega
theorem rd_7 {tx : Row} {n : Int} (hn : 0 ≤ n) : (∀ c ∈ (rd tx n).1, (0 ≤ c.1 ∧ c.1 ≤ 7) ∧ (0 ≤ c.2.1 ∧ c.2.1 ≤ 99) ∧ (0 ≤ c.2.2 ∧ c.2.2 ≤ 99)) ∧ (rd tx n).1.length ≤ 10 := by
  have := rdS_7 (tx := tx) (n := n) 10 0 [] hn (fun c hc => by cases hc)
  exact ⟨this.1, by have h := this.2; simp only [List.length_nil] at h; unfold rd; omega⟩
/-- what a text of orders does -/
def RuP (T : TM) (z : Int) (T' : TM) : Prop := (T' 3 = T 3 ∧ T' 14 = T 14 ∧ T' 23 = T 23 ∧ T' 24 = T 24 ∧ T' 18 0 = 0) ∧
  ((rd (T 15) (T 18 0)).2.2 ≠ 0 → T' 5 0 = 1 ∧ z = 0 ∧ T' 13 0 = (rd (T 15) (T 18 0)).2.1 ∧ T' 0 = T 0 ∧ T' 4 = T 4 ∧ T' 6 0 = T 6 0 ∧ ∀ k, 9 ≤ k → k ≤ 12 → T' k 0 = T k 0) ∧
  ((rd (T 15) (T 18 0)).2.2 = 0 → T' 13 0 = -1 ∧ (∀ r k p, doL (rd (T 15) (T 18 0)).1 (T 0) 0 = (r, some (k, p)) → T' 5 0 = 2 ∧ z = 0 ∧ T' 0 = T 0 ∧ T' 4 = T 4 ∧ T' 6 0 = T 6 0 ∧ T' 9 0 = 13 ∧ T' 10 0 = k ∧ T' 11 0 = p.1 ∧ T' 12 0 = p.2) ∧
    (∀ r, doL (rd (T 15) (T 18 0)).1 (T 0) 0 = (r, none) → T' 5 0 = 0 ∧ z = (rd (T 15) (T 18 0)).1.length ∧ T' 0 = r ∧ T' 4 = kpT (bgT T) 4 ∧ T' 6 0 = kpT (bgT T) 6 0 ∧ ∀ k, 9 ≤ k → k ≤ 12 → T' k 0 = T k 0))
theorem ru_w {T T1 : TM} (h : RdP (bgT T) T1) (hw : T1 22 0 ≠ 0) {p : Int} (hp : p = T1 20 0) : RuP T 0 (sT (sT T1 13 0 p) 5 0 1) := by
  obtain ⟨h1, h2, h3, h4, h5⟩ := h
  rw [bg_k (by decide) (by decide), bg_k (by decide) (by decide)] at h3 h4 h5
  have e : ∀ k, k < 16 ∨ 22 < k → k ≠ 1 → k ≠ 5 → k ≠ 13 → sT (sT T1 13 0 p) 5 0 1 k = T k := fun k hk a b c => by
    funext j; rw [sT_k b, sT_k c, h1 k hk, bg_k a b]
  refine ⟨⟨e 3 (by omega) (by omega) (by omega) (by omega), e 14 (by omega) (by omega) (by omega) (by omega), e 23 (by omega) (by omega) (by omega) (by omega), e 24 (by omega) (by omega) (by omega) (by omega), ?_⟩, fun _ => ⟨sT_s, rfl, ?_, e 0 (by omega) (by omega) (by omega) (by omega), e 4 (by omega) (by omega) (by omega) (by omega), by rw [e 6 (by omega) (by omega) (by omega) (by omega)], fun k a b => by rw [e k (by omega) (by omega) (by omega) (by omega)]⟩, fun q => absurd q (by rw [← h4]; exact hw)⟩
  · rw [sT_k (by decide), sT_k (by decide)]; exact h2
  · rw [sT_k (by decide), sT_s, hp, h3]
/-- where the orders are done -/
def RuB (T Tr : TM) : Prop := (∀ k, k < 16 ∨ 22 < k → k ≠ 13 → Tr k = bgT T k) ∧ Tr 13 0 = -1 ∧ Tr 18 0 = 0 ∧ (rd (T 15) (T 18 0)).2.2 = 0 ∧ Tr 21 0 = (rd (T 15) (T 18 0)).1.length ∧ stP Tr (rd (T 15) (T 18 0)).1
theorem ru_b {T T1 : TM} (h : RdP (bgT T) T1) (hw : T1 22 0 = 0) : RuB T (sT T1 13 0 (-1)) := by
  obtain ⟨h1, h2, h3, h4, h5⟩ := h
  rw [bg_k (by decide) (by decide), bg_k (by decide) (by decide)] at h4 h5
  have h6 := h5 (by rw [← h4]; exact hw)
  refine ⟨fun k hk a => ?_, sT_s, by rw [sT_k (by decide)]; exact h2, by rw [← h4]; exact hw, by rw [sT_k (by decide)]; exact h6.1, fun i c hc => ?_⟩
  · funext j; rw [sT_k a, h1 k hk]
  · rw [sT_k (by decide), sT_k (by decide), sT_k (by decide)]; exact h6.2 i c hc
theorem ru_f {T Tr : TM} {R : Row} {k : Int} {c : Cm} {p : Int × Int} (h : RuB T Tr) (hO : ∀ j, ¬ (0 ≤ j ∧ j < 140) → R j = T 0 j) (hd : doL (rd (T 15) (T 18 0)).1 (T 0) 0 = doL ((rd (T 15) (T 18 0)).1.drop k.toNat) R k) (hc : (rd (T 15) (T 18 0)).1[k.toNat]? = some c) (hp : refC R c = some p) : RuP T 0 (sT (sT (sT (sT (sT (cpT (bdT (uT Tr R) p.1 p.2) 1 0 0 0) 11 0 p.1) 12 0 p.2) 9 0 13) 10 0 k) 5 0 2) := by
  obtain ⟨h1, h2, h3, h4, h5, h6⟩ := h
  have e : ∀ i, i ≠ 0 → i ≠ 5 → i ≠ 7 → i ≠ 8 → (i < 9 ∨ 12 < i) → ∀ j, sT (sT (sT (sT (sT (cpT (bdT (uT Tr R) p.1 p.2) 1 0 0 0) 11 0 p.1) 12 0 p.2) 9 0 13) 10 0 k) 5 0 2 i j = Tr i j := fun i i0 i5 i7 i8 i9 j => by
    rw [sT_k i5, sT_k (by omega), sT_k (by omega), sT_k (by omega), sT_k (by omega)]
    unfold cpT
    rw [cpN_k i0]
    unfold bdT
    rw [sT_k i8, sT_k i7, uT_k i0]
  have e2 : ∀ i, i ≠ 0 → i ≠ 5 → i ≠ 7 → i ≠ 8 → (i < 9 ∨ 12 < i) → i ≠ 1 → (i < 16 ∨ 22 < i) → i ≠ 13 → sT (sT (sT (sT (sT (cpT (bdT (uT Tr R) p.1 p.2) 1 0 0 0) 11 0 p.1) 12 0 p.2) 9 0 13) 10 0 k) 5 0 2 i = T i := fun i i0 i5 i7 i8 i9 i1 i16 i13 => by
    funext j
    rw [e i i0 i5 i7 i8 i9 j, h1 i i16 i13, bg_k i1 i5]
  have hdo : doL (rd (T 15) (T 18 0)).1 (T 0) 0 = (R, some (k, p)) := by
    rw [hd, List.drop_eq_getElem_cons (List.getElem?_eq_some_iff.mp hc).1, (List.getElem?_eq_some_iff.mp hc).2]
    exact doL_f hp
  refine ⟨⟨e2 3 (by omega) (by omega) (by omega) (by omega) (by omega) (by omega) (by omega) (by omega), e2 14 (by omega) (by omega) (by omega) (by omega) (by omega) (by omega) (by omega) (by omega), e2 23 (by omega) (by omega) (by omega) (by omega) (by omega) (by omega) (by omega) (by omega), e2 24 (by omega) (by omega) (by omega) (by omega) (by omega) (by omega) (by omega) (by omega), by rw [e 18 (by omega) (by omega) (by omega) (by omega) (by omega)]; exact h3⟩, fun q => absurd h4 q, fun _ => ⟨by rw [e 13 (by omega) (by omega) (by omega) (by omega) (by omega)]; exact h2, fun r' k' p' hq => ?_, fun r' hq => ?_⟩⟩
  · rw [hdo] at hq
    cases hq
    refine ⟨sT_s, rfl, ?_, e2 4 (by omega) (by omega) (by omega) (by omega) (by omega) (by omega) (by omega) (by omega), by rw [e2 6 (by omega) (by omega) (by omega) (by omega) (by omega) (by omega) (by omega) (by omega)], ?_, ?_, ?_, ?_⟩
    · funext j
      rw [sT_k (by decide), sT_k (by decide), sT_k (by decide), sT_k (by decide), sT_k (by decide)]
      unfold cpT
      by_cases hj : 0 ≤ j ∧ j < 140
      · unfold cpN
        rw [if_pos ⟨rfl, by omega, by omega⟩]
        unfold bdT
        rw [sT_k (by decide), sT_k (by decide), uT_k (by decide), h1 1 (by omega) (by omega), bg_1 (by omega)]
        congr 1
        omega
      · rw [cpN_o (by omega), bdT_0, uT_0]
        exact hO j hj
    · rw [sT_k (by decide), sT_k (by decide), sT_s]
    · rw [sT_k (by decide), sT_s]
    · rw [sT_k (by decide), sT_k (by decide), sT_k (by decide), sT_k (by decide), sT_s]
    · rw [sT_k (by decide), sT_k (by decide), sT_k (by decide), sT_s]
  · rw [hdo] at hq
    cases hq
theorem ru_k {T Tr : TM} {R : Row} {k z : Int} (h : RuB T Tr) (hd : doL (rd (T 15) (T 18 0)).1 (T 0) 0 = doL ((rd (T 15) (T 18 0)).1.drop k.toNat) R k) (hk : (rd (T 15) (T 18 0)).1.length ≤ k.toNat) (hz : z = (rd (T 15) (T 18 0)).1.length) : RuP T z (kpT (uT Tr R)) := by
  obtain ⟨h1, h2, h3, h4, h5, h6⟩ := h
  have e : ∀ i, i ≠ 0 → i ≠ 4 → i ≠ 6 → kpT (uT Tr R) i = Tr i := fun i i0 i4 i6 => by
    rw [kp_k i4 i6]; funext j; exact uT_k i0
  have e2 : ∀ i, i ≠ 0 → i ≠ 4 → i ≠ 6 → i ≠ 1 → i ≠ 5 → (i < 16 ∨ 22 < i) → i ≠ 13 → kpT (uT Tr R) i = T i := fun i i0 i4 i6 i1 i5 i16 i13 => by
    rw [e i i0 i4 i6, h1 i i16 i13, bg_k i1 i5]
  have hdo : doL (rd (T 15) (T 18 0)).1 (T 0) 0 = (R, none) := by
    rw [hd, List.drop_eq_nil_of_le hk]
    rfl
  have hc := kp_cong (T := uT Tr R) (T' := bgT T) (by rw [← h1 1 (by omega) (by omega)]; funext j; exact uT_k (by decide)) (by rw [← h1 4 (by omega) (by omega)]; funext j; exact uT_k (by decide)) (by rw [← h1 6 (by omega) (by omega)]; exact uT_k (by decide))
  refine ⟨⟨e2 3 (by omega) (by omega) (by omega) (by omega) (by omega) (by omega) (by omega), e2 14 (by omega) (by omega) (by omega) (by omega) (by omega) (by omega) (by omega), e2 23 (by omega) (by omega) (by omega) (by omega) (by omega) (by omega) (by omega), e2 24 (by omega) (by omega) (by omega) (by omega) (by omega) (by omega) (by omega), by rw [e 18 (by omega) (by omega) (by omega)]; exact h3⟩, fun q => absurd h4 q, fun _ => ⟨by rw [e 13 (by omega) (by omega) (by omega)]; exact h2, fun r' k' p' hq => ?_, fun r' hq => ?_⟩⟩
  · rw [hdo] at hq
    cases hq
  · rw [hdo] at hq
    cases hq
    refine ⟨?_, hz, ?_, hc.1, hc.2, fun i a b => by rw [e2 i (by omega) (by omega) (by omega) (by omega) (by omega) (by omega) (by omega)]⟩
    · rw [e 5 (by omega) (by omega) (by omega), h1 5 (by omega) (by omega)]
      unfold bgT cpT
      rw [cpN_k (by decide), sT_s]
    · rw [kp_k (by decide) (by decide)]; exact uT_0
