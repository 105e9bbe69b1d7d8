set_option maxRecDepth 100000
/-! the class, part 22: lines as lists -/
def chL (l : List Int) : Nat → Int := fun i => (l[i]?).getD 0
def SBL (t : Tg) (a : Nat) (l : List Int) (h : Hp) : Prop := SB t a l.length (chL l) h
theorem SB.eq {t : Tg} {a n m : Nat} {c d : Nat → Int} {h : Hp} (hA : SB t a n c h) (e : n = m) (he : ∀ i, i < n → d i = c i) : SB t a m d h := e ▸ hA.cg he
theorem chL_app {l l2 : List Int} {i : Nat} : chL (l ++ l2) i = catC (chL l) l.length (chL l2) i := by
  unfold chL catC
  by_cases h : i < l.length
  · rw [if_pos h, List.getElem?_append_left h]
  · rw [if_neg h, List.getElem?_append_right (by omega)]
theorem SBL.chr {t : Tg} {a : Nat} {l : List Int} {ch : Int} {h : Hp} (hA : SB t a (l.length + 1) (catC (chL l) l.length (fun _ => ch)) h) : SBL t a (l ++ [ch]) h := by
  refine hA.eq (by simp) (fun i hi => ?_)
  rw [chL_app]
  unfold catC
  by_cases q : i < l.length
  · rw [if_pos q, if_pos q]
  · rw [if_neg q, if_neg q, show i - l.length = 0 by omega]; rfl
theorem numL_len {z : Int} : (numL z).length = nmL z := by
  unfold numL nmL
  by_cases h : 9 < z
  · rw [if_pos h, if_neg (by omega)]; rfl
  · rw [if_neg h, if_pos (by omega)]; rfl
theorem SBL.num {t : Tg} {a : Nat} {l : List Int} {z : Int} {h : Hp} (hz : 0 ≤ z ∧ z ≤ 99) (hA : SB t a (l.length + nmL z) (catC (chL l) l.length (nmC z)) h) : SBL t a (l ++ numL z) h := by
  refine hA.eq (by rw [List.length_append, numL_len]) (fun i hi => ?_)
  rw [chL_app]
  unfold catC
  by_cases q : i < l.length
  · rw [if_pos q, if_pos q]
  · rw [if_neg q, if_neg q]
    unfold chL numL nmC
    unfold nmL at hi
    by_cases h9 : 9 < z
    · rw [if_neg (by omega)] at hi
      rw [if_pos h9, if_neg (by omega)]
      by_cases i0 : i - l.length = 0
      · rw [if_pos i0, i0]; rfl
      · rw [if_neg i0, show i - l.length = 1 by omega]; rfl
    · rw [if_pos (by omega)] at hi
      rw [if_neg h9, if_pos (by omega), show i - l.length = 0 by omega]
      show 48 + z % 10 = 48 + z
      omega
theorem SBL.str {t : Tg} {a k : Nat} {l l2 : List Int} {e : Nat → Int} {h : Hp} (hk : k = l2.length) (he : ∀ i, i < k → e i = chL l2 i) (hA : SB t a (l.length + k) (catC (chL l) l.length e) h) : SBL t a (l ++ l2) h := by
  refine hA.eq (by rw [List.length_append, hk]) (fun i hi => ?_)
  rw [chL_app]
  unfold catC
  by_cases q : i < l.length
  · rw [if_pos q, if_pos q]
  · rw [if_neg q, if_neg q, he _ (by omega)]
theorem SBL.nil {t : Tg} {a : Nat} {h : Hp} (hA : SB t a 0 (fun _ => 0) h) : SBL t a [] h := hA.eq rfl (fun i hi => absurd hi (by omega))
theorem wl_8 : wlen 8 = 0 ∧ wlen 9 = 1 ∧ wlen 10 = 1 ∧ wlen 11 = 1 := by decide

