set_option maxRecDepth 100000
theorem kh_1 {tx : Row} {n p kind most : Int} {f : Nat} {q : Int × Int × Int} (h : q = khZ tx n p f kind most) (hf : 0 < f) (hk : lt kind (km tx n p kind) = 0) : q = (kind, p + km tx n p kind, 0) := by
  obtain ⟨g, rfl⟩ : ∃ g, f = g + 1 := ⟨f - 1, by omega⟩
  rw [h]
  exact if_pos hk
theorem kh_2 {tx : Row} {n p kind most : Int} {f : Nat} {q : Int × Int × Int} (h : q = khZ tx n p f kind most) (hf : 0 < f) (hk : lt kind (km tx n p kind) ≠ 0) : q = khZ tx n p (f - 1) (kind + 1) (if most < km tx n p kind then km tx n p kind else most) := by
  obtain ⟨g, rfl⟩ : ∃ g, f = g + 1 := ⟨f - 1, by omega⟩
  rw [h]
  exact if_neg hk
theorem kmZ_in {tx : Row} {n p kind : Int} : ∀ (f : Nat) (k : Int), k ≤ kmZ tx n p kind f k ∧ (p + k ≤ n → p + kmZ tx n p kind f k ≤ n) ∧ (k ≤ 6 → kmZ tx n p kind f k ≤ 6) ∧ (k ≤ 4 → lt kind (kmZ tx n p kind f k) = 0 → 0 ≤ k → 4 ≤ kmZ tx n p kind f k) := by
  intro f
  induction f with
  | zero => intro k; exact ⟨Int.le_refl _, fun h => h, fun h => h, fun h1 h2 h0 => by
      show 4 ≤ k
      have h2 : lt kind k = 0 := h2
      have := lt_4 (kind := kind) (k := k)
      omega⟩
  | succ f ih =>
    intro k
    by_cases h : 0 < lt kind k ∧ p + k < n ∧ tx (p + k) = lt kind k
    · have e : kmZ tx n p kind (f + 1) k = kmZ tx n p kind f (k + 1) := if_pos h
      rw [e]
      have := ih (k + 1)
      have h6 : k ≤ 5 ∨ ¬ (0 ≤ k ∧ k ≤ 5) := by omega
      have h7 : k ≤ 5 := by
        rcases h6 with h6 | h6
        · exact h6
        · have := lt_6 (kind := kind) h6; omega
      refine ⟨by omega, fun h8 => this.2.1 (by omega), fun _ => this.2.2.1 (by omega), fun h8 h9 h0 => ?_⟩
      by_cases h10 : k + 1 ≤ 4
      · exact this.2.2.2 h10 h9 (by omega)
      · omega
    · have e : kmZ tx n p kind (f + 1) k = k := if_neg h
      rw [e]
      refine ⟨Int.le_refl _, fun h => h, fun h => h, fun h1 h2 h0 => ?_⟩
      have := lt_4 (kind := kind) (k := k)
      omega
theorem km_in {tx : Row} {n p kind : Int} (hp : p ≤ n) : 0 ≤ km tx n p kind ∧ p + km tx n p kind ≤ n ∧ km tx n p kind ≤ 6 ∧ (lt kind (km tx n p kind) = 0 → 4 ≤ km tx n p kind) := by
  have := kmZ_in (tx := tx) (n := n) (p := p) (kind := kind) 7 0
  exact ⟨this.1, this.2.1 (by omega), this.2.2.1 (by omega), fun h => this.2.2.2 (by omega) h (by omega)⟩
theorem khZ_in {tx : Row} {n p : Int} (hp : p ≤ n) : ∀ (f : Nat) (kind most : Int), 0 ≤ kind → kind + f ≤ 8 → 0 ≤ most → p + most ≤ n → (0 ≤ (khZ tx n p f kind most).1 ∧ (khZ tx n p f kind most).1 ≤ 7) ∧ (p ≤ (khZ tx n p f kind most).2.1 ∧ (khZ tx n p f kind most).2.1 ≤ n) ∧ (((khZ tx n p f kind most).2.2 = 0 ∧ p + 4 ≤ (khZ tx n p f kind most).2.1) ∨ (khZ tx n p f kind most).2.2 = 1) := by
  intro f
  induction f with
  | zero =>
    intro kind most h0 h1 h2 h3
    exact ⟨⟨by show (0 : Int) ≤ 0; omega, by show (0 : Int) ≤ 7; omega⟩, ⟨by show p ≤ p + most; omega, h3⟩, Or.inr rfl⟩
  | succ f ih =>
    intro kind most h0 h1 h2 h3
    have hk := km_in (tx := tx) (kind := kind) hp
    by_cases h : lt kind (km tx n p kind) = 0
    · rw [kh_1 rfl (by omega) h]
      have := hk.2.2.2 h
      exact ⟨⟨h0, by show kind ≤ 7; omega⟩, ⟨by show p ≤ p + _; omega, hk.2.1⟩, Or.inl ⟨rfl, by show p + 4 ≤ p + _; omega⟩⟩
    · rw [kh_2 rfl (by omega) h]
      exact ih _ _ (by omega) (by omega) (by split <;> omega) (by split <;> omega)
theorem kh_in {tx : Row} {n p : Int} (hp : p ≤ n) : (0 ≤ (kh tx n p).1 ∧ (kh tx n p).1 ≤ 7) ∧ (p ≤ (kh tx n p).2.1 ∧ (kh tx n p).2.1 ≤ n) ∧ (((kh tx n p).2.2 = 0 ∧ p + 4 ≤ (kh tx n p).2.1) ∨ (kh tx n p).2.2 = 1) := khZ_in hp 8 0 0 (by omega) (by omega) (by omega) (by omega)
theorem dgL_in {tx : Row} {n : Int} : ∀ (k : Nat) (p v : Int), p ≤ n → 0 ≤ v → p ≤ (dgL tx n k p v).2 ∧ (dgL tx n k p v).2 ≤ n ∧ 0 ≤ (dgL tx n k p v).1 := by
  intro k
  induction k with
  | zero => intro p v h h0; exact ⟨Int.le_refl _, h, h0⟩
  | succ k ih =>
    intro p v h h0
    by_cases e : p < n ∧ dgP (tx p)
    · have := ih (p + 1) (10 * v + tx p - 48) (by omega) (by omega)
      have e2 : dgL tx n (k + 1) p v = dgL tx n k (p + 1) (10 * v + tx p - 48) := if_pos e
      rw [e2]
      omega
    · have e2 : dgL tx n (k + 1) p v = (v, p) := if_neg e
      rw [e2]
      exact ⟨Int.le_refl _, h, h0⟩
theorem bb_in {tx : Row} {n most p w : Int} (hp : p ≤ n) (hm : most = 1 ∨ most = 2) : 0 ≤ (bb tx n most p w).1 ∧ (bb tx n most p w).1 ≤ 99 ∧ (p ≤ (bb tx n most p w).2.1 ∧ (bb tx n most p w).2.1 ≤ n) ∧ (((bb tx n most p w).2.2 = 0 ∧ w = 0 ∧ p + 2 ≤ (bb tx n most p w).2.1) ∨ (bb tx n most p w).2.2 = 1) := by
  unfold bb
  by_cases h : w = 0 ∧ p < n ∧ tx p = 32
  · rw [if_pos h]
    by_cases h2 : p + 1 < n ∧ dgP (tx (p + 1))
    · rw [if_pos h2]
      have e1 : ∀ g, dgL tx n (g + 1) (p + 1) 0 = dgL tx n g (p + 1 + 1) (10 * 0 + tx (p + 1) - 48) := fun g => if_pos h2
      rcases hm with rfl | rfl
      · rw [show (1 : Int).toNat = 0 + 1 from rfl, e1]
        refine ⟨?_, ?_, ⟨?_, ?_⟩, Or.inl ⟨rfl, h.1, ?_⟩⟩
        · show (0 : Int) ≤ 10 * 0 + tx (p + 1) - 48; omega
        · show 10 * 0 + tx (p + 1) - 48 ≤ (99 : Int); omega
        · show p ≤ p + 1 + 1; omega
        · show p + 1 + 1 ≤ n; omega
        · show p + 2 ≤ p + 1 + 1; omega
      · rw [show (2 : Int).toNat = 1 + 1 from rfl, e1]
        have hd := dgL_in (tx := tx) (n := n) 1 (p + 1 + 1) (10 * 0 + tx (p + 1) - 48) (by omega) (by omega)
        refine ⟨hd.2.2, ?_, ⟨by show p ≤ (dgL _ _ _ _ _).2; omega, hd.2.1⟩, Or.inl ⟨rfl, h.1, by show p + 2 ≤ (dgL _ _ _ _ _).2; omega⟩⟩
        show (dgL tx n (0 + 1) (p + 1 + 1) (10 * 0 + tx (p + 1) - 48)).1 ≤ 99
        by_cases h3 : p + 1 + 1 < n ∧ dgP (tx (p + 1 + 1))
        · rw [show dgL tx n (0 + 1) (p + 1 + 1) (10 * 0 + tx (p + 1) - 48) = dgL tx n 0 (p + 1 + 1 + 1) (10 * (10 * 0 + tx (p + 1) - 48) + tx (p + 1 + 1) - 48) from if_pos h3]
          show 10 * (10 * 0 + tx (p + 1) - 48) + tx (p + 1 + 1) - 48 ≤ 99
          omega
        · rw [show dgL tx n (0 + 1) (p + 1 + 1) (10 * 0 + tx (p + 1) - 48) = (10 * 0 + tx (p + 1) - 48, p + 1 + 1) from if_neg h3]
          show 10 * 0 + tx (p + 1) - 48 ≤ 99
          omega
    · rw [if_neg h2]
      exact ⟨by show (0 : Int) ≤ 0; omega, by show (0 : Int) ≤ 99; omega, ⟨by show p ≤ p + 1; omega, by show p + 1 ≤ n; omega⟩, Or.inr rfl⟩
  · rw [if_neg h]
    exact ⟨by show (0 : Int) ≤ 0; omega, by show (0 : Int) ≤ 99; omega, ⟨Int.le_refl _, hp⟩, Or.inr rfl⟩
theorem or_in {tx : Row} {n p : Int} (hp : p ≤ n) : ((0 ≤ (kh tx n p).1 ∧ (kh tx n p).1 ≤ 7) ∧ (p ≤ (kh tx n p).2.1 ∧ (kh tx n p).2.1 ≤ n) ∧ ((kh tx n p).2.2 = 0 ∨ (kh tx n p).2.2 = 1)) ∧ (0 ≤ (orK tx n p).1 ∧ (orK tx n p).1 ≤ 99 ∧ (p ≤ (orK tx n p).2.1 ∧ (orK tx n p).2.1 ≤ n) ∧ ((orK tx n p).2.2 = 0 ∨ (orK tx n p).2.2 = 1)) ∧ (0 ≤ (orD tx n p).1 ∧ (orD tx n p).1 ≤ 99 ∧ (p ≤ (orD tx n p).2.1 ∧ (orD tx n p).2.1 ≤ n) ∧ (((orD tx n p).2.2 = 0 ∧ p + 6 ≤ (orD tx n p).2.1) ∨ (orD tx n p).2.2 = 1)) := by
  have hk := kh_in (tx := tx) hp
  have hb : 0 ≤ (orK tx n p).1 ∧ (orK tx n p).1 ≤ 99 ∧ ((kh tx n p).2.1 ≤ (orK tx n p).2.1 ∧ (orK tx n p).2.1 ≤ n) ∧ (((orK tx n p).2.2 = 0 ∧ (kh tx n p).2.2 = 0 ∧ (kh tx n p).2.1 + 2 ≤ (orK tx n p).2.1) ∨ (orK tx n p).2.2 = 1) := bb_in hk.2.1.2 (by split <;> omega)
  have hd : 0 ≤ (orD tx n p).1 ∧ (orD tx n p).1 ≤ 99 ∧ ((orK tx n p).2.1 ≤ (orD tx n p).2.1 ∧ (orD tx n p).2.1 ≤ n) ∧ (((orD tx n p).2.2 = 0 ∧ (orK tx n p).2.2 = 0) ∨ (orD tx n p).2.2 = 1) := by
    unfold orD orC
    by_cases h1 : (kh tx n p).1 = 0 ∨ (kh tx n p).1 = 2 ∨ (kh tx n p).1 = 6
    · rw [if_pos h1]
      have := bb_in (tx := tx) (w := (orK tx n p).2.2) hb.2.2.1.2 (Or.inl rfl : (1 : Int) = 1 ∨ (1 : Int) = 2)
      exact ⟨this.1, this.2.1, this.2.2.1, by omega⟩
    · rw [if_neg h1]
      by_cases h2 : (kh tx n p).1 = 4
      · rw [if_pos h2]
        have := bb_in (tx := tx) (w := (orK tx n p).2.2) hb.2.2.1.2 (Or.inr rfl : (2 : Int) = 1 ∨ (2 : Int) = 2)
        exact ⟨this.1, this.2.1, this.2.2.1, by omega⟩
      · rw [if_neg h2]
        exact ⟨by show (0 : Int) ≤ 0; omega, by show (0 : Int) ≤ 99; omega, ⟨Int.le_refl _, hb.2.2.1.2⟩, by show ((orK tx n p).2.2 = 0 ∧ _) ∨ (orK tx n p).2.2 = 1; omega⟩
  omega
theorem bbT_bbT {T : TM} {a b : Int × Int × Int} : bbT (bbT T a) b = bbT T b := by
  funext k j
  unfold bbT sT
  (repeat' split) <;> first | rfl | omega
theorem bbT_k {T : TM} {b : Int × Int × Int} {k : Nat} (h : k ≠ 20) (h2 : k ≠ 22) : bbT T b k = T k := by
  funext j
  unfold bbT sT
  rw [if_neg (fun q => h2 q.1), if_neg (fun q => h q.1)]
theorem bbT_20 {T : TM} {b : Int × Int × Int} : bbT T b 20 0 = b.2.1 := by
  unfold bbT sT
  rw [if_neg (by omega), if_pos ⟨rfl, rfl⟩]
theorem bbT_22 {T : TM} {b : Int × Int × Int} : bbT T b 22 0 = b.2.2 := sT_s
/-- the reference behind an order -/
def orT (T : TM) : TM := if (orD (T 15) (T 19 0) (T 20 0)).2.2 = 1 then bbT T (orD (T 15) (T 19 0) (T 20 0)) else
  sT (sT (sT (sT (bbT T (orD (T 15) (T 19 0) (T 20 0))) 16 (T 21 0) (orO (T 15) (T 19 0) (T 20 0)).1) 17 (2 * T 21 0) (orO (T 15) (T 19 0) (T 20 0)).2.1) 17 (2 * T 21 0 + 1) (orO (T 15) (T 19 0) (T 20 0)).2.2) 21 0 (T 21 0 + 1)
theorem bbT_w {T : TM} {k p : Int} (h : T 22 0 = 0) : sT T 20 0 p = bbT T (k, p, 0) := by
  funext i j
  show sT T 20 0 p i j = sT (sT T 20 0 p) 22 0 0 i j
  by_cases e : i = 22 ∧ j = 0
  · rw [e.1, e.2, sT_s, sT_k (by decide), h]
  · unfold sT
    rw [if_neg e]
theorem bbT_15 {T : TM} {b : Int × Int × Int} : bbT T b 15 = T 15 := bbT_k (by decide) (by decide)
theorem bbT_19 {T : TM} {b : Int × Int × Int} : bbT T b 19 = T 19 := bbT_k (by decide) (by decide)
theorem bbT_21 {T : TM} {b : Int × Int × Int} : bbT T b 21 = T 21 := bbT_k (by decide) (by decide)
