set_option maxRecDepth 100000
theorem dg_mk {tx : Row} {n p w : Int} : dgP (mkZ tx n p w) ↔ (w = 0 ∧ p < n ∧ dgP (tx p)) := by
  unfold mkZ
  constructor
  · intro h
    by_cases e : w = 0 ∧ p < n
    · rw [if_pos e] at h; exact ⟨e.1, e.2, h⟩
    · rw [if_neg e] at h; exact absurd h (by decide)
  · intro h
    rw [if_pos ⟨h.1, h.2.1⟩]; exact h.2.2
theorem mk_eq {tx : Row} {n p w c : Int} (hc : 0 ≤ c) (h : mkZ tx n p w = c) : w = 0 ∧ p < n ∧ tx p = c := by
  unfold mkZ at h
  by_cases e : w = 0 ∧ p < n
  · rw [if_pos e] at h; exact ⟨e.1, e.2, h⟩
  · rw [if_neg e] at h; omega
def dgW (tx : Row) (n w : Int) (k : Nat) (p v : Int) : Int × Int × Int := if w = 0 then ((dgL tx n k p v).1, (dgL tx n k p v).2, 0) else (v, p, 1)
theorem dg_f {tx : Row} {n w p v : Int} {k : Int} (hw : w = 0 ∨ w = 1) (h : ¬ (0 < k ∧ w = 0 ∧ p < n ∧ dgP (tx p))) : dgW tx n w k.toNat p v = (v, p, w) := by
  unfold dgW
  rcases hw with rfl | rfl
  · rw [if_pos rfl]
    cases e : k.toNat with
    | zero => rfl
    | succ g =>
      have : dgL tx n (g + 1) p v = (v, p) := if_neg (fun q => h ⟨by omega, rfl, q⟩)
      rw [this]
  · rw [if_neg (by decide)]
theorem dg_t {tx : Row} {n w p v : Int} {k : Nat} (hk : 0 < k) (h : w = 0 ∧ p < n ∧ dgP (tx p)) : dgW tx n w k p v = dgW tx n w (k - 1) (p + 1) (10 * v + tx p - 48) := by
  obtain ⟨g, rfl⟩ : ∃ g, k = g + 1 := ⟨k - 1, by omega⟩
  unfold dgW
  rw [if_pos h.1, if_pos h.1]
  have : dgL tx n (g + 1) p v = dgL tx n g (p + 1) (10 * v + tx p - 48) := if_pos h.2
  rw [this]
  rfl
