set_option maxRecDepth 100000
/-! the class, part 24: the lines of shards and of the charter -/
theorem tshL_s {r : Row} {k : Nat} : tshL r (k + 1) = (if 0 < (k : Int) then tshL r k ++ [32] else tshL r k) ++ numL (fS r k 0) ++ [47] ++ numL (fS r k 1) := by
  have := tsh_s (r := r) (z := (k : Int)) (by omega)
  rwa [show ((k : Int) + 1).toNat = k + 1 by omega, show (k : Int).toNat = k by omega] at this
theorem tchL_s {r : Row} {k : Nat} : tchL r (k + 1) = (if 0 < (k : Int) then tchL r k ++ [44] else tchL r k) ++ numL (r (12 + k)) := by
  have := tch_s (r := r) (z := (k : Int)) (by omega)
  rwa [show ((k : Int) + 1).toNat = k + 1 by omega, show (k : Int).toNat = k by omega] at this
theorem tsh_len {r : Row} (hI : RI r) : ∀ k : Nat, (k : Int) ≤ r 2 → (tshL r k).length ≤ 4 * k ∧ (0 < k → 0 < (tshL r k).length)
  | 0, _ => ⟨Nat.le_refl _, fun h => absurd h (by omega)⟩
  | k + 1, hk => by
    have ih := tsh_len hI k (by omega)
    have hs := hI.2.2.1 k (by omega) (by omega)
    unfold shOk at hs
    have n1 : (numL (fS r k 0)).length = 1 := by rw [numL_len]; exact if_pos (by omega)
    have n2 : (numL (fS r k 1)).length = 1 := by rw [numL_len]; exact if_pos (by omega)
    rw [tshL_s]
    simp only [List.length_append, List.length_cons, List.length_nil, n1, n2]
    split
    · simp only [List.length_append, List.length_cons, List.length_nil]; omega
    · omega
theorem tch_len {r : Row} (hI : RI r) : ∀ k : Nat, (k : Int) ≤ r 1 → (tchL r k).length ≤ 3 * k ∧ (0 < k → 0 < (tchL r k).length)
  | 0, _ => ⟨Nat.le_refl _, fun h => absurd h (by omega)⟩
  | k + 1, hk => by
    have ih := tch_len hI k (by omega)
    have n1 := numL_le (r (12 + k))
    have n2 : 1 ≤ (numL (r (12 + k))).length := by rw [numL_len]; unfold nmL; split <;> omega
    rw [tchL_s]
    simp only [List.length_append, List.length_cons, List.length_nil]
    split
    · simp only [List.length_append, List.length_cons, List.length_nil]; omega
    · omega

