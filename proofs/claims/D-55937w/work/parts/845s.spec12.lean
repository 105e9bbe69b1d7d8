set_option maxRecDepth 100000
/-! SPEC: lines -/
def wr1 (T : TM) (c : Int) : TM := sT (sT T 23 (T 24 0) c) 24 0 (T 24 0 + 1)
def wrs (T : TM) (l : List Int) : TM := l.foldl wr1 T
theorem wrs_wrs {T : TM} {l l' : List Int} : wrs (wrs T l) l' = wrs T (l ++ l') := List.foldl_append.symm
theorem wrs_24 {T : TM} : ∀ (l : List Int) (T : TM), wrs T l 24 0 = T 24 0 + l.length := by
  intro l
  induction l with
  | nil => intro T; show T 24 0 = T 24 0 + 0; omega
  | cons c l ih =>
    intro T
    show wrs (wr1 T c) l 24 0 = _
    rw [ih, show wr1 T c 24 0 = T 24 0 + 1 from sT_s, List.length_cons]
    omega
theorem wrs_k {k : Nat} (h3 : k ≠ 23) (h4 : k ≠ 24) : ∀ (l : List Int) (T : TM), wrs T l k = T k := by
  intro l
  induction l with
  | nil => intro T; rfl
  | cons c l ih =>
    intro T
    show wrs (wr1 T c) l k = _
    rw [ih]
    funext j
    unfold wr1
    rw [sT_k h4, sT_k h3]
theorem wrs_o : ∀ (l : List Int) (T : TM) (j : Int), j < T 24 0 → wrs T l 23 j = T 23 j := by
  intro l
  induction l with
  | nil => intro T j _; rfl
  | cons c l ih =>
    intro T j hj
    show wrs (wr1 T c) l 23 j = _
    rw [ih _ _ (by rw [show wr1 T c 24 0 = T 24 0 + 1 from sT_s]; omega)]
    unfold wr1
    rw [sT_k (by decide), sT_i (by omega)]
theorem wrs_at : ∀ (l : List Int) (T : TM) (i : Nat) (c : Int), l[i]? = some c → wrs T l 23 (T 24 0 + i) = c := by
  intro l
  induction l with
  | nil => intro T i c h; simp at h
  | cons b l ih =>
    intro T i c h
    show wrs (wr1 T b) l 23 _ = c
    cases i with
    | zero =>
      have h : b = c := by simpa using h
      rw [wrs_o _ _ _ (by rw [show wr1 T b 24 0 = T 24 0 + 1 from sT_s]; omega)]
      unfold wr1
      rw [sT_k (by decide), show T 24 0 + ((0 : Nat) : Int) = T 24 0 by omega, sT_s]
      exact h
    | succ i =>
      have := ih (wr1 T b) i c (by simpa using h)
      rw [show wr1 T b 24 0 = T 24 0 + 1 from sT_s] at this
      rw [show T 24 0 + ((i + 1 : Nat) : Int) = T 24 0 + 1 + i by omega]
      exact this
def numL (v : Int) : List Int := if 9 < v then [48 + v / 10, 48 + v % 10] else [48 + v % 10]
theorem numL_le (v : Int) : (numL v).length ≤ 2 := by unfold numL; split <;> simp
theorem wst {m : Nat} {ad : Nat → Nat} {h0 h : Hp} {X : TM} {l l2 : List Int} {b c : Nat} (hm : TI m ad h0 (wrs (wrs X l) l2) h) (hl : l.length ≤ b) (h2 : l2.length ≤ c) : TI m ad h0 (wrs X (l ++ l2)) h ∧ (l ++ l2).length ≤ b + c := ⟨hm.to wrs_wrs, by rw [List.length_append]; omega⟩
theorem wpre {X : TM} {l : List Int} {b n : Nat} (hl : l.length ≤ b) (hX : X 24 0 = 0) (hb : b ≤ n) : 0 ≤ wrs X l 24 0 ∧ wrs X l 24 0 ≤ n := by
  rw [wrs_24 (T := X), hX]
  omega
/-- a line that is told of an article -/
def tllL (r : Row) (a : Int) : List Int := numL a ++ [99] ++ numL (fA r a 0) ++ [103] ++ numL (fA r a 1) ++ [120] ++ numL (fA r a 2) ++ [if fA r a 4 < 0 then 61 else 64] ++ numL (if fA r a 4 < 0 then plOf r a else fA r a 4)
def telL (r : Row) (a : Int) : List Int := if fA r a 3 = 1 then tllL r a ++ [33] else tllL r a
def tshL (r : Row) : Nat → List Int
  | 0 => []
  | n + 1 => (if (0 : Int) < n then tshL r n ++ [32] else tshL r n) ++ numL (fS r n 0) ++ [47] ++ numL (fS r n 1)
theorem tsh_s {r : Row} {z : Int} (h : 0 ≤ z) : tshL r (z + 1).toNat = (if 0 < z then tshL r z.toNat ++ [32] else tshL r z.toNat) ++ numL (fS r z 0) ++ [47] ++ numL (fS r z 1) := by
  rw [show (z + 1).toNat = z.toNat + 1 by omega]
  show (if (0 : Int) < (z.toNat : Int) then _ else _) ++ numL (fS r (z.toNat : Int) 0) ++ [47] ++ numL (fS r (z.toNat : Int) 1) = _
  rw [Int.toNat_of_nonneg h]
def tchL (r : Row) : Nat → List Int
  | 0 => []
  | n + 1 => (if (0 : Int) < n then tchL r n ++ [44] else tchL r n) ++ numL (r (12 + n))
theorem tch_s {r : Row} {z : Int} (h : 0 ≤ z) : tchL r (z + 1).toNat = (if 0 < z then tchL r z.toNat ++ [44] else tchL r z.toNat) ++ numL (r (12 + z)) := by
  rw [show (z + 1).toNat = z.toNat + 1 by omega]
  show (if (0 : Int) < (z.toNat : Int) then _ else _) ++ numL (r (12 + (z.toNat : Int))) = _
  rw [Int.toNat_of_nonneg h]
def liT (T : TM) : TM := sT (sT T 5 0 0) 24 0 0
theorem liT_0 {T : TM} : liT T 0 = T 0 := by funext j; unfold liT; rw [sT_k (by decide), sT_k (by decide)]
theorem liT_24 {T : TM} : liT T 24 0 = 0 := sT_s
def telT (T : TM) (a : Int) : TM := if 0 ≤ a ∧ a ≤ T 0 0 - 1 then wrs (liT T) (telL (T 0) a) else sT T 5 0 1
def telZ (T : TM) (a : Int) : Int := if 0 ≤ a ∧ a ≤ T 0 0 - 1 then (telL (T 0) a).length else 0
