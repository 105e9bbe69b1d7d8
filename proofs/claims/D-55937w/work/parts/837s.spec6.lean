set_option maxRecDepth 100000
theorem go_or1 {G : Gl} {own : String} {cc : ByteArray} {Y : Mt} {d mc : Nat} {Qr : Option Value → Hp → Prop} {Qx : String → Hp → Prop} {kb : Nat} {h : Hp} {pc : Nat} {L : List (Option Value)} {st : List Value} {z : Int} (hz : z = 0 ∨ z = 1) (kk : Go G own cc Y d mc Qr Qx kb h pc L (.int (iZ 1) :: st)) : Go G own cc Y d mc Qr Qx kb h pc L (.int (iZ z ||| iZ 1) :: st) := by
  have e : iZ z ||| iZ 1 = iZ 1 := by rcases hz with rfl | rfl <;> decide
  rw [e]; exact kk
theorem go_or0 {G : Gl} {own : String} {cc : ByteArray} {Y : Mt} {d mc : Nat} {Qr : Option Value → Hp → Prop} {Qx : String → Hp → Prop} {kb : Nat} {h : Hp} {pc : Nat} {L : List (Option Value)} {st : List Value} {z : Int} (kk : Go G own cc Y d mc Qr Qx kb h pc L (.int (iZ z) :: st)) : Go G own cc Y d mc Qr Qx kb h pc L (.int (iZ z ||| iZ 0) :: st) := by
  have e : iZ z ||| iZ 0 = iZ z := Int32.or_zero
  rw [e]; exact kk
/-! SPEC: a text of orders; tx its signs, n how many -/
def mkZ (tx : Row) (n p w : Int) : Int := if w = 0 ∧ p < n then tx p else -1
abbrev dgP (c : Int) : Prop := 48 ≤ c ∧ c ≤ 57
def dgL (tx : Row) (n : Int) : Nat → Int → Int → Int × Int
  | 0, p, v => (v, p)
  | k + 1, p, v => if p < n ∧ dgP (tx p) then dgL tx n k (p + 1) (10 * v + tx p - 48) else (v, p)
/-- a number behind a blank: it, where it ends, whether that is wrong -/
def bb (tx : Row) (n most p w : Int) : Int × Int × Int :=
  if w = 0 ∧ p < n ∧ tx p = 32 then (if p + 1 < n ∧ dgP (tx (p + 1)) then ((dgL tx n most.toNat (p + 1) 0).1, (dgL tx n most.toNat (p + 1) 0).2, 0) else (0, p + 1, 1)) else (0, p, 1)
def bbT (T : TM) (b : Int × Int × Int) : TM := sT (sT T 20 0 b.2.1) 22 0 b.2.2
def inW (k a b c d e f : Int) : Int := if k = 0 then a else if k = 1 then b else if k = 2 then c else if k = 3 then d else if k = 4 then e else if k = 5 then f else 0
def lt (kind k : Int) : Int :=
  if kind = 0 then inW k 99 108 97 121 0 0 else if kind = 1 then inW k 103 108 97 122 101 0 else if kind = 2 then inW k 115 104 101 108 118 101 else if kind = 3 then inW k 102 105 114 101 0 0
  else if kind = 4 then inW k 99 105 116 101 0 0 else if kind = 5 then inW k 114 97 116 105 102 121 else if kind = 6 then inW k 114 101 112 101 97 108 else inW k 115 99 114 97 112 0
theorem lt_in (kind k : Int) : 0 ≤ lt kind k ∧ lt kind k ≤ 122 := by
  unfold lt inW
  (repeat' split) <;> omega
theorem lt_6 {kind k : Int} (h : ¬ (0 ≤ k ∧ k ≤ 5)) : lt kind k = 0 := by
  unfold lt inW
  (repeat' split) <;> omega
theorem lt_4 {kind k : Int} (h : 0 ≤ k ∧ k ≤ 3) : 0 < lt kind k := by
  unfold lt inW
  (repeat' split) <;> omega
/-- how many letters of a kind's word stand at p -/
def kmZ (tx : Row) (n p kind : Int) : Nat → Int → Int
  | 0, k => k
  | f + 1, k => if 0 < lt kind k ∧ p + k < n ∧ tx (p + k) = lt kind k then kmZ tx n p kind f (k + 1) else k
def km (tx : Row) (n p kind : Int) : Int := kmZ tx n p kind 7 0
theorem km_t {tx : Row} {n p kind k : Int} {q : Int} {f : Nat} (h : q = kmZ tx n p kind f k) (hf : 0 < f) (hp : 0 < lt kind k ∧ p + k < n ∧ tx (p + k) = lt kind k) : q = kmZ tx n p kind (f - 1) (k + 1) := by
  obtain ⟨g, rfl⟩ : ∃ g, f = g + 1 := ⟨f - 1, by omega⟩
  rw [h]
  exact if_pos hp
theorem km_f {tx : Row} {n p kind k : Int} {q : Int} {f : Nat} (h : q = kmZ tx n p kind f k) (hp : ¬ (0 < lt kind k ∧ p + k < n ∧ tx (p + k) = lt kind k)) : q = k := by
  rw [h]
  cases f with
  | zero => rfl
  | succ g => exact if_neg hp
/-- the kind that stands at p: it, where its word ends, whether that is wrong -/
def khZ (tx : Row) (n p : Int) : Nat → Int → Int → Int × Int × Int
  | 0, _, most => (0, p + most, 1)
  | f + 1, kind, most => if lt kind (km tx n p kind) = 0 then (kind, p + km tx n p kind, 0) else khZ tx n p f (kind + 1) (if most < km tx n p kind then km tx n p kind else most)
def kh (tx : Row) (n p : Int) : Int × Int × Int := khZ tx n p 8 0 0
/-- the order at p: kind, its two numbers, where it ends, whether that is wrong -/
def orB (tx : Row) (n : Int) (a : Int × Int × Int) : Int × Int × Int := bb tx n (if a.1 = 0 ∨ a.1 = 4 then 1 else 2) a.2.1 a.2.2
def orC (tx : Row) (n kind : Int) (b : Int × Int × Int) : Int × Int × Int := if kind = 0 ∨ kind = 2 ∨ kind = 6 then bb tx n 1 b.2.1 b.2.2 else if kind = 4 then bb tx n 2 b.2.1 b.2.2 else (0, b.2.1, b.2.2)
def orK (tx : Row) (n p : Int) : Int × Int × Int := orB tx n (kh tx n p)
def orD (tx : Row) (n p : Int) : Int × Int × Int := orC tx n (kh tx n p).1 (orK tx n p)
abbrev Cm : Type := Int × Int × Int
def orO (tx : Row) (n p : Int) : Cm := ((kh tx n p).1, (orK tx n p).1, (orD tx n p).1)
/-- the orders from p on: they, where it ends, whether that is wrong -/
def rdS (tx : Row) (n : Int) : Nat → Int → List Cm → List Cm × Int × Int
  | 0, p, l => (l, p, 1)
  | f + 1, p, l =>
    if (orD tx n p).2.2 = 1 then (l, (orD tx n p).2.1, 1)
    else if (orD tx n p).2.1 < n ∧ tx (orD tx n p).2.1 = 59 then rdS tx n f ((orD tx n p).2.1 + 1) (l ++ [orO tx n p])
    else (l ++ [orO tx n p], (orD tx n p).2.1, if (orD tx n p).2.1 < n then 1 else 0)
def rd (tx : Row) (n : Int) : List Cm × Int × Int := rdS tx n 10 0 []
