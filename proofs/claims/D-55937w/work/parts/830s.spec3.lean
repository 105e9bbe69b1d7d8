set_option maxRecDepth 100000
/-! SPEC: more queries -/
abbrev safeP (r : Row) (x : Int) : Prop := fndZ (fun a => 0 < crZ r a x) 0 (r 0).toNat = -1
def sfZ (r : Row) : Nat → Int
  | 0 => -1
  | n + 1 => if safeP r (10 + n) then 10 + n else sfZ r n
theorem sf_s {r : Row} {x : Int} (h : 10 ≤ x) : sfZ r (x - 9).toNat = if safeP r x then x else sfZ r (x + (-1) - 9).toNat := by
  have e : (x - 9).toNat = (x + (-1) - 9).toNat + 1 := by omega
  rw [e]
  show (if safeP r (10 + ((x + (-1) - 9).toNat : Int)) then 10 + ((x + (-1) - 9).toNat : Int) else _) = _
  rw [show 10 + ((x + (-1) - 9).toNat : Int) = x by omega]
theorem sf_e {r : Row} {x : Int} (h : x < 10) : sfZ r (x - 9).toNat = -1 := by
  rw [show (x - 9).toNat = 0 by omega]; rfl
theorem sf_in {r : Row} : ∀ n : Nat, sfZ r n = -1 ∨ (10 ≤ sfZ r n ∧ sfZ r n < 10 + n) := by
  intro n
  induction n with
  | zero => left; rfl
  | succ n ih =>
    show (if safeP r (10 + n) then (10 + n : Int) else sfZ r n) = -1 ∨ (10 ≤ (if safeP r (10 + n) then (10 + n : Int) else sfZ r n) ∧ (if safeP r (10 + n) then (10 + n : Int) else sfZ r n) < _)
    split <;> omega
def kSaf (r : Row) : Int := if sfZ r 90 = -1 then 1 else 0
def zSaf (r : Row) : Int := if sfZ r 90 = -1 then 0 else sfZ r 90
def ffZ (r : Row) (a : Int) : Int := fndZ (fun x => firP r a x) 10 90
def kFir (r : Row) (a : Int) : Int := if ¬ (0 ≤ a ∧ a ≤ r 0 - 1) then 1 else if ffZ r a = -1 then 2 else 0
def zFir (r : Row) (a : Int) : Int := if ¬ (0 ≤ a ∧ a ≤ r 0 - 1) then 0 else if ffZ r a = -1 then 0 else ffZ r a
def wK (k : Int) : Int := if k = 0 then 0 else if k = 1 then 1 else if k = 2 then 2 else 5
theorem wK_in (k : Int) : 0 ≤ wK k ∧ wK k ≤ 5 := by unfold wK; (repeat' split) <;> omega
abbrev rkP (r : Row) (k a o : Int) : Prop := fA r a (wK k) < fA r o (wK k) ∨ (fA r o (wK k) = fA r a (wK k) ∧ o < a)
def rkN (r : Row) (k a : Int) : Int := sumI (r 0) (fun o => bZ (rkP r k a o))
def rkF (r : Row) (k p : Int) : Int := fndZ (fun a => rkN r k a = p) 0 (r 0).toNat
def kRan (r : Row) (k p : Int) : Int := if ¬ (0 ≤ k ∧ k ≤ 3) then 1 else if rkF r k p = -1 then 2 else 0
def zRan (r : Row) (k p : Int) : Int := if ¬ (0 ≤ k ∧ k ≤ 3) then 0 else if rkF r k p = -1 then 0 else rkF r k p
abbrev flP (r : Row) (a b : Int) : Prop := (onSh r a ≠ onSh r b ∧ onSh r b < onSh r a) ∨ (onSh r a = onSh r b ∧ (crkSh r b < crkSh r a ∨ (crkSh r a = crkSh r b ∧ a < b)))
def flN (r : Row) (s : Int) : Int := sumI 3 (fun o => bZ (flP r o s))
def flF (r : Row) (p : Int) : Int := fndZ (fun s => flN r s = p) 0 3
def kFul (r : Row) (p : Int) : Int := if flF r p = -1 then 1 else 0
def zFul (r : Row) (p : Int) : Int := if flF r p = -1 then 0 else flF r p
theorem sumB_in {p : Int → Prop} [DecidablePred p] {z : Int} (hz : 0 ≤ z) : 0 ≤ sumI z (fun o => bZ (p o)) ∧ sumI z (fun o => bZ (p o)) ≤ z := by
  have := sumI_bd (f := fun a => bZ (p a)) (c := 1) (fun a => by rcases bZ_01 (p a) with e | e <;> rw [e] <;> decide) z.toNat
  unfold sumI
  omega
theorem fnd_no {N z : Int} {p : Int → Prop} [DecidablePred p] (hz : 0 ≤ z) : fndZ p z N.toNat = -1 ∨ (z ≤ fndZ p z N.toNat ∧ fndZ p z N.toNat < z + N.toNat) := by
  rcases fnd_r (p := p) N.toNat z hz with ⟨h, _⟩ | ⟨h1, h2, _⟩
  · exact Or.inl h
  · exact Or.inr ⟨h1, h2⟩
/-! what is undone, saved -/
def udT (T : TM) : TM := if T 6 0 = 0 then sT T 5 0 1 else cpT (sT (sT T 5 0 0) 6 0 (T 6 0 - 1)) 4 (140 * (T 6 0 - 1)) 0 0
def udZ (T : TM) : Int := if T 6 0 = 0 then 0 else T 6 0 - 1
def svT (T : TM) : TM := sT (cpT (sT T 5 0 0) 0 0 3 0) 14 0 1
def rsT (T : TM) : TM := if T 14 0 = 0 then sT T 5 0 1 else sT (cpT (sT T 5 0 0) 3 0 0 0) 6 0 0
def rsZ (T : TM) : Int := if T 14 0 = 0 then 0 else T 3 0
/-! what is typed -/
def kApp (T : TM) (c : Int) : Int := if ¬ (32 ≤ c ∧ c ≤ 126) then 1 else if T 18 0 = 60 then 2 else 0
def apT (T : TM) (c : Int) : TM := if kApp T c = 0 then sT (sT (sT T 5 0 0) 15 (T 18 0) c) 18 0 (T 18 0 + 1) else sT T 5 0 (kApp T c)
def zApp (T : TM) (c : Int) : Int := if kApp T c = 0 then T 18 0 + 1 else 0
def kRea (T : TM) (d : Int) : Int := if ¬ (0 ≤ d ∧ d ≤ 1) then 1 else if (if d = 1 then T 11 0 else T 9 0) = 0 then 2 else 0
def zRea (T : TM) (d b : Int) : Int := if kRea T d = 0 then (if b = 0 then (if d = 1 then T 11 0 else T 9 0) else if d = 1 then T 12 0 else T 10 0) else 0
def kAcc (w : Int) : Int := if 0 ≤ w ∧ w ≤ 13 then 0 else 1
def smA (r : Row) (w : Int) : Int := sumI (r 0) (fun a => fA r a w)
def zAcc (T : TM) (w : Int) : Int := if w = 0 then T 0 0 else if w = 1 then T 0 1 else if w = 2 then smA (T 0) 3 else if w = 3 then smA (T 0) 2 else if w = 4 then T 0 2 else if w = 5 then T 0 3 else if w = 6 then T 0 4 else if w = 7 then T 0 5 else if w = 8 then T 0 6 else if w = 9 then T 0 7 else if w = 10 then T 0 8 else if w = 11 then T 0 9 else if w = 12 then T 18 0 else if w = 13 then T 6 0 else 0
