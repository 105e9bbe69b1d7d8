set_option maxRecDepth 100000
theorem bZ_01 (p : Prop) [Decidable p] : bZ p = 0 ∨ bZ p = 1 := by unfold bZ; split <;> simp
theorem bZ_c {p q : Prop} [Decidable p] [Decidable q] (h : p ↔ q) : bZ p = bZ q := by unfold bZ; simp [h]
/-! SPEC: what the orders do, on a row of numbers; shared by both sides -/
/-! rows of numbers -/
abbrev Row : Type := Int → Int
def fA (r : Row) (a w : Int) : Int := r (56 + 6 * a + w)
def fS (r : Row) (s w : Int) : Int := r (26 + 3 * s + w)
def artOk (r : Row) (a : Int) : Prop := (1 ≤ fA r a 0 ∧ fA r a 0 ≤ 9) ∧ (0 ≤ fA r a 1 ∧ fA r a 1 ≤ 4) ∧ (0 ≤ fA r a 2 ∧ fA r a 2 ≤ 9) ∧ (fA r a 3 = 0 ∨ fA r a 3 = 1) ∧ (-1 ≤ fA r a 4 ∧ fA r a 4 ≤ 2) ∧ (fA r a 4 = -1 → fA r a 3 = 1 ∧ fA r a 2 = 0)
def shOk (r : Row) (s : Int) : Prop := (1 ≤ fS r s 0 ∧ fS r s 0 ≤ 9) ∧ (1 ≤ fS r s 1 ∧ fS r s 1 ≤ 3)
/-- what always holds of the row -/
def RI (r : Row) : Prop := ((0 ≤ r 0 ∧ r 0 ≤ 12) ∧ (0 ≤ r 1 ∧ r 1 ≤ r 0) ∧ (0 ≤ r 2 ∧ r 2 ≤ 8)) ∧ (∀ a, 0 ≤ a → a < r 0 → artOk r a) ∧ (∀ s, 0 ≤ s → s < r 2 → shOk r s) ∧
  (∀ k, 0 ≤ k → k < r 1 → 0 ≤ r (12 + k) ∧ r (12 + k) < r 0 ∧ fA r (r (12 + k)) 4 = -1) ∧ (∀ k l, 0 ≤ k → k < r 1 → 0 ≤ l → l < r 1 → r (12 + k) = r (12 + l) → k = l) ∧ (∀ a, 0 ≤ a → a < r 0 → fA r a 4 = -1 → ∃ k, 0 ≤ k ∧ k < r 1 ∧ r (12 + k) = a)
def sumZ (f : Int → Int) : Nat → Int
  | 0 => 0
  | n + 1 => sumZ f n + f n
def sumI (z : Int) (f : Int → Int) : Int := sumZ f z.toNat
theorem sumI_0 {f : Int → Int} : sumI 0 f = 0 := rfl
theorem sumI_s {f : Int → Int} {z : Int} (h : 0 ≤ z) : sumI (z + 1) f = sumI z f + f z := by
  unfold sumI
  have : (z + 1).toNat = z.toNat + 1 := by omega
  rw [this]
  show sumZ f z.toNat + f (z.toNat : Int) = _
  rw [Int.toNat_of_nonneg h]
theorem sumI_bd {f : Int → Int} {c : Int} (hf : ∀ a, 0 ≤ f a ∧ f a ≤ c) : ∀ n : Nat, 0 ≤ sumZ f n ∧ sumZ f n ≤ c * n := by
  intro n
  induction n with
  | zero => exact ⟨Int.le_refl _, by simp [sumZ]⟩
  | succ n ih =>
    have := hf n
    refine ⟨by show 0 ≤ sumZ f n + f n; omega, ?_⟩
    show sumZ f n + f n ≤ c * ((n + 1 : Nat) : Int)
    have e : c * ((n + 1 : Nat) : Int) = c * (n : Int) + c := by rw [Int.natCast_add, Int.mul_add]; simp
    omega
/-- the first place from k on, n more, where p holds; else -1 -/
def fndZ (p : Int → Prop) [DecidablePred p] (k : Int) : Nat → Int
  | 0 => -1
  | n + 1 => if p k then k else fndZ p (k + 1) n
def fnd (N : Int) (p : Int → Prop) [DecidablePred p] : Int := fndZ p 0 N.toNat
def onSh (r : Row) (s : Int) : Int := sumI (r 0) (fun a => bZ (fA r a 4 = s))
def plOf (r : Row) (a : Int) : Int := fnd (r 1) (fun k => r (12 + k) = a)
abbrev isArt (r : Row) (a : Int) : Prop := 0 ≤ a ∧ a ≤ r 0 - 1
abbrev isShd (r : Row) (s : Int) : Prop := 0 ≤ s ∧ s ≤ r 2 - 1

theorem fnd_s {N z : Int} {p : Int → Prop} [DecidablePred p] (h : z < N) : fndZ p z (N - z).toNat = if p z then z else fndZ p (z + 1) (N - (z + 1)).toNat := by
  have : (N - z).toNat = (N - (z + 1)).toNat + 1 := by omega
  rw [this]
  rfl
theorem fnd_e {N z : Int} {p : Int → Prop} [DecidablePred p] (h : N ≤ z) : fndZ p z (N - z).toNat = -1 := by
  have : (N - z).toNat = 0 := by omega
  rw [this]
  rfl
theorem fnd_r {p : Int → Prop} [DecidablePred p] : ∀ (n : Nat) (z : Int), 0 ≤ z → (fndZ p z n = -1 ∧ ∀ i, z ≤ i → i < z + n → ¬ p i) ∨ (z ≤ fndZ p z n ∧ fndZ p z n < z + n ∧ p (fndZ p z n) ∧ ∀ i, z ≤ i → i < fndZ p z n → ¬ p i) := by
  intro n
  induction n with
  | zero => intro z h; left; exact ⟨rfl, fun i h1 h2 => by omega⟩
  | succ n ih =>
    intro z h
    by_cases hp : p z
    · right
      have e : fndZ p z (n + 1) = z := by show (if p z then z else _) = z; rw [if_pos hp]
      rw [e]
      exact ⟨Int.le_refl _, by omega, hp, fun i h1 h2 => by omega⟩
    · have e : fndZ p z (n + 1) = fndZ p (z + 1) n := by show (if p z then z else _) = _; rw [if_neg hp]
      rw [e]
      rcases ih (z + 1) (by omega) with ⟨h1, h2⟩ | ⟨h1, h2, h3, h4⟩
      · left
        refine ⟨h1, fun i g1 g2 => ?_⟩
        by_cases ei : i = z
        · rw [ei]; exact hp
        · exact h2 i (by omega) (by omega)
      · right
        refine ⟨by omega, by omega, h3, fun i g1 g2 => ?_⟩
        by_cases ei : i = z
        · rw [ei]; exact hp
        · exact h4 i (by omega) (by omega)
theorem fnd_in {N : Int} {p : Int → Prop} [DecidablePred p] (h : N ≤ 100) : -1 ≤ fnd N p ∧ fnd N p < 100 ∧ InR (fnd N p) := by
  rcases fnd_r (p := p) N.toNat 0 (by omega) with ⟨h1, _⟩ | ⟨h1, h2, _⟩
  · unfold fnd; rw [h1]; omega
  · unfold fnd; omega
theorem onSh_in {r : Row} {s : Int} (h : r 0 ≤ 12) : 0 ≤ onSh r s ∧ onSh r s ≤ 12 := by
  have := sumI_bd (f := fun a => bZ (fA r a 4 = s)) (c := 1) (fun a => by rcases bZ_01 (fA r a 4 = s) with e | e <;> rw [e] <;> decide) (r 0).toNat
  unfold onSh sumI
  omega
/-- what is refused: its number, its detail -/
abbrev Rf : Type := Option (Int × Int)
def rfB (o : Rf) : Int := match o with
  | none => 0
  | some _ => 1
theorem rfB_in (o : Rf) : InR (rfB o) := by cases o <;> (dsimp only [rfB]; omega)
theorem rfB_01 (o : Rf) : rfB o = 0 ∨ rfB o = 1 := by cases o <;> simp [rfB]
theorem rfB_0 {o : Rf} : rfB o = 0 ↔ o = none := by cases o <;> simp [rfB]
def refArt (r : Row) (a : Int) : Rf := if ¬ (0 ≤ a ∧ a ≤ r 0 - 1) then some (2, a) else none
theorem rfB_some {o : Rf} {p : Int × Int} (e : o = some p) : rfB o = 1 := by rw [e]; rfl
theorem rfB_none {o : Rf} (e : o = none) : rfB o = 0 := by rw [e]; rfl
def refFull (r : Row) (s : Int) : Rf := if onSh r s = 4 then some (6, s) else none
def refLaw (r : Row) (a : Int) : Rf := if fA r a 4 < 0 then some (4, plOf r a) else none
def refClay (r : Row) (c s : Int) : Rf := if ¬ (1 ≤ c ∧ c ≤ 9) then some (3, c) else if ¬ (0 ≤ s ∧ s ≤ 2) then some (2, s) else if onSh r s = 4 then some (6, s) else if r 0 = 12 then some (1, 12) else none
def refGlaze (r : Row) (a : Int) : Rf := if ¬ (0 ≤ a ∧ a ≤ r 0 - 1) then some (2, a) else if fA r a 4 < 0 then some (4, plOf r a) else if fA r a 1 = 4 then some (7, 4) else none
def refShelve (r : Row) (a s : Int) : Rf := if ¬ (0 ≤ a ∧ a ≤ r 0 - 1) then some (2, a) else if ¬ (0 ≤ s ∧ s ≤ 2) then some (2, s) else if fA r a 4 < 0 then some (4, plOf r a) else if fA r a 4 = s then some (7, s) else if onSh r s = 4 then some (6, s) else none
def refFire (r : Row) (x : Int) : Rf := if ¬ (10 ≤ x ∧ x ≤ 99) then some (3, x) else if r 1 = r 0 then some (12, r 1) else none
def apZ (x y : Int) : Int := if x - y < 0 then -(x - y) else x - y
def apt (r : Row) (s a : Int) : Int := apZ (fS r s 0) (fA r a 0)
def refCite (r : Row) (s a : Int) : Rf := if ¬ (0 ≤ s ∧ s ≤ r 2 - 1) then some (2, s) else if ¬ (0 ≤ a ∧ a ≤ r 0 - 1) then some (2, a) else if fA r a 4 < 0 then some (4, plOf r a) else if fA r a 2 = 0 then some (10, fA r a 1) else if 2 < apt r s a then some (11, apt r s a) else none
def refRatify (r : Row) (a : Int) : Rf := if ¬ (0 ≤ a ∧ a ≤ r 0 - 1) then some (2, a) else if fA r a 4 < 0 then some (4, plOf r a) else if fA r a 3 = 0 then some (8, fA r a 0) else if 0 < fA r a 2 then some (9, fA r a 2) else none
def refRepeal (r : Row) (a s : Int) : Rf := if ¬ (0 ≤ a ∧ a ≤ r 0 - 1) then some (2, a) else if ¬ (0 ≤ s ∧ s ≤ 2) then some (2, s) else if 0 ≤ fA r a 4 then some (5, fA r a 4) else if onSh r s = 4 then some (6, s) else none
def refScrap (r : Row) (a : Int) : Rf := if ¬ (0 ≤ a ∧ a ≤ r 0 - 1) then some (2, a) else if fA r a 4 < 0 then some (4, plOf r a) else none
/-! what the orders do to the row -/
def uR (r : Row) (i z : Int) : Row := fun j => if j = i then z else r j
def uA (r : Row) (a w z : Int) : Row := uR r (56 + 6 * a + w) z
def cmR (r : Row) (c s : Int) : Row := fun j => if j = 0 then r 0 + 1 else if j = 56 + 6 * r 0 then c else if j = 56 + 6 * r 0 + 4 then s else if 56 + 6 * r 0 ≤ j ∧ j < 56 + 6 * r 0 + 6 then 0 else r j
def nz (z : Int) : Int := (iZ z).toInt
theorem nz_in (z : Int) : InR (nz z) := iR _
theorem nz_of {z : Int} (h : InR z) : nz z = z := iZ_toInt h
theorem iZ_nz (z : Int) : iZ (nz z) = iZ z := (iZ_of _).symm
/-- an article goes -/
def goR (r : Row) (a : Int) : Row := fun j => if j = 0 then r 0 - 1 else if 12 ≤ j ∧ j < 12 + r 1 then (if a < r j then r j - 1 else r j) else if 56 + 6 * a ≤ j ∧ j < 56 + 6 * (r 0 - 1) then r (j + 6) else if 56 + 6 * (r 0 - 1) ≤ j ∧ j < 56 + 6 * (r 0 - 1) + 6 then 0 else r j
/-- a shard goes -/
def sgR (r : Row) (s : Int) : Row := fun j => if j = 2 then r 2 - 1 else if j = 7 then nz (r 7 + 1) else if 26 + 3 * s ≤ j ∧ j < 26 + 3 * (r 2 - 1) then r (j + 3) else if 26 + 3 * (r 2 - 1) ≤ j ∧ j < 26 + 3 * (r 2 - 1) + 3 then 0 else r j
def sc1 (r : Row) : Row := if r 2 = 8 then sgR r 0 else r
/-- a shard comes -/
def scR (r : Row) (c : Int) : Row := fun j => if j = 2 then sc1 r 2 + 1 else if j = 26 + 3 * sc1 r 2 then c else if j = 26 + 3 * sc1 r 2 + 1 then 3 else if j = 26 + 3 * sc1 r 2 + 2 then sc1 r 3 else sc1 r j
/-! heat -/
def heatZ (s x : Int) : Int := if 15 * s < x then x - 15 * s else 0
def limZ (r : Row) (a : Int) : Int := 10 * fA r a 0 + 10 + 8 * fA r a 1
def crZ (r : Row) (a x : Int) : Int := if fA r a 4 < 0 then 0 else if 0 < heatZ (fA r a 4) x - limZ r a then 1 + (heatZ (fA r a 4) x - limZ r a) / 5 else 0
abbrev burP (r : Row) (a x : Int) : Prop := 9 < fA r a 2 + crZ r a x
abbrev firP (r : Row) (a x : Int) : Prop := 0 ≤ fA r a 4 ∧ 10 * fA r a 0 ≤ heatZ (fA r a 4) x
def leZ (x y : Int) : Int := if x < y then x else y
theorem heat_in {s x : Int} (hs : -1 ≤ s ∧ s ≤ 2) (hx : 10 ≤ x ∧ x ≤ 99) : 0 ≤ heatZ s x ∧ heatZ s x ≤ 114 := by unfold heatZ; split <;> omega
theorem lim_in {r : Row} {a : Int} (ho : artOk r a) : 20 ≤ limZ r a ∧ limZ r a ≤ 132 := by unfold artOk at ho; unfold limZ; omega
theorem cr_in {r : Row} {a x : Int} (ho : artOk r a) (hx : 10 ≤ x ∧ x ≤ 99) : 0 ≤ crZ r a x ∧ crZ r a x ≤ 20 := by
  have h1 := heat_in (s := fA r a 4) (x := x) ho.2.2.2.2.1 hx
  have h2 := lim_in ho
  unfold crZ
  (repeat' split) <;> omega
theorem ap_in {x y : Int} (hx : 1 ≤ x ∧ x ≤ 9) (hy : 1 ≤ y ∧ y ≤ 9) : 0 ≤ apZ x y ∧ apZ x y ≤ 8 := by unfold apZ; split <;> omega
/-! what the orders do, whole -/
def raR (r : Row) (a : Int) : Row := fun j => if j = 1 then r 1 + 1 else if j = 8 then nz (r 8 + 1) else if j = 12 + r 1 then a else if j = 56 + 6 * a + 4 then -1 else r j
def reR (r : Row) (a s : Int) : Row := fun j => if j = 1 then r 1 - 1 else if j = 9 then nz (r 9 + 1) else if j = 56 + 6 * a + 4 then s else if j = 56 + 6 * a + 3 then 0 else if 12 + plOf r a ≤ j ∧ j < 12 + (r 1 - 1) then r (j + 1) else if j = 12 + (r 1 - 1) then 0 else r j
def ciN (r : Row) (s a : Int) : Int := leZ (fA r a 2) (3 - apt r s a)
def ci1 (r : Row) (s a : Int) : Row := fun j => if j = 5 then nz (r 5 + 1) else if j = 6 then nz (r 6 + ciN r s a) else if j = 56 + 6 * a + 2 then fA r a 2 - ciN r s a else if j = 26 + 3 * s + 1 then fS r s 1 - 1 else r j
def ciR (r : Row) (s a : Int) : Row := if fS r s 1 = 1 then sgR (ci1 r s a) s else ci1 r s a
/-! QUERIES: k.. = what is thrown (0: nothing), z.. = what is told -/
def kArt (r : Row) (a w : Int) : Int := if ¬ (0 ≤ a ∧ a ≤ r 0 - 1) then 1 else if ¬ (0 ≤ w ∧ w ≤ 7) then 2 else 0
def zArt (r : Row) (a w : Int) : Int := if ¬ (0 ≤ a ∧ a ≤ r 0 - 1) then 0 else if w = 0 then fA r a 0 else if w = 1 then fA r a 1 else if w = 2 then fA r a 2 else if w = 3 then fA r a 3 else if w = 4 then fA r a 4 else if w = 5 then plOf r a else if w = 6 then limZ r a else if w = 7 then fA r a 5 else 0
def kShd (r : Row) (s w : Int) : Int := if ¬ (0 ≤ s ∧ s ≤ r 2 - 1) then 1 else if ¬ (0 ≤ w ∧ w ≤ 2) then 2 else 0
def zShd (r : Row) (s w : Int) : Int := if kShd r s w = 0 then fS r s w else 0
def rawSh (r : Row) (s : Int) : Int := sumI (r 0) (fun a => bZ (fA r a 4 = s ∧ fA r a 3 = 0))
def crkSh (r : Row) (s : Int) : Int := sumI (r 0) (fun a => if fA r a 4 = s then fA r a 2 else 0)
def kShf (s w : Int) : Int := if ¬ (0 ≤ s ∧ s ≤ 2) then 1 else if ¬ (0 ≤ w ∧ w ≤ 3) then 2 else 0
def zShf (r : Row) (s w : Int) : Int := if ¬ (0 ≤ s ∧ s ≤ 2) then 0 else if w = 0 then onSh r s else if w = 1 then rawSh r s else if w = 2 then crkSh r s else if w = 3 then 4 - onSh r s else 0
def kLaw (r : Row) (p : Int) : Int := if 0 ≤ p ∧ p ≤ r 1 - 1 then 0 else 1
def zLaw (r : Row) (p : Int) : Int := if 0 ≤ p ∧ p ≤ r 1 - 1 then r (12 + p) else 0
def kHeat (s x : Int) : Int := if ¬ (0 ≤ s ∧ s ≤ 2) then 1 else if 10 ≤ x ∧ x ≤ 99 then 0 else 2
def zHeat (s x : Int) : Int := if kHeat s x = 0 then heatZ s x else 0
def kCrk (r : Row) (a x : Int) : Int := if ¬ (0 ≤ a ∧ a ≤ r 0 - 1) then 1 else if 10 ≤ x ∧ x ≤ 99 then 0 else 2
def zCrk (r : Row) (a x : Int) : Int := if kCrk r a x = 0 then crZ r a x else 0
theorem crkSh_in {r : Row} {s : Int} (hI : RI r) : 0 ≤ crkSh r s ∧ crkSh r s ≤ 108 := by
  have key : ∀ n : Nat, (n : Int) ≤ r 0 → 0 ≤ sumZ (fun a => if fA r a 4 = s then fA r a 2 else 0) n ∧ sumZ (fun a => if fA r a 4 = s then fA r a 2 else 0) n ≤ 9 * n := by
    intro n
    induction n with
    | zero => intro _; exact ⟨Int.le_refl _, by simp [sumZ]⟩
    | succ n ih =>
      intro h
      have h1 := ih (by omega)
      have ho := hI.2.1 n (by omega) (by omega)
      unfold artOk at ho
      show 0 ≤ sumZ _ n + (if fA r n 4 = s then fA r n 2 else 0) ∧ sumZ _ n + (if fA r n 4 = s then fA r n 2 else 0) ≤ _
      split <;> omega
  have b := hI.1
  have := key (r 0).toNat (by omega)
  unfold crkSh sumI
  omega
theorem rawSh_in {r : Row} {s : Int} (h : r 0 ≤ 12) : 0 ≤ rawSh r s ∧ rawSh r s ≤ 12 := by
  have := sumI_bd (f := fun a => bZ (fA r a 4 = s ∧ fA r a 3 = 0)) (c := 1) (fun a => by rcases bZ_01 (fA r a 4 = s ∧ fA r a 3 = 0) with e | e <;> rw [e] <;> decide) (r 0).toNat
  unfold rawSh sumI
  omega
/-- a heat without cracks; the greatest -/
def safe (r : Row) (x : Int) : Prop := ∀ a, 0 ≤ a → a < r 0 → crZ r a x ≤ 0
