set_option maxRecDepth 100000
/-! JDK, part 5: LinkedList -/
abbrev nxV (n : Nat) (nd : Nat → Nat) (i : Nat) : Value := rfN (i + 1 < n) (nd (i + 1))
abbrev pvV (nd : Nat → Nat) (i : Nat) : Value := rfN (0 < i) (nd (i - 1))
/-- a LinkedList at a with tag t: n things, nodes nd, e of them -/
def LL (t : Tg) (a : Nat) (mc : Int32) (n : Nat) (nd e : Nat → Nat) (h : Hp) : Prop :=
  n ≤ 100 ∧ h a = some (t, ob 10 [.int mc, .int (iZ n), rfN (0 < n) (nd 0), rfN (0 < n) (nd (n - 1))]) ∧ (∀ i, i < n → h (nd i) = some (t, ob 12 [.ref (e i), nxV n nd i, pvV nd i])) ∧ ∀ i j, i < n → j < n → nd i = nd j → i = j
theorem LL.fr {t : Tg} {a : Nat} {mc : Int32} {n : Nat} {nd e : Nat → Nat} {h h' : Hp} {P : Tg → Prop} (hA : LL t a mc n nd e h) (hf : Fr P h h') (h1 : ¬ P t) : LL t a mc n nd e h' :=
  ⟨hA.1, hf.get hA.2.1 h1, fun i hi => hf.get (hA.2.2.1 i hi) h1, hA.2.2.2⟩
theorem LL.cg {t : Tg} {a : Nat} {mc : Int32} {n : Nat} {nd e e' : Nat → Nat} {h : Hp} (hA : LL t a mc n nd e h) (he : ∀ i, i < n → e' i = e i) : LL t a mc n nd e' h :=
  ⟨hA.1, hA.2.1, fun i hi => by rw [he i hi]; exact hA.2.2.1 i hi, hA.2.2.2⟩
theorem LL.new {t : Tg} {a : Nat} {nd e : Nat → Nat} {h : Hp} (ha : h a = some (t, ob 10 [.int (iZ 0), .int (iZ 0), .null, .null])) : LL t a (iZ 0) 0 nd e h :=
  ⟨by omega, ha, fun i hi => absurd hi (by omega), fun i j hi => absurd hi (by omega)⟩
theorem LL.ane {t : Tg} {a : Nat} {mc : Int32} {n : Nat} {nd e : Nat → Nat} {h : Hp} (hA : LL t a mc n nd e h) {i : Nat} (hi : i < n) : a ≠ nd i := ne_of hA.2.1 (hA.2.2.1 i hi) (by intro e; simp [ob] at e)
theorem LL.nne {t : Tg} {a : Nat} {mc : Int32} {n : Nat} {nd e : Nat → Nat} {h : Hp} (hA : LL t a mc n nd e h) {i j : Nat} (hi : i < n) (hj : j < n) (hn : i ≠ j) : nd i ≠ nd j := fun e => hn (hA.2.2.2 i j hi hj e)
theorem rfN_cg {p q : Prop} [Decidable p] [Decidable q] {x y : Nat} (h : p ↔ q) (e : p → x = y) : rfN p x = rfN q y := by
  by_cases hp : p
  · rw [rfN_t hp, rfN_t (h.mp hp), e hp]
  · rw [rfN_f hp, rfN_f (fun q => hp (h.mpr q))]
theorem rfN_r {p : Prop} [Decidable p] {x y : Nat} (h : p) (e : x = y) : rfN p x = .ref y := by rw [rfN_t h, e]
theorem ndE {h : Hp} {x : Nat} {t : Tg} {r s v1 v2 w1 w2 : Value} (hx : h x = some (t, ob 12 [r, v1, v2])) (e0 : r = s) (e1 : v1 = w1) (e2 : v2 = w2) : h x = some (t, ob 12 [s, w1, w2]) := by rw [hx, e0, e1, e2]
theorem hdE {h : Hp} {x : Nat} {t : Tg} {m s1 s2 v1 v2 w1 w2 : Value} (hx : h x = some (t, ob 10 [m, s1, v1, v2])) (e0 : s1 = s2) (e1 : v1 = w1) (e2 : v2 = w2) : h x = some (t, ob 10 [m, s2, w1, w2]) := by rw [hx, e0, e1, e2]
def adF (e : Nat → Nat) (n o : Nat) : Nat → Nat := fun i => if i = n then o else e i
theorem ad_s {e : Nat → Nat} {n o i : Nat} (h : i = n) : adF e n o i = o := if_pos h
theorem ad_n {e : Nat → Nat} {n o i : Nat} (h : i ≠ n) : adF e n o i = e i := if_neg h
theorem rm_lt {e : Nat → Nat} {l i : Nat} (h : i < l) : rmF1 e l i = e i := if_pos h
theorem rm_ge {e : Nat → Nat} {l i : Nat} (h : l ≤ i) : rmF1 e l i = e (i + 1) := if_neg (by omega)
theorem LL.add {t : Tg} {a q o : Nat} {mc mc' : Int32} {n : Nat} {nd e : Nat → Nat} {h h' : Hp} (hA : LL t a mc n nd e h) (hn : n < 100) (hq : h q = none) (h1 : h' a = some (t, ob 10 [.int mc', .int (iZ (n + 1)), .ref (if n = 0 then q else nd 0), .ref q]))
    (h2 : h' q = some (t, ob 12 [.ref o, .null, pvV nd n])) (h3 : ∀ i, i < n → i + 1 ≠ n → h' (nd i) = h (nd i)) (h4 : ∀ i, i + 1 = n → h' (nd i) = some (t, ob 12 [.ref (e i), .ref q, pvV nd i])) : LL t a mc' (n + 1) (adF nd n q) (adF e n o) h' := by
  have hz : ∀ i, i < n → nd i ≠ q := fun i hi e => by have := hA.2.2.1 i hi; rw [e, hq] at this; cases this
  refine ⟨by omega, hdE h1 rfl ?_ ?_, fun i hi => ?_, fun i j hi hj e => ?_⟩
  · by_cases h0 : n = 0
    · rw [if_pos h0, rfN_r (by omega) (ad_s h0.symm)]
    · rw [if_neg h0, rfN_r (by omega) (ad_n (Ne.symm h0))]
  · rw [rfN_r (by omega) (ad_s (by omega))]
  · by_cases hin : i = n
    · subst hin
      rw [ad_s rfl, ad_s rfl]
      exact ndE h2 rfl (rfN_f (by omega)).symm (rfN_cg Iff.rfl (fun q => (ad_n (by omega)).symm))
    · rw [ad_n hin, ad_n hin]
      have ep : pvV nd i = pvV (adF nd n q) i := rfN_cg Iff.rfl (fun _ => (ad_n (by omega)).symm)
      by_cases hl : i + 1 = n
      · exact ndE (h4 i hl) rfl (rfN_r (by omega) (ad_s hl)).symm ep
      · exact ndE ((h3 i (by omega) hl).trans (hA.2.2.1 i (by omega))) rfl (rfN_cg (by omega) (fun _ => (ad_n hl).symm)) ep
  · by_cases a1 : i = n <;> by_cases b1 : j = n
    · omega
    · rw [ad_s a1, ad_n b1] at e; exact absurd e.symm (hz j (by omega))
    · rw [ad_n a1, ad_s b1] at e; exact absurd e (hz i (by omega))
    · rw [ad_n a1, ad_n b1] at e; exact hA.2.2.2 i j (by omega) (by omega) e
theorem LL.rem {t : Tg} {a l : Nat} {mc mc' : Int32} {n : Nat} {nd e : Nat → Nat} {h h' : Hp} (hA : LL t a mc n nd e h) (hl : l < n) {v1 v2 : Value} (h1 : h' a = some (t, ob 10 [.int mc', .int (iZ (n - 1)), v1, v2])) (g1 : v1 = if l = 0 then nxV n nd 0 else .ref (nd 0)) (g2 : v2 = if l + 1 = n then pvV nd l else .ref (nd (n - 1)))
    (h2 : ∀ i, i < n → i ≠ l → i + 1 ≠ l → i ≠ l + 1 → h' (nd i) = h (nd i)) (h3 : ∀ i, i + 1 = l → h' (nd i) = some (t, ob 12 [.ref (e i), nxV n nd l, pvV nd i])) (h4 : ∀ i, i < n → i = l + 1 → h' (nd i) = some (t, ob 12 [.ref (e i), nxV n nd i, pvV nd l])) : LL t a mc' (n - 1) (rmF1 nd l) (rmF1 e l) h' := by
  have hb := hA.1
  refine ⟨by omega, hdE h1 (by rw [show ((n : Int) - 1) = ((n - 1 : Nat) : Int) by omega]) ?_ ?_, fun i hi => ?_, fun i j hi hj e => ?_⟩
  · rw [g1]
    by_cases l0 : l = 0
    · rw [if_pos l0]
      exact rfN_cg (by omega) (fun _ => (rm_ge (by omega)).symm)
    · rw [if_neg l0, rfN_r (by omega) (rm_lt (by omega))]
  · rw [g2]
    by_cases l1 : l + 1 = n
    · rw [if_pos l1]
      exact rfN_cg (by omega) (fun _ => by rw [rm_lt (by omega)]; congr 1; omega)
    · rw [if_neg l1, rfN_r (by omega) (rm_ge (by omega)), show n - 1 - 1 + 1 = n - 1 by omega]
  · by_cases hil : i < l
    · rw [rm_lt hil, rm_lt hil]
      have ep : pvV nd i = pvV (rmF1 nd l) i := rfN_cg Iff.rfl (fun _ => (rm_lt (by omega)).symm)
      by_cases e1 : i + 1 = l
      · exact ndE (h3 i e1) rfl (rfN_cg (by omega) (fun _ => by rw [rm_ge (by omega), e1])) ep
      · exact ndE ((h2 i (by omega) (by omega) e1 (by omega)).trans (hA.2.2.1 i (by omega))) rfl (rfN_cg (by omega) (fun _ => (rm_lt (by omega)).symm)) ep
    · rw [rm_ge (by omega), rm_ge (by omega)]
      have en : nxV n nd (i + 1) = nxV (n - 1) (rmF1 nd l) i := rfN_cg (by omega) (fun _ => (rm_ge (by omega)).symm)
      by_cases e1 : i = l
      · exact ndE (h4 (i + 1) (by omega) (by omega)) rfl en (rfN_cg (by omega) (fun _ => by rw [rm_lt (by omega), e1]))
      · exact ndE ((h2 (i + 1) (by omega) (by omega) (by omega) (by omega)).trans (hA.2.2.1 (i + 1) (by omega))) rfl en (rfN_cg (by omega) (fun _ => by rw [rm_ge (by omega)]; congr 1; omega))
  · by_cases a1 : i < l <;> by_cases b1 : j < l
    · rw [rm_lt a1, rm_lt b1] at e; exact hA.2.2.2 i j (by omega) (by omega) e
    · rw [rm_lt a1, rm_ge (by omega)] at e; have := hA.2.2.2 i (j + 1) (by omega) (by omega) e; omega
    · rw [rm_ge (by omega), rm_lt b1] at e; have := hA.2.2.2 (i + 1) j (by omega) (by omega) e; omega
    · rw [rm_ge (by omega), rm_ge (by omega)] at e; have := hA.2.2.2 (i + 1) (j + 1) (by omega) (by omega) e; omega

