set_option maxRecDepth 100000
/-! the class, part 8: a state that changes, step by step -/
section SWX
variable {G : Gl} {T s : Nat} {r r' : Row} {al cl sl : Nat} {m1 m2 m3 : Int32} {n1 n2 E F : Nat → Nat} {h h' : Hp}
theorem aC_cg {a b : Int} (e : ∀ w, 0 ≤ w → w < 6 → fA r' b w = fA r a w) : aC r' b = aC r a := by
  show ob 4 _ = ob 4 _
  rw [e 0 (by omega) (by omega), e 1 (by omega) (by omega), e 2 (by omega) (by omega), e 3 (by omega) (by omega), e 4 (by omega) (by omega), e 5 (by omega) (by omega)]
theorem sC_cg {a b : Int} (e : ∀ w, 0 ≤ w → w < 3 → fS r' b w = fS r a w) : sC r' b = sC r a := by
  show ob 5 _ = ob 5 _
  rw [e 0 (by omega) (by omega), e 1 (by omega) (by omega), e 2 (by omega) (by omega)]
theorem SWx.cg (hX : SWx G T s r al cl sl m1 m2 m3 n1 n2 E F h) (hr : ∀ j, (0 ≤ j ∧ j ≤ 9) ∨ (12 ≤ j ∧ j < 12 + r 1) ∨ (26 ≤ j ∧ j < 26 + 3 * r 2) ∨ (56 ≤ j ∧ j < 56 + 6 * r 0) → r' j = r j) : SWx G T s r' al cl sl m1 m2 m3 n1 n2 E F h := by
  obtain ⟨w1, w2, w3, w4, w5, w6, w7, w8⟩ := hX
  have e0 := hr 0 (by omega)
  have e1 := hr 1 (by omega)
  have e2 := hr 2 (by omega)
  refine ⟨?_, by rw [e0]; exact w2, ?_, by rw [e2]; exact w4, ?_, ?_, by rw [e0]; exact w7, by rw [e2]; exact w8⟩
  · rw [hr 3 (by omega), hr 4 (by omega), hr 5 (by omega), hr 6 (by omega), hr 7 (by omega), hr 8 (by omega), hr 9 (by omega)]; exact w1
  · rw [e1]; exact w3.cg (fun k hk => by show E (r' (12 + (k : Int))).toNat = E (r (12 + (k : Int))).toNat; rw [hr (12 + k) (by omega)])
  · intro i hi
    rw [e0] at hi
    rw [w5 i hi, aC_cg (r' := r') (r := r) (a := i) (b := i) (fun w w0 w1 => hr _ (by omega))]
  · intro i hi
    rw [e2] at hi
    rw [w6 i hi, sC_cg (r' := r') (r := r) (a := i) (b := i) (fun w w0 w1 => hr _ (by omega))]
theorem tne {T a b : Nat} (h : a ≠ b) : ((T, a) : Tg) ≠ (T, b) := fun e => h (congrArg Prod.snd e)
theorem tnz {T b : Nat} (h : b ≠ 0) : frz ≠ ((T, b) : Tg) := fun e => h (congrArg Prod.snd e).symm
theorem SWx.art (hX : SWx G T s r al cl sl m1 m2 m3 n1 n2 E F h) {a : Int} (ha : 0 ≤ a ∧ a < r 0) (b : r 0 ≤ 12 ∧ r 1 ≤ 12 ∧ r 2 ≤ 8) (hh : h' = up h (E a.toNat) ((T, 4), aC r' a)) (hr : ∀ j, (j < 56 + 6 * a ∨ 56 + 6 * a + 6 ≤ j) → r' j = r j) : SWx G T s r' al cl sl m1 m2 m3 n1 n2 E F h' := by
  obtain ⟨w1, w2, w3, w4, w5, w6, w7, w8⟩ := hX
  have ea : ((a.toNat : Nat) : Int) = a := by omega
  have hf : Fr (fun x => x = (T, 4)) h h' := by rw [hh]; exact Fr.upd (w5 a.toNat (by omega)) rfl
  have e0 := hr 0 (by omega)
  have e1 := hr 1 (by omega)
  have e2 := hr 2 (by omega)
  refine ⟨?_, by rw [e0]; exact w2.fr hf (tne (by decide)) (tnz (by decide)), ?_, by rw [e2]; exact w4.fr hf (tne (by decide)), ?_, ?_, by rw [e0]; exact w7, by rw [e2]; exact w8⟩
  · rw [hr 3 (by omega), hr 4 (by omega), hr 5 (by omega), hr 6 (by omega), hr 7 (by omega), hr 8 (by omega), hr 9 (by omega)]; exact hf.get w1 (tne (by decide))
  · rw [e1]; exact (w3.fr hf (tne (by decide))).cg (fun k hk => by show E (r' (12 + (k : Int))).toNat = E (r (12 + (k : Int))).toNat; rw [hr (12 + k) (by omega)])
  · intro i hi
    rw [e0] at hi
    by_cases e : i = a.toNat
    · subst e; rw [hh, up_s, ea]
    · rw [hh, up_n (fun q => e (w7 i a.toNat hi (by omega) q)), w5 i hi, aC_cg (r' := r') (r := r) (a := i) (b := i) (fun w w0 w1 => hr _ (by omega))]
  · intro i hi
    rw [e2] at hi
    rw [hf.get (w6 i hi) (tne (by decide)), sC_cg (r' := r') (r := r) (a := i) (b := i) (fun w w0 w1 => hr _ (by omega))]
theorem SWx.shd (hX : SWx G T s r al cl sl m1 m2 m3 n1 n2 E F h) {a : Int} (ha : 0 ≤ a ∧ a < r 2) (b : r 0 ≤ 12 ∧ r 1 ≤ 12 ∧ r 2 ≤ 8) (hh : h' = up h (F a.toNat) ((T, 5), sC r' a)) (hr : ∀ j, (j < 26 + 3 * a ∨ 26 + 3 * a + 3 ≤ j) → r' j = r j) : SWx G T s r' al cl sl m1 m2 m3 n1 n2 E F h' := by
  obtain ⟨w1, w2, w3, w4, w5, w6, w7, w8⟩ := hX
  have ea : ((a.toNat : Nat) : Int) = a := by omega
  have hf : Fr (fun x => x = (T, 5)) h h' := by rw [hh]; exact Fr.upd (w6 a.toNat (by omega)) rfl
  have e0 := hr 0 (by omega)
  have e1 := hr 1 (by omega)
  have e2 := hr 2 (by omega)
  refine ⟨?_, by rw [e0]; exact w2.fr hf (tne (by decide)) (tnz (by decide)), ?_, by rw [e2]; exact w4.fr hf (tne (by decide)), ?_, ?_, by rw [e0]; exact w7, by rw [e2]; exact w8⟩
  · rw [hr 3 (by omega), hr 4 (by omega), hr 5 (by omega), hr 6 (by omega), hr 7 (by omega), hr 8 (by omega), hr 9 (by omega)]; exact hf.get w1 (tne (by decide))
  · rw [e1]; exact (w3.fr hf (tne (by decide))).cg (fun k hk => by show E (r' (12 + (k : Int))).toNat = E (r (12 + (k : Int))).toNat; rw [hr (12 + k) (by omega)])
  · intro i hi
    rw [e0] at hi
    rw [hf.get (w5 i hi) (tne (by decide)), aC_cg (r' := r') (r := r) (a := i) (b := i) (fun w w0 w1 => hr _ (by omega))]
  · intro i hi
    rw [e2] at hi
    by_cases e : i = a.toNat
    · subst e; rw [hh, up_s, ea]
    · rw [hh, up_n (fun q => e (w8 i a.toNat hi (by omega) q)), w6 i hi, sC_cg (r' := r') (r := r) (a := i) (b := i) (fun w w0 w1 => hr _ (by omega))]
theorem SWx.sc (hX : SWx G T s r al cl sl m1 m2 m3 n1 n2 E F h) (hT : T ≠ 0) (hh : h' = up h s ((T, 0), ob 1 [.ref al, .ref cl, .ref sl, .int (iZ (r' 3)), .int (iZ (r' 4)), .int (iZ (r' 5)), .int (iZ (r' 6)), .int (iZ (r' 7)), .int (iZ (r' 8)), .int (iZ (r' 9))])) (hr : ∀ j, (j < 3 ∨ 9 < j) → r' j = r j) : SWx G T s r' al cl sl m1 m2 m3 n1 n2 E F h' := by
  obtain ⟨w1, w2, w3, w4, w5, w6, w7, w8⟩ := hX
  have hf : Fr (fun x => x = (T, 0)) h h' := by rw [hh]; exact Fr.upd w1 rfl
  have hz : ¬ (frz = ((T, 0) : Tg)) := fun e => hT (congrArg Prod.fst e).symm
  have e0 := hr 0 (by omega)
  have e1 := hr 1 (by omega)
  have e2 := hr 2 (by omega)
  refine ⟨by rw [hh, up_s], by rw [e0]; exact w2.fr hf (tne (by decide)) hz, ?_, by rw [e2]; exact w4.fr hf (tne (by decide)), ?_, ?_, by rw [e0]; exact w7, by rw [e2]; exact w8⟩
  · rw [e1]; exact (w3.fr hf (tne (by decide))).cg (fun k hk => by show E (r' (12 + (k : Int))).toNat = E (r (12 + (k : Int))).toNat; rw [hr (12 + k) (by omega)])
  · intro i hi
    rw [e0] at hi
    rw [hf.get (w5 i hi) (tne (by decide)), aC_cg (r' := r') (r := r) (a := i) (b := i) (fun w w0 w1 => hr _ (by omega))]
  · intro i hi
    rw [e2] at hi
    rw [hf.get (w6 i hi) (tne (by decide)), sC_cg (r' := r') (r := r) (a := i) (b := i) (fun w w0 w1 => hr _ (by omega))]
/-- an article is added -/
theorem SWx.addA (hX : SWx G T s r al cl sl m1 m2 m3 n1 n2 E F h) {q : Nat} {m1' : Int32} (h0 : 0 ≤ r 0) (hA : AL G (T, 1) al m1' ((r 0).toNat + 1) (fun i => if i = (r 0).toNat then q else E i) h') (hf : Fr (fun x => x = (T, 1)) h h') (hq : h q = some ((T, 4), aC r' (r 0))) (hne : ∀ i : Nat, i < (r 0).toNat → E i ≠ q)
    (hlaw : ∀ k, 0 ≤ k → k < r 1 → 0 ≤ r (12 + k) ∧ r (12 + k) < r 0) (hr0 : r' 0 = r 0 + 1) (b : r 1 ≤ 12 ∧ r 2 ≤ 8) (hr : ∀ j, (1 ≤ j ∧ j < 56 + 6 * r 0) → r' j = r j) : SWx G T s r' al cl sl m1' m2 m3 n1 n2 (fun i => if i = (r 0).toNat then q else E i) F h' := by
  obtain ⟨w1, w2, w3, w4, w5, w6, w7, w8⟩ := hX
  have e0 : (r' 0).toNat = (r 0).toNat + 1 := by rw [hr0]; omega
  have e1 := hr 1 (by omega)
  have e2 := hr 2 (by omega)
  refine ⟨?_, by rw [e0]; exact hA, ?_, by rw [e2]; exact w4.fr hf (tne (by decide)), ?_, ?_, ?_, by rw [e2]; exact w8⟩
  · rw [hr 3 (by omega), hr 4 (by omega), hr 5 (by omega), hr 6 (by omega), hr 7 (by omega), hr 8 (by omega), hr 9 (by omega)]; exact hf.get w1 (tne (by decide))
  · rw [e1]; exact (w3.fr hf (tne (by decide))).cg (fun k hk => by
      have := hlaw k (by omega) (by omega)
      show (if (r' (12 + (k : Int))).toNat = (r 0).toNat then q else E (r' (12 + (k : Int))).toNat) = E (r (12 + (k : Int))).toNat
      rw [hr (12 + k) (by omega), if_neg (by omega)])
  · intro i hi
    rw [e0] at hi
    show h' (if i = (r 0).toNat then q else E i) = _
    by_cases e : i = (r 0).toNat
    · rw [if_pos e, hf.get hq (tne (by decide)), e, show (((r 0).toNat : Nat) : Int) = r 0 by omega]
    · rw [if_neg e, hf.get (w5 i (by omega)) (tne (by decide)), aC_cg (r' := r') (r := r) (a := i) (b := i) (fun w w0 w1 => hr _ (by omega))]
  · intro i hi
    rw [e2] at hi
    rw [hf.get (w6 i hi) (tne (by decide)), sC_cg (r' := r') (r := r) (a := i) (b := i) (fun w w0 w1 => hr _ (by omega))]
  · intro i j hi hj e
    rw [e0] at hi hj
    have e : (if i = (r 0).toNat then q else E i) = (if j = (r 0).toNat then q else E j) := e
    by_cases ei : i = (r 0).toNat <;> by_cases ej : j = (r 0).toNat
    · omega
    · rw [if_pos ei, if_neg ej] at e; exact absurd e.symm (hne j (by omega))
    · rw [if_neg ei, if_pos ej] at e; exact absurd e (hne i (by omega))
    · rw [if_neg ei, if_neg ej] at e; exact w7 i j (by omega) (by omega) e
/-- a law is added -/
theorem SWx.addL (hX : SWx G T s r al cl sl m1 m2 m3 n1 n2 E F h) {a : Int} {m2' : Int32} {n1' : Nat → Nat} (h0 : 0 ≤ r 1) (hA : LL (T, 2) cl m2' ((r 1).toNat + 1) n1' (adF (fun k => E (r (12 + k)).toNat) (r 1).toNat (E a.toNat)) h') (hf : Fr (fun x => x = (T, 2)) h h')
    (hr1 : r' 1 = r 1 + 1) (hra : r' (12 + r 1) = a) (b : r 1 < 12 ∧ r 2 ≤ 8) (hr : ∀ j, j ≠ 1 → j ≠ 12 + r 1 → r' j = r j) : SWx G T s r' al cl sl m1 m2' m3 n1' n2 E F h' := by
  obtain ⟨w1, w2, w3, w4, w5, w6, w7, w8⟩ := hX
  have e0 := hr 0 (by omega) (by omega)
  have e1 : (r' 1).toNat = (r 1).toNat + 1 := by rw [hr1]; omega
  have e2 := hr 2 (by omega) (by omega)
  refine ⟨?_, by rw [e0]; exact w2.fr hf (tne (by decide)) (tnz (by decide)), ?_, by rw [e2]; exact w4.fr hf (tne (by decide)), ?_, ?_, by rw [e0]; exact w7, by rw [e2]; exact w8⟩
  · rw [hr 3 (by omega) (by omega), hr 4 (by omega) (by omega), hr 5 (by omega) (by omega), hr 6 (by omega) (by omega), hr 7 (by omega) (by omega), hr 8 (by omega) (by omega), hr 9 (by omega) (by omega)]; exact hf.get w1 (tne (by decide))
  · rw [e1]; exact hA.cg (fun k hk => by
      show E (r' (12 + (k : Int))).toNat = _
      by_cases e : k = (r 1).toNat
      · rw [ad_s e, show (12 + (k : Int)) = 12 + r 1 by omega, hra]
      · rw [ad_n e, hr (12 + k) (by omega) (by omega)])
  · intro i hi
    rw [e0] at hi
    rw [hf.get (w5 i hi) (tne (by decide)), aC_cg (r' := r') (r := r) (a := i) (b := i) (fun w w0 w1 => hr _ (by omega) (by omega))]
  · intro i hi
    rw [e2] at hi
    rw [hf.get (w6 i hi) (tne (by decide)), sC_cg (r' := r') (r := r) (a := i) (b := i) (fun w w0 w1 => hr _ (by omega) (by omega))]
/-- a shard is added -/
theorem SWx.addS (hX : SWx G T s r al cl sl m1 m2 m3 n1 n2 E F h) {q : Nat} {m3' : Int32} {n2' : Nat → Nat} (h0 : 0 ≤ r 2) (hA : LL (T, 3) sl m3' ((r 2).toNat + 1) n2' (adF F (r 2).toNat q) h') (hf : Fr (fun x => x = (T, 3)) h h') (hq : h q = some ((T, 5), sC r' (r 2))) (hne : ∀ i : Nat, i < (r 2).toNat → F i ≠ q)
    (hr2 : r' 2 = r 2 + 1) (b : r 1 ≤ 12 ∧ r 2 < 8) (hr : ∀ j, j ≠ 2 → (j < 26 + 3 * r 2 ∨ 56 ≤ j) → r' j = r j) : SWx G T s r' al cl sl m1 m2 m3' n1 n2' E (adF F (r 2).toNat q) h' := by
  obtain ⟨w1, w2, w3, w4, w5, w6, w7, w8⟩ := hX
  have e0 := hr 0 (by omega) (by omega)
  have e1 := hr 1 (by omega) (by omega)
  have e2 : (r' 2).toNat = (r 2).toNat + 1 := by rw [hr2]; omega
  refine ⟨?_, by rw [e0]; exact w2.fr hf (tne (by decide)) (tnz (by decide)), ?_, by rw [e2]; exact hA, ?_, ?_, by rw [e0]; exact w7, ?_⟩
  · rw [hr 3 (by omega) (by omega), hr 4 (by omega) (by omega), hr 5 (by omega) (by omega), hr 6 (by omega) (by omega), hr 7 (by omega) (by omega), hr 8 (by omega) (by omega), hr 9 (by omega) (by omega)]; exact hf.get w1 (tne (by decide))
  · rw [e1]; exact (w3.fr hf (tne (by decide))).cg (fun k hk => by show E (r' (12 + (k : Int))).toNat = E (r (12 + (k : Int))).toNat; rw [hr (12 + k) (by omega) (by omega)])
  · intro i hi
    rw [e0] at hi
    rw [hf.get (w5 i hi) (tne (by decide)), aC_cg (r' := r') (r := r) (a := i) (b := i) (fun w w0 w1 => hr _ (by omega) (by omega))]
  · intro i hi
    rw [e2] at hi
    by_cases e : i = (r 2).toNat
    · rw [ad_s e, hf.get hq (tne (by decide)), e, show (((r 2).toNat : Nat) : Int) = r 2 by omega]
    · rw [ad_n e, hf.get (w6 i (by omega)) (tne (by decide)), sC_cg (r' := r') (r := r) (a := i) (b := i) (fun w w0 w1 => hr _ (by omega) (by omega))]
  · intro i j hi hj e
    rw [e2] at hi hj
    by_cases ei : i = (r 2).toNat <;> by_cases ej : j = (r 2).toNat
    · omega
    · rw [ad_s ei, ad_n ej] at e; exact absurd e.symm (hne j (by omega))
    · rw [ad_n ei, ad_s ej] at e; exact absurd e (hne i (by omega))
    · rw [ad_n ei, ad_n ej] at e; exact w8 i j (by omega) (by omega) e
end SWX

