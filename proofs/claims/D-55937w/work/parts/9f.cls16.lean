set_option maxRecDepth 100000
/-! the class, part 16: what must be; a change is kept -/
abbrev pCh (T : Nat) : Tg → Prop := fun t => t = (2, 1) ∨ pTQ T t
theorem AD.o {t : Tg} {a n : Nat} {e : Nat → Nat} {h : Hp} (hA : AD t a n e h) : ∃ x y z, h a = some (t, ob 13 [x, y, z]) := by
  obtain ⟨_, _, _, w, _⟩ := hA
  exact ⟨_, _, _, w⟩
section KCH
variable {G : Gl} {o : Nat} {X : KX} {s : Nat} {vs : Value} {hq ip ln : Nat} {rv : Value} {Tc Tv : Nat} {HT he : Nat → Nat} {h h1 h2 : Hp}
theorem KWx.fr2 {P : Tg → Prop} (hK : KWx G o X s vs hq ip ln rv Tc Tv HT he h) (hf : Fr P h h1) (hp : ∀ k, ¬ P (2, k)) (hT : ∀ T, (T = Tc ∨ T = Tv ∨ ∃ i, i < X.hn ∧ T = HT i) → ∀ k, k < 10 → ¬ P (T, k)) (h0 : ¬ P frz) : KWx G o X s vs hq ip ln rv Tc Tv HT he h1 := by
  obtain ⟨k1, k2, k3, k4, k5, k6, k7, k8, k9⟩ := hK
  exact ⟨hf.get k1 (hp 0), k2.fr hf (hT Tc (Or.inl rfl)) h0, k3.fr hf (hT Tv (Or.inr (Or.inl rfl))) h0, k4.fr hf (hp 1), fun i hi => (k5 i hi).fr hf (hT (HT i) (Or.inr (Or.inr ⟨i, hi, rfl⟩))) h0, k6.fr hf (hp 2), k7.fr hf (hp 3), k8.fr hf (hp 4), k9⟩
theorem pT_2 {T k : Nat} (hT : 10 ≤ T) : ¬ pTQ T (2, k) := fun q => q.elim (fun e => by have : 2 = T := e; omega) pQ_2
theorem KWx.chA (hK : KWx G o X s vs hq ip ln rv Tc Tv HT he h) {Tn q : Nat} (hn : 10 ≤ Tn ∧ Tc < Tn ∧ Tv < Tn ∧ ∀ i, i < X.hn → HT i < Tn) (hf : Fr (pTQ Tn) h h1) (hS : SW G Tn q X.r h1) (hf2 : Fr (fun x => x = (2, 1)) h1 h2) (hA : AD (2, 1) hq (X.hn + 1) (adF he X.hn q) h2) : KWx G o (X.wH (X.hn + 1) (fun i => if i = X.hn then X.r else X.hr i)) s vs hq ip ln rv Tc Tv (adF HT X.hn Tn) (adF he X.hn q) h2 := by
  obtain ⟨n1, n2, n3, n4⟩ := hn
  have hK1 := hK.fr2 hf (fun k => pT_2 n1) (fun T hT => pTQ_s (by rcases hT with rfl | rfl | ⟨i, hi, rfl⟩; omega; omega; exact Nat.ne_of_lt (n4 i hi))) (pTQ_z (by omega))
  obtain ⟨k1, k2, k3, k4, k5, k6, k7, k8, k9⟩ := hK1
  have e2 : ∀ {a b : Nat}, a ≠ 2 → ¬ (((a, b) : Tg) = (2, 1)) := fun h e => h (congrArg Prod.fst e)
  have e3 : ¬ (frz = ((2, 1) : Tg)) := by decide
  refine ⟨hf2.get k1 (tne (by decide)), k2.fr hf2 (fun k hk => e2 (by have := k9.1; omega)) e3, k3.fr hf2 (fun k hk => e2 (by have := k9.2.1; omega)) e3, hA, fun i hi => ?_, k6.fr hf2 (tne (by decide)), k7.fr hf2 (tne (by decide)), k8.fr hf2 (tne (by decide)), ?_⟩
  · have hi : i < X.hn + 1 := hi
    show SW G (adF HT X.hn Tn i) (adF he X.hn q i) (if i = X.hn then X.r else X.hr i) h2
    by_cases e : i = X.hn
    · rw [ad_s e, ad_s e, if_pos e]; exact hS.fr hf2 (fun k hk => e2 (by omega)) e3
    · rw [ad_n e, ad_n e, if_neg e]; exact (k5 i (by omega)).fr hf2 (fun k hk => e2 (by have := (k9.2.2.2.1 i (by omega)).1; omega)) e3
  · obtain ⟨t1, t2, t3, t4, t5⟩ := k9
    refine ⟨t1, t2, t3, fun i hi => ?_, fun i j hi hj e => ?_⟩
    · have hi : i < X.hn + 1 := hi
      by_cases e : i = X.hn
      · rw [ad_s e]; omega
      · rw [ad_n e]; exact t4 i (by omega)
    · have hi : i < X.hn + 1 := hi
      have hj : j < X.hn + 1 := hj
      by_cases ei : i = X.hn <;> by_cases ej : j = X.hn
      · omega
      · rw [ad_s ei, ad_n ej] at e; have := n4 j (by omega); omega
      · rw [ad_n ei, ad_s ej] at e; have := n4 i (by omega); omega
      · rw [ad_n ei, ad_n ej] at e; exact t5 i j (by omega) (by omega) e
theorem KWx.chB (hK : KWx G o X s vs hq ip ln rv Tc Tv HT he h) {n : Nat} (hn : X.hn = n + 1) (hf : Fr (fun x => x = (2, 1)) h h1) (hA : AD (2, 1) hq n (fun i => he (i + 1)) h1) : KWx G o (X.wH n (fun i => X.hr (i + 1))) s vs hq ip ln rv Tc Tv (fun i => HT (i + 1)) (fun i => he (i + 1)) h1 := by
  obtain ⟨k1, k2, k3, k4, k5, k6, k7, k8, k9⟩ := hK
  have e2 : ∀ {a b : Nat}, a ≠ 2 → ¬ (((a, b) : Tg) = (2, 1)) := fun h e => h (congrArg Prod.fst e)
  have e3 : ¬ (frz = ((2, 1) : Tg)) := by decide
  refine ⟨hf.get k1 (tne (by decide)), k2.fr hf (fun k hk => e2 (by have := k9.1; omega)) e3, k3.fr hf (fun k hk => e2 (by have := k9.2.1; omega)) e3, hA, fun i hi => ?_, k6.fr hf (tne (by decide)), k7.fr hf (tne (by decide)), k8.fr hf (tne (by decide)), k9.1, k9.2.1, k9.2.2.1, fun i hi => k9.2.2.2.1 (i + 1) (by have : i < n := hi; omega), fun i j hi hj e => ?_⟩
  · have hi : i < n := hi
    exact (k5 (i + 1) (by omega)).fr hf (fun k hk => e2 (by have := (k9.2.2.2.1 (i + 1) (by omega)).1; omega)) e3
  · have hi : i < n := hi
    have hj : j < n := hj
    have := k9.2.2.2.2 (i + 1) (j + 1) (by omega) (by omega) e
    omega
theorem chX_1 (h1 : X.wi ≠ 1) (h8 : X.hn ≠ 8) : chX X = X.wH (X.hn + 1) (fun i => if i = X.hn then X.r else X.hr i) := by
  unfold chX
  rw [if_neg h1, if_neg h8, if_neg h8]
theorem chX_8 (h1 : X.wi ≠ 1) (h8 : X.hn = 8) : chX X = (X.wH (X.hn + 1) (fun i => if i = X.hn then X.r else X.hr i)).wH 8 (fun i => (X.wH (X.hn + 1) (fun i => if i = X.hn then X.r else X.hr i)).hr (i + 1)) := by
  unfold chX
  rw [if_neg h1, if_pos h8, if_pos h8]
  show X.wH 8 _ = X.wH 8 _
  congr 1
  funext i
  show (if i = 7 then X.r else X.hr (i + 1)) = if i + 1 = X.hn then X.r else X.hr (i + 1)
  rw [h8]
  by_cases e : i = 7
  · rw [if_pos e, if_pos (by omega)]
  · rw [if_neg e, if_neg (by omega)]
end KCH

theorem t_X1_inRange {G : Gl} {h9 : Hp} {o s T : Nat} {v1 v2 v3 v4 v5 v6 v7 : Value} {r : Row} {al cl sl : Nat} {m1 m2 m3 : Int32} {n1 n2 E F : Nat → Nat} (hb9 : h9 o = some ((2, 0), ob 0 [.ref s, v1, v2, v3, v4, v5, v6, v7])) (hX9 : SWx G T s r al cl sl m1 m2 m3 n1 n2 E F h9) (hI : RI r) {v lo hi : Int} (h0 : InR v) (h1 : InR lo) (h2 : InR hi) : Ct G 7 11 yX1_inRange (Cond.code yX1_inRange cX1_inRange 4 (none)) [.ref o, .int (iZ v), .int (iZ lo), .int (iZ hi)] h9 (jN (fun h' => h' = h9 ∧ (lo ≤ v ∧ v ≤ hi))) (xU (¬ (lo ≤ v ∧ v ≤ hi)) o [.ref s, v1, v2, v3, v4, v5, v6, v7] 3 v h9) := by
  have hF : Fr pQ h9 h9 := Fr.rf
  have hb := hb9
  have hX := hX9
  have b := hI.1
  have hX2 := hX
  obtain ⟨w1, w2, w3, w4, w5, w6, w7, w8⟩ := hX2
  obtain ⟨ar1, w2s⟩ := w2.size
  refine Ct.of (own := "CharterKiln") (nm := "inRange") (by decide +kernel) rfl rfl (L := [some (.ref o), some (.int (iZ v)), some (.int (iZ lo)), some (.int (iZ hi))]) rfl (Nat.le_of_ble_eq_true rfl) rfl ?_
  refine r_aload_n (pc := 0) dX1_inRange_0 rfl ?_
  refine r_iload_n (pc := 1) dX1_inRange_1 rfl ?_
  refine r_iload_n (pc := 2) dX1_inRange_2 rfl ?_
  refine r_iload_n (pc := 3) dX1_inRange_3 rfl ?_
  refine r_callS (pc := 4) (kb' := 11) dX1_inRange_4 kX1_isBetween q1525 (t_X1_isBetween (by omega) (by omega) (by omega)) (Nat.le_refl _) (Nat.le_of_ble_eq_true rfl) rfl rfl (Nat.le_of_ble_eq_true rfl) (fun _ _ q => q.elim) (fun _ _ hq => ?_)
  refine go_jE hq ?_
  refine r_ifB_ne (pc := 7) (tgt := 14) dX1_inRange_7 (by decide) (fun c7 => ?_) (fun c7 => ?_)
  · refine r_iconst (pc := 14) dX1_inRange_14 ?_
    refine go_cz (w := bZ (¬ (lo ≤ v ∧ v ≤ hi))) (bZ_f (by first | assumption | omega)).symm ?_
    refine r_iconst (pc := 15) dX1_inRange_15 ?_
    refine r_iload_n (pc := 16) dX1_inRange_16 rfl ?_
    refine r_callV (pc := 17) (kb' := 0) dX1_inRange_17 kX1_refuse q1528 (t_X1_refuse (p := ¬ (lo ≤ v ∧ v ≤ hi)) (n := 3) (d := v) hb) hb rfl (Nat.le_of_ble_eq_true rfl) (Nat.le_of_ble_eq_true rfl) rfl rfl (Nat.le_of_ble_eq_true rfl) (fun E h7 hx => x_out rfl ⟨hx.1, hx.2.1, XU.tr hF hx.2.2⟩) (fun _ h hq => ?_)
    refine go_jN hq (fun hq2 => ?_)
    obtain ⟨e9, hpos⟩ := hq2
    replace e9 := e9.symm
    subst e9
    exact r_vret (pc := 20) dX1_inRange_20 rfl ⟨rfl, rfl, Classical.not_not.mp hpos⟩
  · refine r_iconst (pc := 10) dX1_inRange_10 ?_
    refine go_cz (w := bZ (¬ (lo ≤ v ∧ v ≤ hi))) (bZ_t (by first | assumption | omega)).symm ?_
    refine r_goto (pc := 11) (tgt := 15) dX1_inRange_11 (by decide) ?_
    refine r_iconst (pc := 15) dX1_inRange_15 ?_
    refine r_iload_n (pc := 16) dX1_inRange_16 rfl ?_
    refine r_callV (pc := 17) (kb' := 0) dX1_inRange_17 kX1_refuse q1528 (t_X1_refuse (p := ¬ (lo ≤ v ∧ v ≤ hi)) (n := 3) (d := v) hb) hb rfl (Nat.le_of_ble_eq_true rfl) (Nat.le_of_ble_eq_true rfl) rfl rfl (Nat.le_of_ble_eq_true rfl) (fun E h7 hx => x_out rfl ⟨hx.1, hx.2.1, XU.tr hF hx.2.2⟩) (fun _ h hq => ?_)
    refine go_jN hq (fun hq2 => ?_)
    obtain ⟨e9, hpos⟩ := hq2
    replace e9 := e9.symm
    subst e9
    exact r_vret (pc := 20) dX1_inRange_20 rfl ⟨rfl, rfl, Classical.not_not.mp hpos⟩
theorem t_X1_mustBeShelf {G : Gl} {h9 : Hp} {o s T : Nat} {v1 v2 v3 v4 v5 v6 v7 : Value} {r : Row} {al cl sl : Nat} {m1 m2 m3 : Int32} {n1 n2 E F : Nat → Nat} (hb9 : h9 o = some ((2, 0), ob 0 [.ref s, v1, v2, v3, v4, v5, v6, v7])) (hX9 : SWx G T s r al cl sl m1 m2 m3 n1 n2 E F h9) (hI : RI r) {v : Int} (h0 : InR v) : Ct G 7 11 yX1_mustBeShelf (Cond.code yX1_mustBeShelf cX1_mustBeShelf 2 (none)) [.ref o, .int (iZ v)] h9 (jN (fun h' => h' = h9 ∧ (0 ≤ v ∧ v ≤ 2))) (xU (¬ (0 ≤ v ∧ v ≤ 2)) o [.ref s, v1, v2, v3, v4, v5, v6, v7] 2 v h9) := by
  have hF : Fr pQ h9 h9 := Fr.rf
  have hb := hb9
  have hX := hX9
  have b := hI.1
  have hX2 := hX
  obtain ⟨w1, w2, w3, w4, w5, w6, w7, w8⟩ := hX2
  obtain ⟨ar1, w2s⟩ := w2.size
  refine Ct.of (own := "CharterKiln") (nm := "mustBeShelf") (by decide +kernel) rfl rfl (L := [some (.ref o), some (.int (iZ v))]) rfl (Nat.le_of_ble_eq_true rfl) rfl ?_
  refine r_aload_n (pc := 0) dX1_mustBeShelf_0 rfl ?_
  refine r_iload_n (pc := 1) dX1_mustBeShelf_1 rfl ?_
  refine r_callS (pc := 2) (kb' := 11) dX1_mustBeShelf_2 kX1_isShelf q1570 (t_X1_isShelf (by omega)) (Nat.le_refl _) (Nat.le_of_ble_eq_true rfl) rfl rfl (Nat.le_of_ble_eq_true rfl) (fun _ _ q => q.elim) (fun _ _ hq => ?_)
  refine go_jE hq ?_
  refine r_ifB_ne (pc := 5) (tgt := 12) dX1_mustBeShelf_5 (by decide) (fun c5 => ?_) (fun c5 => ?_)
  · refine r_iconst (pc := 12) dX1_mustBeShelf_12 ?_
    refine go_cz (w := bZ (¬ (0 ≤ v ∧ v ≤ 2))) (bZ_f (by first | assumption | omega)).symm ?_
    refine r_iconst (pc := 13) dX1_mustBeShelf_13 ?_
    refine r_iload_n (pc := 14) dX1_mustBeShelf_14 rfl ?_
    refine r_callV (pc := 15) (kb' := 0) dX1_mustBeShelf_15 kX1_refuse q1528 (t_X1_refuse (p := ¬ (0 ≤ v ∧ v ≤ 2)) (n := 2) (d := v) hb) hb rfl (Nat.le_of_ble_eq_true rfl) (Nat.le_of_ble_eq_true rfl) rfl rfl (Nat.le_of_ble_eq_true rfl) (fun E h7 hx => x_out rfl ⟨hx.1, hx.2.1, XU.tr hF hx.2.2⟩) (fun _ h hq => ?_)
    refine go_jN hq (fun hq2 => ?_)
    obtain ⟨e9, hpos⟩ := hq2
    replace e9 := e9.symm
    subst e9
    exact r_vret (pc := 18) dX1_mustBeShelf_18 rfl ⟨rfl, rfl, Classical.not_not.mp hpos⟩
  · refine r_iconst (pc := 8) dX1_mustBeShelf_8 ?_
    refine go_cz (w := bZ (¬ (0 ≤ v ∧ v ≤ 2))) (bZ_t (by first | assumption | omega)).symm ?_
    refine r_goto (pc := 9) (tgt := 13) dX1_mustBeShelf_9 (by decide) ?_
    refine r_iconst (pc := 13) dX1_mustBeShelf_13 ?_
    refine r_iload_n (pc := 14) dX1_mustBeShelf_14 rfl ?_
    refine r_callV (pc := 15) (kb' := 0) dX1_mustBeShelf_15 kX1_refuse q1528 (t_X1_refuse (p := ¬ (0 ≤ v ∧ v ≤ 2)) (n := 2) (d := v) hb) hb rfl (Nat.le_of_ble_eq_true rfl) (Nat.le_of_ble_eq_true rfl) rfl rfl (Nat.le_of_ble_eq_true rfl) (fun E h7 hx => x_out rfl ⟨hx.1, hx.2.1, XU.tr hF hx.2.2⟩) (fun _ h hq => ?_)
    refine go_jN hq (fun hq2 => ?_)
    obtain ⟨e9, hpos⟩ := hq2
    replace e9 := e9.symm
    subst e9
    exact r_vret (pc := 18) dX1_mustBeShelf_18 rfl ⟨rfl, rfl, Classical.not_not.mp hpos⟩
theorem t_X1_mustBeArticle {G : Gl} {h9 : Hp} {o s T : Nat} {v1 v2 v3 v4 v5 v6 v7 : Value} {r : Row} {al cl sl : Nat} {m1 m2 m3 : Int32} {n1 n2 E F : Nat → Nat} (hb9 : h9 o = some ((2, 0), ob 0 [.ref s, v1, v2, v3, v4, v5, v6, v7])) (hX9 : SWx G T s r al cl sl m1 m2 m3 n1 n2 E F h9) (hI : RI r) {a : Int} (ha : InR a) : Ct G 7 11 yX1_mustBeArticle (Cond.code yX1_mustBeArticle cX1_mustBeArticle 2 (none)) [.ref o, .int (iZ a)] h9 (jN (fun h' => h' = h9 ∧ (0 ≤ a ∧ a ≤ r 0 - 1))) (xU (¬ (0 ≤ a ∧ a ≤ r 0 - 1)) o [.ref s, v1, v2, v3, v4, v5, v6, v7] 2 a h9) := by
  have hF : Fr pQ h9 h9 := Fr.rf
  have hb := hb9
  have hX := hX9
  have b := hI.1
  have hX2 := hX
  obtain ⟨w1, w2, w3, w4, w5, w6, w7, w8⟩ := hX2
  obtain ⟨ar1, w2s⟩ := w2.size
  refine Ct.of (own := "CharterKiln") (nm := "mustBeArticle") (by decide +kernel) rfl rfl (L := [some (.ref o), some (.int (iZ a))]) rfl (Nat.le_of_ble_eq_true rfl) rfl ?_
  refine r_aload_n (pc := 0) dX1_mustBeArticle_0 rfl ?_
  refine r_aload_n (pc := 1) dX1_mustBeArticle_1 rfl ?_
  refine gX1_10 (pc := 2) dX1_mustBeArticle_2 hb rfl ?_
  refine r_iload_n (pc := 5) dX1_mustBeArticle_5 rfl ?_
  refine r_callV (pc := 6) (kb' := 11) dX1_mustBeArticle_6 kX2_isArticle q1740 (t_X2_isArticle hX.w hI (by omega)) w1 rfl (Nat.le_refl _) (Nat.le_of_ble_eq_true rfl) rfl rfl (Nat.le_of_ble_eq_true rfl) (fun _ _ q => q.elim) (fun _ _ hq => ?_)
  refine go_jE hq ?_
  refine r_ifB_ne (pc := 9) (tgt := 16) dX1_mustBeArticle_9 (by decide) (fun c9 => ?_) (fun c9 => ?_)
  · refine r_iconst (pc := 16) dX1_mustBeArticle_16 ?_
    refine go_cz (w := bZ (¬ (0 ≤ a ∧ a ≤ r 0 - 1))) (bZ_f (by first | assumption | omega)).symm ?_
    refine r_iconst (pc := 17) dX1_mustBeArticle_17 ?_
    refine r_iload_n (pc := 18) dX1_mustBeArticle_18 rfl ?_
    refine r_callV (pc := 19) (kb' := 0) dX1_mustBeArticle_19 kX1_refuse q1528 (t_X1_refuse (p := ¬ (0 ≤ a ∧ a ≤ r 0 - 1)) (n := 2) (d := a) hb) hb rfl (Nat.le_of_ble_eq_true rfl) (Nat.le_of_ble_eq_true rfl) rfl rfl (Nat.le_of_ble_eq_true rfl) (fun E h7 hx => x_out rfl ⟨hx.1, hx.2.1, XU.tr hF hx.2.2⟩) (fun _ h hq => ?_)
    refine go_jN hq (fun hq2 => ?_)
    obtain ⟨e9, hpos⟩ := hq2
    replace e9 := e9.symm
    subst e9
    exact r_vret (pc := 22) dX1_mustBeArticle_22 rfl ⟨rfl, rfl, Classical.not_not.mp hpos⟩
  · refine r_iconst (pc := 12) dX1_mustBeArticle_12 ?_
    refine go_cz (w := bZ (¬ (0 ≤ a ∧ a ≤ r 0 - 1))) (bZ_t (by first | assumption | omega)).symm ?_
    refine r_goto (pc := 13) (tgt := 17) dX1_mustBeArticle_13 (by decide) ?_
    refine r_iconst (pc := 17) dX1_mustBeArticle_17 ?_
    refine r_iload_n (pc := 18) dX1_mustBeArticle_18 rfl ?_
    refine r_callV (pc := 19) (kb' := 0) dX1_mustBeArticle_19 kX1_refuse q1528 (t_X1_refuse (p := ¬ (0 ≤ a ∧ a ≤ r 0 - 1)) (n := 2) (d := a) hb) hb rfl (Nat.le_of_ble_eq_true rfl) (Nat.le_of_ble_eq_true rfl) rfl rfl (Nat.le_of_ble_eq_true rfl) (fun E h7 hx => x_out rfl ⟨hx.1, hx.2.1, XU.tr hF hx.2.2⟩) (fun _ h hq => ?_)
    refine go_jN hq (fun hq2 => ?_)
    obtain ⟨e9, hpos⟩ := hq2
    replace e9 := e9.symm
    subst e9
    exact r_vret (pc := 22) dX1_mustBeArticle_22 rfl ⟨rfl, rfl, Classical.not_not.mp hpos⟩
theorem t_X1_mustNotBeLaw {G : Gl} {h9 : Hp} {o s T : Nat} {v1 v2 v3 v4 v5 v6 v7 : Value} {r : Row} {al cl sl : Nat} {m1 m2 m3 : Int32} {n1 n2 E F : Nat → Nat} (hb9 : h9 o = some ((2, 0), ob 0 [.ref s, v1, v2, v3, v4, v5, v6, v7])) (hX9 : SWx G T s r al cl sl m1 m2 m3 n1 n2 E F h9) (hI : RI r) {a : Int} (ha : 0 ≤ a ∧ a < r 0) : Ct G 7 11 yX1_mustNotBeLaw (Cond.code yX1_mustNotBeLaw cX1_mustNotBeLaw 2 (none)) [.ref o, .int (iZ a)] h9 (jN (fun h' => h' = h9 ∧ ¬ fA r a 4 < 0)) (xU (fA r a 4 < 0) o [.ref s, v1, v2, v3, v4, v5, v6, v7] 4 (plOf r a) h9) := by
  have hF : Fr pQ h9 h9 := Fr.rf
  have hb := hb9
  have hX := hX9
  have b := hI.1
  have hX2 := hX
  obtain ⟨w1, w2, w3, w4, w5, w6, w7, w8⟩ := hX2
  obtain ⟨ar1, w2s⟩ := w2.size
  refine Ct.of (own := "CharterKiln") (nm := "mustNotBeLaw") (by decide +kernel) rfl rfl (L := [some (.ref o), some (.int (iZ a))]) rfl (Nat.le_of_ble_eq_true rfl) rfl ?_
  refine r_aload_n (pc := 0) dX1_mustNotBeLaw_0 rfl ?_
  refine r_aload_n (pc := 1) dX1_mustNotBeLaw_1 rfl ?_
  refine r_iload_n (pc := 2) dX1_mustNotBeLaw_2 rfl ?_
  refine r_callV (pc := 3) (kb' := 11) dX1_mustNotBeLaw_3 kX1_articleAt q1749 (t_X1_articleAt hb hX hI (by omega)) hb rfl (Nat.le_refl _) (Nat.le_of_ble_eq_true rfl) rfl rfl (Nat.le_of_ble_eq_true rfl) (fun _ _ q => q.elim) (fun _ _ hq => ?_)
  refine go_jE hq ?_
  have ea : ((a.toNat : Nat) : Int) = a := by omega
  have ho := hI.2.1 a (by omega) (by omega)
  have ho2 := ho
  unfold artOk at ho2
  have hA5 := w5 a.toNat (by omega)
  rw [ea] at hA5
  refine r_callV (pc := 6) (kb' := 11) dX1_mustNotBeLaw_6 kX5_isLaw q1206 (t_X5_isLaw hA5 (by omega)) hA5 rfl (Nat.le_refl _) (Nat.le_of_ble_eq_true rfl) rfl rfl (Nat.le_of_ble_eq_true rfl) (fun _ _ q => q.elim) (fun _ _ hq => ?_)
  refine go_jE hq ?_
  refine r_iconst (pc := 9) dX1_mustNotBeLaw_9 ?_
  refine r_aload_n (pc := 10) dX1_mustNotBeLaw_10 rfl ?_
  refine gX1_10 (pc := 11) dX1_mustNotBeLaw_11 hb rfl ?_
  refine gX1_122 (pc := 14) dX1_mustNotBeLaw_14 w1 rfl ?_
  refine r_aload_n (pc := 17) dX1_mustNotBeLaw_17 rfl ?_
  refine r_iload_n (pc := 18) dX1_mustNotBeLaw_18 rfl ?_
  refine r_callV (pc := 19) (kb' := 11) dX1_mustNotBeLaw_19 kX1_articleAt q1749 (t_X1_articleAt hb hX hI (by omega)) hb rfl (Nat.le_refl _) (Nat.le_of_ble_eq_true rfl) rfl rfl (Nat.le_of_ble_eq_true rfl) (fun _ _ q => q.elim) (fun _ _ hq => ?_)
  refine go_jE hq ?_
  have ea : ((a.toNat : Nat) : Int) = a := by omega
  have ho := hI.2.1 a (by omega) (by omega)
  have ho2 := ho
  unfold artOk at ho2
  have hA5 := w5 a.toNat (by omega)
  rw [ea] at hA5
  refine r_callV (pc := 22) (kb' := 11) dX1_mustNotBeLaw_22 kJ4_indexOf q1754 (t_J4_indexOf w3 hA5) w3.2.1 rfl (Nat.le_refl _) (Nat.le_of_ble_eq_true rfl) rfl rfl (Nat.le_of_ble_eq_true rfl) (fun _ _ q => q.elim) (fun _ _ hq => ?_)
  refine go_jE hq ?_
  refine go_cz (w := plOf r a) (pl_fnd hI (by omega) w7) ?_
  refine r_callV (pc := 25) (kb' := 0) dX1_mustNotBeLaw_25 kX1_refuse q1528 (t_X1_refuse (p := fA r a 4 < 0) (n := 4) (d := plOf r a) hb) hb rfl (Nat.le_of_ble_eq_true rfl) (Nat.le_of_ble_eq_true rfl) rfl rfl (Nat.le_of_ble_eq_true rfl) (fun E h7 hx => x_out rfl ⟨hx.1, hx.2.1, XU.tr hF hx.2.2⟩) (fun _ h hq => ?_)
  refine go_jN hq (fun hq2 => ?_)
  obtain ⟨e9, hpos⟩ := hq2
  replace e9 := e9.symm
  subst e9
  exact r_vret (pc := 28) dX1_mustNotBeLaw_28 rfl ⟨rfl, rfl, hpos⟩
theorem t_X1_mustHaveRoom {G : Gl} {h9 : Hp} {o s T : Nat} {v1 v2 v3 v4 v5 v6 v7 : Value} {r : Row} {al cl sl : Nat} {m1 m2 m3 : Int32} {n1 n2 E F : Nat → Nat} (hb9 : h9 o = some ((2, 0), ob 0 [.ref s, v1, v2, v3, v4, v5, v6, v7])) (hX9 : SWx G T s r al cl sl m1 m2 m3 n1 n2 E F h9) (hI : RI r) {v : Int} (h0 : InR v) : Ct G 7 17 yX1_mustHaveRoom (Cond.code yX1_mustHaveRoom cX1_mustHaveRoom 2 (none)) [.ref o, .int (iZ v)] h9 (jN (fun h' => Fr pQ h9 h' ∧ ¬ onSh r v = 4)) (xU (onSh r v = 4) o [.ref s, v1, v2, v3, v4, v5, v6, v7] 6 v h9) := by
  have hF : Fr pQ h9 h9 := Fr.rf
  have hb := hb9
  have hX := hX9
  have b := hI.1
  have hX2 := hX
  obtain ⟨w1, w2, w3, w4, w5, w6, w7, w8⟩ := hX2
  obtain ⟨ar1, w2s⟩ := w2.size
  have hon := onSh_in (r := r) (s := v) (by omega)
  refine Ct.of (own := "CharterKiln") (nm := "mustHaveRoom") (by decide +kernel) rfl rfl (L := [some (.ref o), some (.int (iZ v))]) rfl (Nat.le_of_ble_eq_true rfl) rfl ?_
  refine r_aload_n (pc := 0) dX1_mustHaveRoom_0 rfl ?_
  refine r_aload_n (pc := 1) dX1_mustHaveRoom_1 rfl ?_
  refine gX1_10 (pc := 2) dX1_mustHaveRoom_2 hb rfl ?_
  refine r_iload_n (pc := 5) dX1_mustHaveRoom_5 rfl ?_
  refine r_callV (pc := 6) (kb' := 11) dX1_mustHaveRoom_6 kX2_many q1577 (t_X2_many hX.w hI (by omega)) w1 rfl (Nat.le_of_ble_eq_true rfl) (Nat.le_of_ble_eq_true rfl) rfl rfl (Nat.le_of_ble_eq_true rfl) (fun _ _ q => q.elim) (fun _ h hq => ?_)
  refine go_jP hq (fun hq2 => ?_)
  replace hF := hF.tr hq2
  have hb := hF.get hb9 pQ_2
  have hX := hX9.q hF
  have hX2 := hX
  obtain ⟨w1, w2, w3, w4, w5, w6, w7, w8⟩ := hX2
  obtain ⟨ar1, w2s⟩ := w2.size
  refine r_iconst (pc := 9) dX1_mustHaveRoom_9 ?_
  refine r_icmp_ne (pc := 10) (tgt := 17) dX1_mustHaveRoom_10 (by decide) (by omega) (by omega) (fun c10 => ?_) (fun c10 => ?_)
  · refine r_iconst (pc := 17) dX1_mustHaveRoom_17 ?_
    refine go_cz (w := bZ (onSh r v = 4)) (bZ_f (by first | assumption | omega)).symm ?_
    refine r_bipush (pc := 18) dX1_mustHaveRoom_18 (by decide) ?_
    refine r_iload_n (pc := 20) dX1_mustHaveRoom_20 rfl ?_
    refine r_callV (pc := 21) (kb' := 0) dX1_mustHaveRoom_21 kX1_refuse q1528 (t_X1_refuse (p := onSh r v = 4) (n := 6) (d := v) hb) hb rfl (Nat.le_of_ble_eq_true rfl) (Nat.le_of_ble_eq_true rfl) rfl rfl (Nat.le_of_ble_eq_true rfl) (fun E h7 hx => x_out rfl ⟨hx.1, hx.2.1, XU.tr hF hx.2.2⟩) (fun _ h hq => ?_)
    refine go_jN hq (fun hq2 => ?_)
    obtain ⟨e9, hpos⟩ := hq2
    replace e9 := e9.symm
    subst e9
    exact r_vret (pc := 24) dX1_mustHaveRoom_24 rfl ⟨rfl, hF, hpos⟩
  · refine r_iconst (pc := 13) dX1_mustHaveRoom_13 ?_
    refine go_cz (w := bZ (onSh r v = 4)) (bZ_t (by first | assumption | omega)).symm ?_
    refine r_goto (pc := 14) (tgt := 18) dX1_mustHaveRoom_14 (by decide) ?_
    refine r_bipush (pc := 18) dX1_mustHaveRoom_18 (by decide) ?_
    refine r_iload_n (pc := 20) dX1_mustHaveRoom_20 rfl ?_
    refine r_callV (pc := 21) (kb' := 0) dX1_mustHaveRoom_21 kX1_refuse q1528 (t_X1_refuse (p := onSh r v = 4) (n := 6) (d := v) hb) hb rfl (Nat.le_of_ble_eq_true rfl) (Nat.le_of_ble_eq_true rfl) rfl rfl (Nat.le_of_ble_eq_true rfl) (fun E h7 hx => x_out rfl ⟨hx.1, hx.2.1, XU.tr hF hx.2.2⟩) (fun _ h hq => ?_)
    refine go_jN hq (fun hq2 => ?_)
    obtain ⟨e9, hpos⟩ := hq2
    replace e9 := e9.symm
    subst e9
    exact r_vret (pc := 24) dX1_mustHaveRoom_24 rfl ⟨rfl, hF, hpos⟩
theorem t_X1_change {G : Gl} {h9 : Hp} {o : Nat} {X : KX} {s : Nat} {vs : Value} {hq0 ip ln : Nat} {rv : Value} {Tc Tv : Nat} {HT he : Nat → Nat} (hK : KWx G o X s vs hq0 ip ln rv Tc Tv HT he h9) (hI : RI X.r) (hZ : FZ G h9) (hw : X.wi = 0 ∨ X.wi = 1) (hn : X.hn ≤ 8) : Ct G 9 457 yX1_change (Cond.code yX1_change cX1_change 1 (none)) [.ref o] h9 (jN (fun h' => ∃ Tn HT' he', KWx G o (chX X) s vs hq0 ip ln rv Tc Tv HT' he' h' ∧ Fr (pCh Tn) h9 h' ∧ 10 ≤ Tn ∧ Tn ≠ Tc)) noX := by
  obtain ⟨k1, k2, k3, k4, k5, k6, k7, k8, k9⟩ := id hK
  obtain ⟨Tn, hn1, hn2, hn3, hn4⟩ := fresh HT Tc Tv X.hn
  have k2o : ∃ fs, h9 s = some ((Tc, 0), ob 1 fs) := by obtain ⟨_, _, _, _, _, _, _, _, _, _, w⟩ := k2; exact ⟨_, w.1⟩
  obtain ⟨k2f, k2w⟩ := k2o
  refine Ct.of (own := "CharterKiln") (nm := "change") (by decide +kernel) rfl rfl (L := [some (.ref o)]) rfl (Nat.le_of_ble_eq_true rfl) rfl ?_
  refine r_aload_n (pc := 0) dX1_change_0 rfl ?_
  refine gX1_75 (pc := 1) dX1_change_1 k1 rfl ?_
  refine r_if_eq (pc := 4) (tgt := 8) dX1_change_4 (by decide) (by omega) (fun c4 => ?_) (fun c4 => ?_)
  · refine r_aload_n (pc := 8) dX1_change_8 rfl ?_
    refine gX1_19 (pc := 9) dX1_change_9 k1 rfl ?_
    refine r_aload_n (pc := 12) dX1_change_12 rfl ?_
    refine gX1_10 (pc := 13) dX1_change_13 k1 rfl ?_
    refine r_callV (pc := 16) (kb' := 0) dX1_change_16 kX2_copy q1376 (t_X2_copy k2 hI hZ Tn (by omega) (by omega)) k2w rfl (Nat.le_of_ble_eq_true rfl) (Nat.le_of_ble_eq_true rfl) rfl rfl (Nat.le_of_ble_eq_true rfl) (fun _ _ q => q.elim) (fun _ h hq => ?_)
    refine go_jX hq (fun q hq2 => ?_)
    obtain ⟨hS, hf⟩ := hq2
    have hK1 := hK.fr2 hf (fun k => pT_2 hn1) (fun T hT => pTQ_s (by rcases hT with rfl | rfl | ⟨i, hi, rfl⟩; omega; omega; exact Nat.ne_of_lt (hn4 i hi))) (pTQ_z (by omega))
    obtain ⟨k1, k2, k3, k4, k5, k6, k7, k8, k9⟩ := id hK1
    have hSq : ∃ fs, h q = some ((Tn, 0), ob 1 fs) := by obtain ⟨_, _, _, _, _, _, _, _, _, _, w⟩ := hS; exact ⟨_, w.1⟩
    obtain ⟨fsq, hqw⟩ := hSq
    obtain ⟨da, db, dc, k4o⟩ := k4.o
    refine r_callV (pc := 19) (kb' := 0) dX1_change_19 kJ5_addLast q1672 (t_J5_addLast k4 hqw (by decide) (by omega)) k4o rfl (Nat.le_refl _) (Nat.le_of_ble_eq_true rfl) rfl rfl (Nat.le_of_ble_eq_true rfl) (fun _ _ q => q.elim) (fun _ h hq => ?_)
    refine go_jN hq (fun hq2 => ?_)
    obtain ⟨hA, hf2⟩ := hq2
    replace hK := hK.chA ⟨hn1, hn2, hn3, hn4⟩ hf hS hf2 hA
    obtain ⟨k1, k2, k3, k4, k5, k6, k7, k8, k9⟩ := id hK
    obtain ⟨da, db, dc, k4o⟩ := k4.o
    refine r_aload_n (pc := 22) dX1_change_22 rfl ?_
    refine gX1_19 (pc := 23) dX1_change_23 k1 rfl ?_
    refine r_callV (pc := 26) (kb' := 0) dX1_change_26 kJ5_size q1707 (t_J5_size k4) k4o rfl (Nat.le_refl _) (Nat.le_of_ble_eq_true rfl) rfl rfl (Nat.le_of_ble_eq_true rfl) (fun _ _ q => q.elim) (fun _ _ hq => ?_)
    refine go_jE hq ?_
    refine go_cz (w := ((X.hn + 1 : Nat) : Int)) rfl ?_
    refine r_bipush (pc := 29) dX1_change_29 (by decide) ?_
    refine r_icmp_le (pc := 31) (tgt := 42) dX1_change_31 (by decide) (by omega) (by omega) (fun c31 => ?_) (fun c31 => ?_)
    · exact r_vret (pc := 42) dX1_change_42 rfl ⟨rfl, Tn, _, _, by rw [chX_1 (by omega) (by omega)]; exact hK, (hf.wk (fun _ q => Or.inr q)).tr (hf2.wk (fun _ q => Or.inl q)), hn1, by omega⟩
    · refine r_aload_n (pc := 34) dX1_change_34 rfl ?_
      refine gX1_19 (pc := 35) dX1_change_35 k1 rfl ?_
      refine r_callV (pc := 38) (kb' := 0) dX1_change_38 kJ5_removeFirst q1714 (t_J5_removeFirst k4 (by decide) (by show 0 < X.hn + 1; omega)) k4o rfl (Nat.le_refl _) (Nat.le_of_ble_eq_true rfl) rfl rfl (Nat.le_of_ble_eq_true rfl) (fun _ _ q => q.elim) (fun _ h hq => ?_)
      refine go_jP hq (fun hq2 => ?_)
      obtain ⟨hA3, hf3⟩ := hq2
      replace hK := hK.chB (n := 8) (by show X.hn + 1 = 9; omega) hf3 (by rw [show 8 = X.hn + 1 - 1 by omega]; exact hA3)
      refine r_pop (pc := 41) dX1_change_41 rfl ?_
      exact r_vret (pc := 42) dX1_change_42 rfl ⟨rfl, Tn, _, _, by rw [chX_8 (by omega) (by omega)]; exact hK, (hf.wk (fun _ q => Or.inr q)).tr ((hf2.wk (fun _ q => Or.inl q)).tr (hf3.wk (fun _ q => Or.inl q))), hn1, by omega⟩
  · exact r_vret (pc := 7) dX1_change_7 rfl ⟨rfl, Tn, HT, he, by rw [show chX X = X from if_pos (by omega)]; exact hK, Fr.rf, hn1, by omega⟩
