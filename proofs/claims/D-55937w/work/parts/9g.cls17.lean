set_option maxRecDepth 100000
/-! the class, part 17: the orders -/
def oQ (G : Gl) (o : Nat) (z : Int) (ref : Rf) (X' : KX) (h9 : Hp) : Option Value → Hp → Prop := fun r9 h' => r9 = some (.int (iZ z)) ∧ ref = none ∧ KW G o X' h' ∧ Fr pC h9 h'
def oX (G : Gl) (o : Nat) (ref : Rf) (X : KX) (h9 : Hp) : String → Hp → Prop := fun E h' => E = eUOE ∧ ∃ p, ref = some p ∧ KW G o (X.wE (some (p, none))) h' ∧ Fr pC h9 h'
abbrev KY : Type := Option Row × Nat × (Nat → Row) × Nat × (Nat → Int) × Nat × (Nat → Int) × Int × Int × Option ((Int × Int) × Rf)
theorem KWx.w {G : Gl} {o : Nat} {X : KX} {s : Nat} {vs : Value} {hq ip ln : Nat} {rv : Value} {Tc Tv : Nat} {HT he : Nat → Nat} {h : Hp} (hK : KWx G o X s vs hq ip ln rv Tc Tv HT he h) : KW G o X h := ⟨s, vs, hq, ip, ln, rv, Tc, Tv, HT, he, hK⟩
theorem KWx.rfW {G : Gl} {o : Nat} {X : KX} {s : Nat} {vs : Value} {hq ip ln : Nat} {rv : Value} {Tc Tv : Nat} {HT he : Nat → Nat} {h h' : Hp} {n d : Int} (hK : KWx G o X s vs hq ip ln rv Tc Tv HT he h) (hx : XU o [.ref s, vs, .ref hq, .ref ip, .ref ln, .int (iZ X.wi), .int (iZ X.fp), rv] n d h h') : KW G o (X.wE (some ((n, d), none))) h' ∧ Fr pC h h' := ⟨(hK.rf hx).1.w, (hK.rf hx).2⟩
theorem pCh_C {T : Nat} (hT : 10 ≤ T) : ∀ t, pCh T t → pC t := fun t q => q.elim (fun e => by rw [e]; exact Or.inl rfl) (fun q => pTQ_C hT t q)
theorem pCh_s {T Tn : Nat} (h1 : 10 ≤ T) (hT : Tn ≠ T) : ∀ k, k < 10 → ¬ pCh Tn (T, k) := fun k hk q => q.elim (fun e => by have : T = 2 := congrArg Prod.fst e; omega) (fun q => pTQ_s (fun e => hT e.symm) k hk q)
theorem pCh_z {T : Nat} (h1 : 10 ≤ T) : ¬ pCh T frz := fun q => q.elim (fun e => absurd e (by decide)) (fun q => pTQ_z (by omega) q)
theorem SWx.upa {G : Gl} {T s : Nat} {r : Row} {al cl sl : Nat} {m1 m2 m3 : Int32} {n1 n2 E F : Nat → Nat} {h : Hp} (hX : SWx G T s r al cl sl m1 m2 m3 n1 n2 E F h) {q : Nat} {o o' : Cl} (hq : h q = some ((T, 4), o)) (hne : ∀ i : Nat, i < (r 0).toNat → E i ≠ q) : SWx G T s r al cl sl m1 m2 m3 n1 n2 E F (up h q ((T, 4), o')) := by
  obtain ⟨w1, w2, w3, w4, w5, w6, w7, w8⟩ := hX
  have hf : Fr (fun x => x = (T, 4)) h (up h q ((T, 4), o')) := Fr.upd hq rfl
  exact ⟨hf.get w1 (tne (by decide)), w2.fr hf (tne (by decide)) (tnz (by decide)), w3.fr hf (tne (by decide)), w4.fr hf (tne (by decide)), fun i hi => (up_n (hne i hi)).trans (w5 i hi), fun i hi => hf.get (w6 i hi) (tne (by decide)), w7, w8⟩
theorem cm_C {r : Row} {c s : Int} (h0 : 0 ≤ r 0) : aC (cmR r c s) (r 0) = ob 4 [.int (iZ c), .int 0, .int 0, .int 0, .int (iZ s), .int 0] := by
  show ob 4 _ = ob 4 _
  rw [cm_w h0 (by omega), cm_w h0 (by omega), cm_w h0 (by omega), cm_w h0 (by omega), cm_w h0 (by omega), cm_w h0 (by omega)]
  rfl

theorem t_X1_glaze {G : Gl} {h9 : Hp} {o : Nat} {r : Row} {Y : KY} {s : Nat} {vs : Value} {hq0 ip ln : Nat} {rv : Value} {Tc Tv : Nat} {HT he : Nat → Nat} (hK : KWx G o (r, Y) s vs hq0 ip ln rv Tc Tv HT he h9) (hI : RI r) (hZ : FZ G h9) (hw : KX.wi (r, Y) = 0 ∨ KX.wi (r, Y) = 1) (hn : KX.hn (r, Y) ≤ 8) {a : Int} (ha : InR a) : Ct G 10 490 yX1_glaze (Cond.code yX1_glaze cX1_glaze 2 (some .int)) [.ref o, .int (iZ a)] h9 (oQ G o (fA r a 1 + 1) (refGlaze r a) ((chX (r, Y)).wR (uA r a 1 (fA r a 1 + 1))) h9) (oX G o (refGlaze r a) (r, Y) h9) := by
  obtain ⟨k1, k2, k3, k4, k5, k6, k7, k8, k9⟩ := id hK
  obtain ⟨al, cl, sl, m1, m2, m3, n1, n2, E, F, hX9⟩ := k2
  have hX9 : SWx G Tc s r al cl sl m1 m2 m3 n1 n2 E F h9 := hX9
  have hb9 := k1
  have hF : Fr pQ h9 h9 := Fr.rf
  have hb := hb9
  have hX := hX9
  have b := hI.1
  have hX2 := hX
  obtain ⟨w1, w2, w3, w4, w5, w6, w7, w8⟩ := hX2
  obtain ⟨ar1, w2s⟩ := w2.size
  refine Ct.of (own := "CharterKiln") (nm := "glaze") (by decide +kernel) rfl rfl (L := [some (.ref o), some (.int (iZ a))]) rfl (Nat.le_of_ble_eq_true rfl) rfl ?_
  refine r_aload_n (pc := 0) dX1_glaze_0 rfl ?_
  refine r_iload_n (pc := 1) dX1_glaze_1 rfl ?_
  refine r_callV (pc := 2) (kb' := 479) dX1_glaze_2 kX1_mustBeArticle q1736 (t_X1_mustBeArticle hb hX hI (by omega)) hb rfl (Nat.le_of_ble_eq_true rfl) (Nat.le_of_ble_eq_true rfl) rfl rfl (Nat.le_of_ble_eq_true rfl) (fun E h7 hx => x_out rfl ⟨hx.1, (2, a), by
      have hc := hx.2.1
      unfold refGlaze; (repeat' split) <;> first | rfl | omega | contradiction, hK.rfW (XU.tr hF hx.2.2)⟩) (fun _ h hq => ?_)
  refine go_jN hq (fun hq2 => ?_)
  obtain ⟨e9, hpa⟩ := hq2
  replace e9 := e9.symm
  subst e9
  refine r_aload_n (pc := 5) dX1_glaze_5 rfl ?_
  refine r_iload_n (pc := 6) dX1_glaze_6 rfl ?_
  refine r_callV (pc := 7) (kb' := 468) dX1_glaze_7 kX1_mustNotBeLaw q1745 (t_X1_mustNotBeLaw hb hX hI (by omega)) hb rfl (Nat.le_of_ble_eq_true rfl) (Nat.le_of_ble_eq_true rfl) rfl rfl (Nat.le_of_ble_eq_true rfl) (fun E h7 hx => x_out rfl ⟨hx.1, (4, plOf r a), by
      have hc := hx.2.1
      unfold refGlaze; (repeat' split) <;> first | rfl | omega | contradiction, hK.rfW (XU.tr hF hx.2.2)⟩) (fun _ h hq => ?_)
  refine go_jN hq (fun hq2 => ?_)
  obtain ⟨e9, hpl⟩ := hq2
  replace e9 := e9.symm
  subst e9
  refine r_aload_n (pc := 10) dX1_glaze_10 rfl ?_
  refine r_aload_n (pc := 11) dX1_glaze_11 rfl ?_
  refine r_iload_n (pc := 12) dX1_glaze_12 rfl ?_
  refine r_callV (pc := 13) (kb' := 468) dX1_glaze_13 kX1_articleAt q1749 (t_X1_articleAt hb hX hI (by omega)) hb rfl (Nat.le_refl _) (Nat.le_of_ble_eq_true rfl) rfl rfl (Nat.le_of_ble_eq_true rfl) (fun _ _ q => q.elim) (fun _ _ hq => ?_)
  refine go_jE hq ?_
  have ea : ((a.toNat : Nat) : Int) = a := by omega
  have ho := hI.2.1 a (by omega) (by omega)
  have ho2 := ho
  unfold artOk at ho2
  have hA5 := w5 a.toNat (by omega)
  rw [ea] at hA5
  refine gX1_164 (pc := 16) dX1_glaze_16 hA5 rfl ?_
  refine r_iconst (pc := 19) dX1_glaze_19 ?_
  refine r_icmp_ne (pc := 20) (tgt := 27) dX1_glaze_20 (by decide) (by omega) (by omega) (fun c20 => ?_) (fun c20 => ?_)
  · refine r_iconst (pc := 27) dX1_glaze_27 ?_
    refine go_cz (w := bZ (fA r a 1 = 4)) (bZ_f (by first | assumption | omega)).symm ?_
    refine r_bipush (pc := 28) dX1_glaze_28 (by decide) ?_
    refine r_iconst (pc := 30) dX1_glaze_30 ?_
    refine r_callV (pc := 31) (kb' := 457) dX1_glaze_31 kX1_refuse q1528 (t_X1_refuse (p := fA r a 1 = 4) (n := 7) (d := 4) hb) hb rfl (Nat.le_of_ble_eq_true rfl) (Nat.le_of_ble_eq_true rfl) rfl rfl (Nat.le_of_ble_eq_true rfl) (fun E h7 hx => x_out rfl ⟨hx.1, (7, 4), by
        have hc := hx.2.1
        unfold refGlaze; (repeat' split) <;> first | rfl | omega | contradiction, hK.rfW (XU.tr hF hx.2.2)⟩) (fun _ h hq => ?_)
    refine go_jN hq (fun hq2 => ?_)
    obtain ⟨e9, hp4⟩ := hq2
    replace e9 := e9.symm
    subst e9
    refine r_aload_n (pc := 34) dX1_glaze_34 rfl ?_
    refine r_callV (pc := 35) (kb' := 0) dX1_glaze_35 kX1_change q1668 (t_X1_change (hK.q hF) hI (hZ.q hF) hw hn) hb rfl (Nat.le_of_ble_eq_true rfl) (Nat.le_of_ble_eq_true rfl) rfl rfl (Nat.le_of_ble_eq_true rfl) (fun _ _ q => q.elim) (fun _ h hq => ?_)
    refine go_jN hq (fun hq2 => ?_)
    obtain ⟨Tn, HT2, he2, hK1, hf, hTn, hTc⟩ := hq2
    have hC : Fr pC h9 h := (hF.wk pQ_C).tr (hf.wk (pCh_C hTn))
    replace hX := hX.fr hf (pCh_s k9.1 hTc) (pCh_z hTn)
    have hb := hK1.1
    replace hF : Fr (pTQ Tc) h h := Fr.rf
    have hT : Tc ≠ 0 := by have := k9.1; omega
    have h2T : ∀ k, ¬ pTQ Tc (2, k) := fun k => pT_2 k9.1
    have hX2 := hX
    obtain ⟨w1, w2, w3, w4, w5, w6, w7, w8⟩ := hX2
    obtain ⟨ar1, w2s⟩ := w2.size
    refine r_aload_n (pc := 38) dX1_glaze_38 rfl ?_
    refine r_iload_n (pc := 39) dX1_glaze_39 rfl ?_
    refine r_callV (pc := 40) (kb' := 0) dX1_glaze_40 kX1_articleAt q1749 (t_X1_articleAt hb hX hI (by omega)) hb rfl (Nat.le_refl _) (Nat.le_of_ble_eq_true rfl) rfl rfl (Nat.le_of_ble_eq_true rfl) (fun _ _ q => q.elim) (fun _ _ hq => ?_)
    refine go_jE hq ?_
    have ea : ((a.toNat : Nat) : Int) = a := by omega
    have ho := hI.2.1 a (by omega) (by omega)
    have ho2 := ho
    unfold artOk at ho2
    have hA5 := w5 a.toNat (by omega)
    rw [ea] at hA5
    refine r_dup (pc := 43) dX1_glaze_43 rfl ?_
    refine gX1_164 (pc := 44) dX1_glaze_44 hA5 rfl ?_
    refine r_iconst (pc := 47) dX1_glaze_47 ?_
    refine r_iadd (pc := 48) dX1_glaze_48 ?_
    refine pX1_164 (pc := 49) dX1_glaze_49 hA5 (tnz (by decide)).symm (Nat.le_of_ble_eq_true rfl) ?_
    refine gp_art (a := a) (w := 1) (z' := fA r a 1 + 1) hX hF (by omega) (by omega) (by decide) rfl (fun h hX hF hF2 => ?_)
    have hb := hF.get hK1.1 (h2T 0)
    have u0 : uA r a (1 : Nat) (fA r a 1 + 1) 0 = r 0 := uA_lo hpa.1 (by omega)
    have hX2 := hX
    obtain ⟨w1, w2, w3, w4, w5, w6, w7, w8⟩ := hX2
    obtain ⟨ar1, w2s⟩ := w2.size
    have hA6 := w5 a.toNat (by rw [u0]; omega)
    rw [ea] at hA6
    refine r_aload_n (pc := 52) dX1_glaze_52 rfl ?_
    refine r_iload_n (pc := 53) dX1_glaze_53 rfl ?_
    refine r_callV (pc := 54) (kb' := 0) dX1_glaze_54 kX1_articleAt q1749 (t_X1_articleAt hb hX (RI_gl hI (by omega) (by omega)) (by rw [u0]; omega)) hb rfl (Nat.le_refl _) (Nat.le_of_ble_eq_true rfl) rfl rfl (Nat.le_of_ble_eq_true rfl) (fun _ _ q => q.elim) (fun _ _ hq => ?_)
    refine go_jE hq ?_
    refine gX1_164 (pc := 57) dX1_glaze_57 hA6 rfl ?_
    exact r_iret (pc := 60) dX1_glaze_60 rfl rfl ⟨congrArg (fun q : Int => some (Value.int (iZ q))) (uA_s (r := r)), (by unfold refGlaze; (repeat' split) <;> first | rfl | omega | contradiction), (hK1.cur hF hX.w).w, hC.tr (hF.wk (pTQ_C k9.1))⟩
  · refine r_iconst (pc := 23) dX1_glaze_23 ?_
    refine go_cz (w := bZ (fA r a 1 = 4)) (bZ_t (by first | assumption | omega)).symm ?_
    refine r_goto (pc := 24) (tgt := 28) dX1_glaze_24 (by decide) ?_
    refine r_bipush (pc := 28) dX1_glaze_28 (by decide) ?_
    refine r_iconst (pc := 30) dX1_glaze_30 ?_
    refine r_callV (pc := 31) (kb' := 457) dX1_glaze_31 kX1_refuse q1528 (t_X1_refuse (p := fA r a 1 = 4) (n := 7) (d := 4) hb) hb rfl (Nat.le_of_ble_eq_true rfl) (Nat.le_of_ble_eq_true rfl) rfl rfl (Nat.le_of_ble_eq_true rfl) (fun E h7 hx => x_out rfl ⟨hx.1, (7, 4), by
        have hc := hx.2.1
        unfold refGlaze; (repeat' split) <;> first | rfl | omega | contradiction, hK.rfW (XU.tr hF hx.2.2)⟩) (fun _ h hq => ?_)
    refine go_jN hq (fun hq2 => ?_)
    obtain ⟨e9, hp4⟩ := hq2
    replace e9 := e9.symm
    subst e9
    refine r_aload_n (pc := 34) dX1_glaze_34 rfl ?_
    refine r_callV (pc := 35) (kb' := 0) dX1_glaze_35 kX1_change q1668 (t_X1_change (hK.q hF) hI (hZ.q hF) hw hn) hb rfl (Nat.le_of_ble_eq_true rfl) (Nat.le_of_ble_eq_true rfl) rfl rfl (Nat.le_of_ble_eq_true rfl) (fun _ _ q => q.elim) (fun _ h hq => ?_)
    refine go_jN hq (fun hq2 => ?_)
    obtain ⟨Tn, HT2, he2, hK1, hf, hTn, hTc⟩ := hq2
    have hC : Fr pC h9 h := (hF.wk pQ_C).tr (hf.wk (pCh_C hTn))
    replace hX := hX.fr hf (pCh_s k9.1 hTc) (pCh_z hTn)
    have hb := hK1.1
    replace hF : Fr (pTQ Tc) h h := Fr.rf
    have hT : Tc ≠ 0 := by have := k9.1; omega
    have h2T : ∀ k, ¬ pTQ Tc (2, k) := fun k => pT_2 k9.1
    have hX2 := hX
    obtain ⟨w1, w2, w3, w4, w5, w6, w7, w8⟩ := hX2
    obtain ⟨ar1, w2s⟩ := w2.size
    refine r_aload_n (pc := 38) dX1_glaze_38 rfl ?_
    refine r_iload_n (pc := 39) dX1_glaze_39 rfl ?_
    refine r_callV (pc := 40) (kb' := 0) dX1_glaze_40 kX1_articleAt q1749 (t_X1_articleAt hb hX hI (by omega)) hb rfl (Nat.le_refl _) (Nat.le_of_ble_eq_true rfl) rfl rfl (Nat.le_of_ble_eq_true rfl) (fun _ _ q => q.elim) (fun _ _ hq => ?_)
    refine go_jE hq ?_
    have ea : ((a.toNat : Nat) : Int) = a := by omega
    have ho := hI.2.1 a (by omega) (by omega)
    have ho2 := ho
    unfold artOk at ho2
    have hA5 := w5 a.toNat (by omega)
    rw [ea] at hA5
    refine r_dup (pc := 43) dX1_glaze_43 rfl ?_
    refine gX1_164 (pc := 44) dX1_glaze_44 hA5 rfl ?_
    refine r_iconst (pc := 47) dX1_glaze_47 ?_
    refine r_iadd (pc := 48) dX1_glaze_48 ?_
    refine pX1_164 (pc := 49) dX1_glaze_49 hA5 (tnz (by decide)).symm (Nat.le_of_ble_eq_true rfl) ?_
    refine gp_art (a := a) (w := 1) (z' := fA r a 1 + 1) hX hF (by omega) (by omega) (by decide) rfl (fun h hX hF hF2 => ?_)
    have hb := hF.get hK1.1 (h2T 0)
    have u0 : uA r a (1 : Nat) (fA r a 1 + 1) 0 = r 0 := uA_lo hpa.1 (by omega)
    have hX2 := hX
    obtain ⟨w1, w2, w3, w4, w5, w6, w7, w8⟩ := hX2
    obtain ⟨ar1, w2s⟩ := w2.size
    have hA6 := w5 a.toNat (by rw [u0]; omega)
    rw [ea] at hA6
    refine r_aload_n (pc := 52) dX1_glaze_52 rfl ?_
    refine r_iload_n (pc := 53) dX1_glaze_53 rfl ?_
    refine r_callV (pc := 54) (kb' := 0) dX1_glaze_54 kX1_articleAt q1749 (t_X1_articleAt hb hX (RI_gl hI (by omega) (by omega)) (by rw [u0]; omega)) hb rfl (Nat.le_refl _) (Nat.le_of_ble_eq_true rfl) rfl rfl (Nat.le_of_ble_eq_true rfl) (fun _ _ q => q.elim) (fun _ _ hq => ?_)
    refine go_jE hq ?_
    refine gX1_164 (pc := 57) dX1_glaze_57 hA6 rfl ?_
    exact r_iret (pc := 60) dX1_glaze_60 rfl rfl ⟨congrArg (fun q : Int => some (Value.int (iZ q))) (uA_s (r := r)), (by unfold refGlaze; (repeat' split) <;> first | rfl | omega | contradiction), (hK1.cur hF hX.w).w, hC.tr (hF.wk (pTQ_C k9.1))⟩
