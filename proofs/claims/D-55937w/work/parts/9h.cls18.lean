set_option maxRecDepth 100000
/-! the class, part 18: the other orders -/
theorem t_X1_clay {G : Gl} {h9 : Hp} {o : Nat} {r : Row} {Y : KY} {s : Nat} {vs : Value} {hq0 ip ln : Nat} {rv : Value} {Tc Tv : Nat} {HT he : Nat → Nat} (hK : KWx G o (r, Y) s vs hq0 ip ln rv Tc Tv HT he h9) (hI : RI r) (hZ : FZ G h9) (hw : KX.wi (r, Y) = 0 ∨ KX.wi (r, Y) = 1) (hn : KX.hn (r, Y) ≤ 8) {c y : Int} (hc9 : InR c) (hy : InR y) : Ct G 10 530 yX1_clay (Cond.code yX1_clay cX1_clay 3 (some .int)) [.ref o, .int (iZ c), .int (iZ y)] h9 (oQ G o (r 0) (refClay r c y) ((chX (r, Y)).wR (cmR r c y)) h9) (oX G o (refClay r c y) (r, Y) h9) := by
  obtain ⟨k1, k2, k3, k4, k5, k6, k7, k8, k9⟩ := id hK
  obtain ⟨al, cl, sl, m1, m2, m3, n1, n2, E, F, hX9⟩ := k2
  have hX9 : SWx G Tc s r al cl sl m1 m2 m3 n1 n2 E F h9 := hX9
  have hb9 := k1
  have hF : Fr pQ h9 h9 := Fr.rf
  have hb := hb9
  have hX := hX9
  have b := hI.1
  have hX2 := hX
  obtain ⟨w1, w2, w3, w4, w5, w6, w7, w8⟩ := hX2
  obtain ⟨ar1, w2s⟩ := w2.size
  refine Ct.of (own := "CharterKiln") (nm := "clay") (by decide +kernel) rfl rfl (L := [some (.ref o), some (.int (iZ c)), some (.int (iZ y))]) rfl (Nat.le_of_ble_eq_true rfl) rfl ?_
  refine r_aload_n (pc := 0) dX1_clay_0 rfl ?_
  refine r_iload_n (pc := 1) dX1_clay_1 rfl ?_
  refine r_iconst (pc := 2) dX1_clay_2 ?_
  refine r_bipush (pc := 3) dX1_clay_3 (by decide) ?_
  refine r_callV (pc := 5) (kb' := 519) dX1_clay_5 kX1_inRange q1521 (t_X1_inRange hb hX hI (by omega) (by omega) (by omega)) hb rfl (Nat.le_of_ble_eq_true rfl) (Nat.le_of_ble_eq_true rfl) rfl rfl (Nat.le_of_ble_eq_true rfl) (fun E h7 hx => x_out rfl ⟨hx.1, (3, c), by
      have hc := hx.2.1
      unfold refClay; (repeat' split) <;> first | rfl | omega | contradiction, hK.rfW (XU.tr hF hx.2.2)⟩) (fun _ h hq => ?_)
  refine go_jN hq (fun hq2 => ?_)
  obtain ⟨e9, hpc⟩ := hq2
  replace e9 := e9.symm
  subst e9
  refine r_aload_n (pc := 8) dX1_clay_8 rfl ?_
  refine r_iload_n (pc := 9) dX1_clay_9 rfl ?_
  refine r_callV (pc := 10) (kb' := 508) dX1_clay_10 kX1_mustBeShelf q1566 (t_X1_mustBeShelf hb hX hI (by omega)) hb rfl (Nat.le_of_ble_eq_true rfl) (Nat.le_of_ble_eq_true rfl) rfl rfl (Nat.le_of_ble_eq_true rfl) (fun E h7 hx => x_out rfl ⟨hx.1, (2, y), by
      have hc := hx.2.1
      unfold refClay; (repeat' split) <;> first | rfl | omega | contradiction, hK.rfW (XU.tr hF hx.2.2)⟩) (fun _ h hq => ?_)
  refine go_jN hq (fun hq2 => ?_)
  obtain ⟨e9, hps⟩ := hq2
  replace e9 := e9.symm
  subst e9
  refine r_aload_n (pc := 13) dX1_clay_13 rfl ?_
  refine r_iload_n (pc := 14) dX1_clay_14 rfl ?_
  refine r_callV (pc := 15) (kb' := 491) dX1_clay_15 kX1_mustHaveRoom q1573 (t_X1_mustHaveRoom hb hX hI (by omega)) hb rfl (Nat.le_of_ble_eq_true rfl) (Nat.le_of_ble_eq_true rfl) rfl rfl (Nat.le_of_ble_eq_true rfl) (fun E h7 hx => x_out rfl ⟨hx.1, (6, y), by
      have hc := hx.2.1
      unfold refClay; (repeat' split) <;> first | rfl | omega | contradiction, hK.rfW (XU.tr hF hx.2.2)⟩) (fun _ h hq => ?_)
  refine go_jN hq (fun hq2 => ?_)
  obtain ⟨hf6, hpr⟩ := hq2
  replace hF := hF.tr hf6
  have hb := hF.get hb9 pQ_2
  have hX := hX9.q hF
  have hX2 := hX
  obtain ⟨w1, w2, w3, w4, w5, w6, w7, w8⟩ := hX2
  obtain ⟨ar1, w2s⟩ := w2.size
  refine r_aload_n (pc := 18) dX1_clay_18 rfl ?_
  refine r_aload_n (pc := 19) dX1_clay_19 rfl ?_
  refine gX1_10 (pc := 20) dX1_clay_20 hb rfl ?_
  refine gX1_95 (pc := 23) dX1_clay_23 w1 rfl ?_
  refine r_callV (pc := 26) (kb' := 491) dX1_clay_26 kJ2_size q1512 (t_J2_size w2s) w2s rfl (Nat.le_refl _) (Nat.le_of_ble_eq_true rfl) rfl rfl (Nat.le_of_ble_eq_true rfl) (fun _ _ q => q.elim) (fun _ _ hq => ?_)
  refine go_jE hq ?_
  refine go_cz (w := r 0) (by omega) ?_
  refine r_bipush (pc := 29) dX1_clay_29 (by decide) ?_
  refine r_icmp_ne (pc := 31) (tgt := 38) dX1_clay_31 (by decide) (by omega) (by omega) (fun c31 => ?_) (fun c31 => ?_)
  · refine r_iconst (pc := 38) dX1_clay_38 ?_
    refine go_cz (w := bZ (r 0 = 12)) (bZ_f (by first | assumption | omega)).symm ?_
    refine r_iconst (pc := 39) dX1_clay_39 ?_
    refine r_bipush (pc := 40) dX1_clay_40 (by decide) ?_
    refine r_callV (pc := 42) (kb' := 480) dX1_clay_42 kX1_refuse q1528 (t_X1_refuse (p := r 0 = 12) (n := 1) (d := 12) hb) hb rfl (Nat.le_of_ble_eq_true rfl) (Nat.le_of_ble_eq_true rfl) rfl rfl (Nat.le_of_ble_eq_true rfl) (fun E h7 hx => x_out rfl ⟨hx.1, (1, 12), by
        have hc := hx.2.1
        unfold refClay; (repeat' split) <;> first | rfl | omega | contradiction, hK.rfW (XU.tr hF hx.2.2)⟩) (fun _ h hq => ?_)
    refine go_jN hq (fun hq2 => ?_)
    obtain ⟨e9, hp4⟩ := hq2
    replace e9 := e9.symm
    subst e9
    refine r_aload_n (pc := 45) dX1_clay_45 rfl ?_
    refine r_callV (pc := 46) (kb' := 23) dX1_clay_46 kX1_change q1668 (t_X1_change (hK.q hF) hI (hZ.q hF) hw hn) hb rfl (Nat.le_of_ble_eq_true rfl) (Nat.le_of_ble_eq_true rfl) rfl rfl (Nat.le_of_ble_eq_true rfl) (fun _ _ q => q.elim) (fun _ h hq => ?_)
    refine go_jN hq (fun hq2 => ?_)
    obtain ⟨Tn, HT2, he2, hK1, hf, hTn, hTc⟩ := hq2
    have hC : Fr pC h9 h := (hF.wk pQ_C).tr (hf.wk (pCh_C hTn))
    replace hX := hX.fr hf (pCh_s k9.1 hTc) (pCh_z hTn)
    have hb := hK1.1
    replace hF : Fr (pTQ Tc) h h := Fr.rf
    have hT : Tc ≠ 0 := by have := k9.1; omega
    have h2T : ∀ k, ¬ pTQ Tc (2, k) := fun k => pT_2 k9.1
    have hX2 := hX
    obtain ⟨w1, w2, w3, w4, w5, w6, w7, w8⟩ := hX2
    obtain ⟨ar1, w2s⟩ := w2.size
    refine r_aload_n (pc := 49) dX1_clay_49 rfl ?_
    refine gX1_10 (pc := 50) dX1_clay_50 hb rfl ?_
    refine gX1_95 (pc := 53) dX1_clay_53 w1 rfl ?_
    refine r_new (pc := 56) (ci := 4) (T := TX5) (N := 6) ((Tc, 4)) [.int 0, .int 0, .int 0, .int 0, .int 0, .int 0] (kb' := 16) dX1_clay_56 rfl q1039 q1171 q140 (by intro j hj; revert j; decide +kernel) (Nat.le_of_ble_eq_true rfl) (fun qq hqq zqq => ?_)
    have hqe : ∀ i : Nat, i < (r 0).toNat → E i ≠ qq := fun i hi => ne_nw (w5 i hi) hqq
    replace hF := hF.tr (Fr.nw (x := ((Tc, 4), ob 4 [.int 0, .int 0, .int 0, .int 0, .int 0, .int 0])) hqq)
    replace hX := hX.fr (P := pN) (Fr.nw (x := ((Tc, 4), ob 4 [.int 0, .int 0, .int 0, .int 0, .int 0, .int 0])) hqq) (fun _ _ q => q) (fun q => q)
    have hq5 := up_s (h := h) (a := qq) (x := ((Tc, 4), ob 4 [.int 0, .int 0, .int 0, .int 0, .int 0, .int 0]))
    generalize up h qq ((Tc, 4), ob 4 [.int 0, .int 0, .int 0, .int 0, .int 0, .int 0]) = h at hF hX hq5 ⊢
    have hX2 := hX
    obtain ⟨w1, w2, w3, w4, w5, w6, w7, w8⟩ := hX2
    obtain ⟨ar1, w2s⟩ := w2.size
    have hb := hF.get hK1.1 (h2T 0)
    refine r_dup (pc := 59) dX1_clay_59 rfl ?_
    refine r_iload_n (pc := 60) dX1_clay_60 rfl ?_
    refine r_iload_n (pc := 61) dX1_clay_61 rfl ?_
    refine r_callI (pc := 62) (kb' := 16) dX1_clay_62 kX5_init q1727 (t_X5_init hq5 (tnz (by decide)).symm) (Nat.le_refl _) (Nat.le_of_ble_eq_true rfl) rfl rfl (Nat.le_of_ble_eq_true rfl) (fun _ _ q => q.elim) (fun _ h hq => ?_)
    refine go_jN hq (fun e9 => ?_)
    subst e9
    replace hF := hF.tr (Fr.upd (o' := ob 4 [.int (iZ c), .int 0, .int 0, .int 0, .int (iZ y), .int 0]) hq5 (Or.inl rfl))
    replace hX := hX.upa hq5 (o' := ob 4 [.int (iZ c), .int 0, .int 0, .int 0, .int (iZ y), .int 0]) hqe
    replace hq5 := up_s (h := h) (a := qq) (x := ((Tc, 4), ob 4 [.int (iZ c), .int 0, .int 0, .int 0, .int (iZ y), .int 0]))
    generalize up h qq ((Tc, 4), ob 4 [.int (iZ c), .int 0, .int 0, .int 0, .int (iZ y), .int 0]) = h at hF hX hq5 ⊢
    have hX2 := hX
    obtain ⟨w1, w2, w3, w4, w5, w6, w7, w8⟩ := hX2
    obtain ⟨ar1, w2s⟩ := w2.size
    have hb := hF.get hK1.1 (h2T 0)
    refine r_callV (pc := 65) (kb' := 0) dX1_clay_65 kJ2_add q1728 (t_J2_add w2 (tnz (by decide)).symm (by omega) hq5 (fun i hi => ⟨_, _, _, w5 i hi⟩) (by decide)) w2s rfl (Nat.le_of_ble_eq_true rfl) (Nat.le_of_ble_eq_true rfl) rfl rfl (Nat.le_of_ble_eq_true rfl) (fun _ _ q => q.elim) (fun _ h hq => ?_)
    refine go_jP hq (fun hq2 => ?_)
    obtain ⟨hA2, hF2⟩ := hq2
    replace hF := hF.tr (hF2.wk pTQ_t)
    replace hX := hX.addA (r' := cmR r c y) (by omega) hA2 hF2 (by rw [cm_C (by omega)]; exact hq5) hqe (fun j j0 j1 => ⟨(hI.2.2.2.1 j j0 j1).1, (hI.2.2.2.1 j j0 j1).2.1⟩) cm_0 (by omega) (fun j hj => cm_o (by omega) (by omega))
    have u0 : cmR r c y 0 = r 0 + 1 := cm_0
    have hX2 := hX
    obtain ⟨w1, w2, w3, w4, w5, w6, w7, w8⟩ := hX2
    obtain ⟨ar1, w2s⟩ := w2.size
    have hb := hF.get hK1.1 (h2T 0)
    refine r_pop (pc := 68) dX1_clay_68 rfl ?_
    refine r_aload_n (pc := 69) dX1_clay_69 rfl ?_
    refine gX1_10 (pc := 70) dX1_clay_70 hb rfl ?_
    refine gX1_95 (pc := 73) dX1_clay_73 w1 rfl ?_
    refine r_callV (pc := 76) (kb' := 0) dX1_clay_76 kJ2_size q1512 (t_J2_size w2s) w2s rfl (Nat.le_refl _) (Nat.le_of_ble_eq_true rfl) rfl rfl (Nat.le_of_ble_eq_true rfl) (fun _ _ q => q.elim) (fun _ _ hq => ?_)
    refine go_jE hq ?_
    refine go_cz (w := r 0 + 1) (by omega) ?_
    refine r_iconst (pc := 79) dX1_clay_79 ?_
    refine r_isub (pc := 80) dX1_clay_80 ?_
    exact r_iret (pc := 81) dX1_clay_81 rfl rfl ⟨congrArg (fun q : Int => some (Value.int (iZ q))) (by omega), (by unfold refClay; (repeat' split) <;> first | rfl | omega | contradiction), (hK1.cur hF hX.w).w, hC.tr (hF.wk (pTQ_C k9.1))⟩
  · refine r_iconst (pc := 34) dX1_clay_34 ?_
    refine go_cz (w := bZ (r 0 = 12)) (bZ_t (by first | assumption | omega)).symm ?_
    refine r_goto (pc := 35) (tgt := 39) dX1_clay_35 (by decide) ?_
    refine r_iconst (pc := 39) dX1_clay_39 ?_
    refine r_bipush (pc := 40) dX1_clay_40 (by decide) ?_
    refine r_callV (pc := 42) (kb' := 480) dX1_clay_42 kX1_refuse q1528 (t_X1_refuse (p := r 0 = 12) (n := 1) (d := 12) hb) hb rfl (Nat.le_of_ble_eq_true rfl) (Nat.le_of_ble_eq_true rfl) rfl rfl (Nat.le_of_ble_eq_true rfl) (fun E h7 hx => x_out rfl ⟨hx.1, (1, 12), by
        have hc := hx.2.1
        unfold refClay; (repeat' split) <;> first | rfl | omega | contradiction, hK.rfW (XU.tr hF hx.2.2)⟩) (fun _ h hq => ?_)
    refine go_jN hq (fun hq2 => ?_)
    obtain ⟨e9, hp4⟩ := hq2
    replace e9 := e9.symm
    subst e9
    refine r_aload_n (pc := 45) dX1_clay_45 rfl ?_
    refine r_callV (pc := 46) (kb' := 23) dX1_clay_46 kX1_change q1668 (t_X1_change (hK.q hF) hI (hZ.q hF) hw hn) hb rfl (Nat.le_of_ble_eq_true rfl) (Nat.le_of_ble_eq_true rfl) rfl rfl (Nat.le_of_ble_eq_true rfl) (fun _ _ q => q.elim) (fun _ h hq => ?_)
    refine go_jN hq (fun hq2 => ?_)
    obtain ⟨Tn, HT2, he2, hK1, hf, hTn, hTc⟩ := hq2
    have hC : Fr pC h9 h := (hF.wk pQ_C).tr (hf.wk (pCh_C hTn))
    replace hX := hX.fr hf (pCh_s k9.1 hTc) (pCh_z hTn)
    have hb := hK1.1
    replace hF : Fr (pTQ Tc) h h := Fr.rf
    have hT : Tc ≠ 0 := by have := k9.1; omega
    have h2T : ∀ k, ¬ pTQ Tc (2, k) := fun k => pT_2 k9.1
    have hX2 := hX
    obtain ⟨w1, w2, w3, w4, w5, w6, w7, w8⟩ := hX2
    obtain ⟨ar1, w2s⟩ := w2.size
    refine r_aload_n (pc := 49) dX1_clay_49 rfl ?_
    refine gX1_10 (pc := 50) dX1_clay_50 hb rfl ?_
    refine gX1_95 (pc := 53) dX1_clay_53 w1 rfl ?_
    refine r_new (pc := 56) (ci := 4) (T := TX5) (N := 6) ((Tc, 4)) [.int 0, .int 0, .int 0, .int 0, .int 0, .int 0] (kb' := 16) dX1_clay_56 rfl q1039 q1171 q140 (by intro j hj; revert j; decide +kernel) (Nat.le_of_ble_eq_true rfl) (fun qq hqq zqq => ?_)
    have hqe : ∀ i : Nat, i < (r 0).toNat → E i ≠ qq := fun i hi => ne_nw (w5 i hi) hqq
    replace hF := hF.tr (Fr.nw (x := ((Tc, 4), ob 4 [.int 0, .int 0, .int 0, .int 0, .int 0, .int 0])) hqq)
    replace hX := hX.fr (P := pN) (Fr.nw (x := ((Tc, 4), ob 4 [.int 0, .int 0, .int 0, .int 0, .int 0, .int 0])) hqq) (fun _ _ q => q) (fun q => q)
    have hq5 := up_s (h := h) (a := qq) (x := ((Tc, 4), ob 4 [.int 0, .int 0, .int 0, .int 0, .int 0, .int 0]))
    generalize up h qq ((Tc, 4), ob 4 [.int 0, .int 0, .int 0, .int 0, .int 0, .int 0]) = h at hF hX hq5 ⊢
    have hX2 := hX
    obtain ⟨w1, w2, w3, w4, w5, w6, w7, w8⟩ := hX2
    obtain ⟨ar1, w2s⟩ := w2.size
    have hb := hF.get hK1.1 (h2T 0)
    refine r_dup (pc := 59) dX1_clay_59 rfl ?_
    refine r_iload_n (pc := 60) dX1_clay_60 rfl ?_
    refine r_iload_n (pc := 61) dX1_clay_61 rfl ?_
    refine r_callI (pc := 62) (kb' := 16) dX1_clay_62 kX5_init q1727 (t_X5_init hq5 (tnz (by decide)).symm) (Nat.le_refl _) (Nat.le_of_ble_eq_true rfl) rfl rfl (Nat.le_of_ble_eq_true rfl) (fun _ _ q => q.elim) (fun _ h hq => ?_)
    refine go_jN hq (fun e9 => ?_)
    subst e9
    replace hF := hF.tr (Fr.upd (o' := ob 4 [.int (iZ c), .int 0, .int 0, .int 0, .int (iZ y), .int 0]) hq5 (Or.inl rfl))
    replace hX := hX.upa hq5 (o' := ob 4 [.int (iZ c), .int 0, .int 0, .int 0, .int (iZ y), .int 0]) hqe
    replace hq5 := up_s (h := h) (a := qq) (x := ((Tc, 4), ob 4 [.int (iZ c), .int 0, .int 0, .int 0, .int (iZ y), .int 0]))
    generalize up h qq ((Tc, 4), ob 4 [.int (iZ c), .int 0, .int 0, .int 0, .int (iZ y), .int 0]) = h at hF hX hq5 ⊢
    have hX2 := hX
    obtain ⟨w1, w2, w3, w4, w5, w6, w7, w8⟩ := hX2
    obtain ⟨ar1, w2s⟩ := w2.size
    have hb := hF.get hK1.1 (h2T 0)
    refine r_callV (pc := 65) (kb' := 0) dX1_clay_65 kJ2_add q1728 (t_J2_add w2 (tnz (by decide)).symm (by omega) hq5 (fun i hi => ⟨_, _, _, w5 i hi⟩) (by decide)) w2s rfl (Nat.le_of_ble_eq_true rfl) (Nat.le_of_ble_eq_true rfl) rfl rfl (Nat.le_of_ble_eq_true rfl) (fun _ _ q => q.elim) (fun _ h hq => ?_)
    refine go_jP hq (fun hq2 => ?_)
    obtain ⟨hA2, hF2⟩ := hq2
    replace hF := hF.tr (hF2.wk pTQ_t)
    replace hX := hX.addA (r' := cmR r c y) (by omega) hA2 hF2 (by rw [cm_C (by omega)]; exact hq5) hqe (fun j j0 j1 => ⟨(hI.2.2.2.1 j j0 j1).1, (hI.2.2.2.1 j j0 j1).2.1⟩) cm_0 (by omega) (fun j hj => cm_o (by omega) (by omega))
    have u0 : cmR r c y 0 = r 0 + 1 := cm_0
    have hX2 := hX
    obtain ⟨w1, w2, w3, w4, w5, w6, w7, w8⟩ := hX2
    obtain ⟨ar1, w2s⟩ := w2.size
    have hb := hF.get hK1.1 (h2T 0)
    refine r_pop (pc := 68) dX1_clay_68 rfl ?_
    refine r_aload_n (pc := 69) dX1_clay_69 rfl ?_
    refine gX1_10 (pc := 70) dX1_clay_70 hb rfl ?_
    refine gX1_95 (pc := 73) dX1_clay_73 w1 rfl ?_
    refine r_callV (pc := 76) (kb' := 0) dX1_clay_76 kJ2_size q1512 (t_J2_size w2s) w2s rfl (Nat.le_refl _) (Nat.le_of_ble_eq_true rfl) rfl rfl (Nat.le_of_ble_eq_true rfl) (fun _ _ q => q.elim) (fun _ _ hq => ?_)
    refine go_jE hq ?_
    refine go_cz (w := r 0 + 1) (by omega) ?_
    refine r_iconst (pc := 79) dX1_clay_79 ?_
    refine r_isub (pc := 80) dX1_clay_80 ?_
    exact r_iret (pc := 81) dX1_clay_81 rfl rfl ⟨congrArg (fun q : Int => some (Value.int (iZ q))) (by omega), (by unfold refClay; (repeat' split) <;> first | rfl | omega | contradiction), (hK1.cur hF hX.w).w, hC.tr (hF.wk (pTQ_C k9.1))⟩
theorem t_X1_shelve {G : Gl} {h9 : Hp} {o : Nat} {r : Row} {Y : KY} {s : Nat} {vs : Value} {hq0 ip ln : Nat} {rv : Value} {Tc Tv : Nat} {HT he : Nat → Nat} (hK : KWx G o (r, Y) s vs hq0 ip ln rv Tc Tv HT he h9) (hI : RI r) (hZ : FZ G h9) (hw : KX.wi (r, Y) = 0 ∨ KX.wi (r, Y) = 1) (hn : KX.hn (r, Y) ≤ 8) {a y : Int} (ha : InR a) (hy : InR y) : Ct G 10 518 yX1_shelve (Cond.code yX1_shelve cX1_shelve 4 (some .int)) [.ref o, .int (iZ a), .int (iZ y)] h9 (oQ G o (fA r a 4) (refShelve r a y) ((chX (r, Y)).wR (uA r a 4 y)) h9) (oX G o (refShelve r a y) (r, Y) h9) := by
  obtain ⟨k1, k2, k3, k4, k5, k6, k7, k8, k9⟩ := id hK
  obtain ⟨al, cl, sl, m1, m2, m3, n1, n2, E, F, hX9⟩ := k2
  have hX9 : SWx G Tc s r al cl sl m1 m2 m3 n1 n2 E F h9 := hX9
  have hb9 := k1
  have hF : Fr pQ h9 h9 := Fr.rf
  have hb := hb9
  have hX := hX9
  have b := hI.1
  have hX2 := hX
  obtain ⟨w1, w2, w3, w4, w5, w6, w7, w8⟩ := hX2
  obtain ⟨ar1, w2s⟩ := w2.size
  refine Ct.of (own := "CharterKiln") (nm := "shelve") (by decide +kernel) rfl rfl (L := [some (.ref o), some (.int (iZ a)), some (.int (iZ y)), none]) rfl (Nat.le_of_ble_eq_true rfl) rfl ?_
  refine r_aload_n (pc := 0) dX1_shelve_0 rfl ?_
  refine r_iload_n (pc := 1) dX1_shelve_1 rfl ?_
  refine r_callV (pc := 2) (kb' := 507) dX1_shelve_2 kX1_mustBeArticle q1736 (t_X1_mustBeArticle hb hX hI (by omega)) hb rfl (Nat.le_of_ble_eq_true rfl) (Nat.le_of_ble_eq_true rfl) rfl rfl (Nat.le_of_ble_eq_true rfl) (fun E h7 hx => x_out rfl ⟨hx.1, (2, a), by
      have hc := hx.2.1
      unfold refShelve; (repeat' split) <;> first | rfl | omega | contradiction, hK.rfW (XU.tr hF hx.2.2)⟩) (fun _ h hq => ?_)
  refine go_jN hq (fun hq2 => ?_)
  obtain ⟨e9, hpa⟩ := hq2
  replace e9 := e9.symm
  subst e9
  refine r_aload_n (pc := 5) dX1_shelve_5 rfl ?_
  refine r_iload_n (pc := 6) dX1_shelve_6 rfl ?_
  refine r_callV (pc := 7) (kb' := 496) dX1_shelve_7 kX1_mustBeShelf q1566 (t_X1_mustBeShelf hb hX hI (by omega)) hb rfl (Nat.le_of_ble_eq_true rfl) (Nat.le_of_ble_eq_true rfl) rfl rfl (Nat.le_of_ble_eq_true rfl) (fun E h7 hx => x_out rfl ⟨hx.1, (2, y), by
      have hc := hx.2.1
      unfold refShelve; (repeat' split) <;> first | rfl | omega | contradiction, hK.rfW (XU.tr hF hx.2.2)⟩) (fun _ h hq => ?_)
  refine go_jN hq (fun hq2 => ?_)
  obtain ⟨e9, hps⟩ := hq2
  replace e9 := e9.symm
  subst e9
  refine r_aload_n (pc := 10) dX1_shelve_10 rfl ?_
  refine r_iload_n (pc := 11) dX1_shelve_11 rfl ?_
  refine r_callV (pc := 12) (kb' := 485) dX1_shelve_12 kX1_mustNotBeLaw q1745 (t_X1_mustNotBeLaw hb hX hI (by omega)) hb rfl (Nat.le_of_ble_eq_true rfl) (Nat.le_of_ble_eq_true rfl) rfl rfl (Nat.le_of_ble_eq_true rfl) (fun E h7 hx => x_out rfl ⟨hx.1, (4, plOf r a), by
      have hc := hx.2.1
      unfold refShelve; (repeat' split) <;> first | rfl | omega | contradiction, hK.rfW (XU.tr hF hx.2.2)⟩) (fun _ h hq => ?_)
  refine go_jN hq (fun hq2 => ?_)
  obtain ⟨e9, hpl⟩ := hq2
  replace e9 := e9.symm
  subst e9
  refine r_aload_n (pc := 15) dX1_shelve_15 rfl ?_
  refine r_iload_n (pc := 16) dX1_shelve_16 rfl ?_
  refine r_callV (pc := 17) (kb' := 485) dX1_shelve_17 kX1_articleAt q1749 (t_X1_articleAt hb hX hI (by omega)) hb rfl (Nat.le_refl _) (Nat.le_of_ble_eq_true rfl) rfl rfl (Nat.le_of_ble_eq_true rfl) (fun _ _ q => q.elim) (fun _ _ hq => ?_)
  refine go_jE hq ?_
  have ea : ((a.toNat : Nat) : Int) = a := by omega
  have ho := hI.2.1 a (by omega) (by omega)
  have ho2 := ho
  unfold artOk at ho2
  have hA5 := w5 a.toNat (by omega)
  rw [ea] at hA5
  refine gX1_167 (pc := 20) dX1_shelve_20 hA5 rfl ?_
  refine r_istore_n (pc := 23) (L' := [_, _, _, _]) dX1_shelve_23 rfl ?_
  refine r_aload_n (pc := 24) dX1_shelve_24 rfl ?_
  refine r_iload_n (pc := 25) dX1_shelve_25 rfl ?_
  refine r_iload_n (pc := 26) dX1_shelve_26 rfl ?_
  refine r_icmp_ne (pc := 27) (tgt := 34) dX1_shelve_27 (by decide) (by omega) (by omega) (fun c27 => ?_) (fun c27 => ?_)
  · refine r_iconst (pc := 34) dX1_shelve_34 ?_
    refine go_cz (w := bZ (fA r a 4 = y)) (bZ_f (by first | assumption | omega)).symm ?_
    refine r_bipush (pc := 35) dX1_shelve_35 (by decide) ?_
    refine r_iload_n (pc := 37) dX1_shelve_37 rfl ?_
    refine r_callV (pc := 38) (kb' := 474) dX1_shelve_38 kX1_refuse q1528 (t_X1_refuse (p := fA r a 4 = y) (n := 7) (d := y) hb) hb rfl (Nat.le_of_ble_eq_true rfl) (Nat.le_of_ble_eq_true rfl) rfl rfl (Nat.le_of_ble_eq_true rfl) (fun E h7 hx => x_out rfl ⟨hx.1, (7, y), by
        have hc := hx.2.1
        unfold refShelve; (repeat' split) <;> first | rfl | omega | contradiction, hK.rfW (XU.tr hF hx.2.2)⟩) (fun _ h hq => ?_)
    refine go_jN hq (fun hq2 => ?_)
    obtain ⟨e9, hp4⟩ := hq2
    replace e9 := e9.symm
    subst e9
    refine r_aload_n (pc := 41) dX1_shelve_41 rfl ?_
    refine r_iload_n (pc := 42) dX1_shelve_42 rfl ?_
    refine r_callV (pc := 43) (kb' := 457) dX1_shelve_43 kX1_mustHaveRoom q1573 (t_X1_mustHaveRoom hb hX hI (by omega)) hb rfl (Nat.le_of_ble_eq_true rfl) (Nat.le_of_ble_eq_true rfl) rfl rfl (Nat.le_of_ble_eq_true rfl) (fun E h7 hx => x_out rfl ⟨hx.1, (6, y), by
        have hc := hx.2.1
        unfold refShelve; (repeat' split) <;> first | rfl | omega | contradiction, hK.rfW (XU.tr hF hx.2.2)⟩) (fun _ h hq => ?_)
    refine go_jN hq (fun hq2 => ?_)
    obtain ⟨hf6, hpr⟩ := hq2
    replace hF := hF.tr hf6
    have hb := hF.get hb9 pQ_2
    have hX := hX9.q hF
    have hX2 := hX
    obtain ⟨w1, w2, w3, w4, w5, w6, w7, w8⟩ := hX2
    obtain ⟨ar1, w2s⟩ := w2.size
    refine r_aload_n (pc := 46) dX1_shelve_46 rfl ?_
    refine r_callV (pc := 47) (kb' := 0) dX1_shelve_47 kX1_change q1668 (t_X1_change (hK.q hF) hI (hZ.q hF) hw hn) hb rfl (Nat.le_of_ble_eq_true rfl) (Nat.le_of_ble_eq_true rfl) rfl rfl (Nat.le_of_ble_eq_true rfl) (fun _ _ q => q.elim) (fun _ h hq => ?_)
    refine go_jN hq (fun hq2 => ?_)
    obtain ⟨Tn, HT2, he2, hK1, hf, hTn, hTc⟩ := hq2
    have hC : Fr pC h9 h := (hF.wk pQ_C).tr (hf.wk (pCh_C hTn))
    replace hX := hX.fr hf (pCh_s k9.1 hTc) (pCh_z hTn)
    have hb := hK1.1
    replace hF : Fr (pTQ Tc) h h := Fr.rf
    have hT : Tc ≠ 0 := by have := k9.1; omega
    have h2T : ∀ k, ¬ pTQ Tc (2, k) := fun k => pT_2 k9.1
    have hX2 := hX
    obtain ⟨w1, w2, w3, w4, w5, w6, w7, w8⟩ := hX2
    obtain ⟨ar1, w2s⟩ := w2.size
    refine r_aload_n (pc := 50) dX1_shelve_50 rfl ?_
    refine r_iload_n (pc := 51) dX1_shelve_51 rfl ?_
    refine r_callV (pc := 52) (kb' := 0) dX1_shelve_52 kX1_articleAt q1749 (t_X1_articleAt hb hX hI (by omega)) hb rfl (Nat.le_refl _) (Nat.le_of_ble_eq_true rfl) rfl rfl (Nat.le_of_ble_eq_true rfl) (fun _ _ q => q.elim) (fun _ _ hq => ?_)
    refine go_jE hq ?_
    have ea : ((a.toNat : Nat) : Int) = a := by omega
    have ho := hI.2.1 a (by omega) (by omega)
    have ho2 := ho
    unfold artOk at ho2
    have hA5 := w5 a.toNat (by omega)
    rw [ea] at hA5
    refine r_iload_n (pc := 55) dX1_shelve_55 rfl ?_
    refine pX1_167 (pc := 56) dX1_shelve_56 hA5 (tnz (by decide)).symm (Nat.le_of_ble_eq_true rfl) ?_
    refine gp_art (a := a) (w := 4) (z' := y) hX hF (by omega) (by omega) (by decide) rfl (fun h hX hF hF2 => ?_)
    refine r_iload_n (pc := 59) dX1_shelve_59 rfl ?_
    exact r_iret (pc := 60) dX1_shelve_60 rfl rfl ⟨rfl, (by unfold refShelve; (repeat' split) <;> first | rfl | omega | contradiction), (hK1.cur hF hX.w).w, hC.tr (hF.wk (pTQ_C k9.1))⟩
  · refine r_iconst (pc := 30) dX1_shelve_30 ?_
    refine go_cz (w := bZ (fA r a 4 = y)) (bZ_t (by first | assumption | omega)).symm ?_
    refine r_goto (pc := 31) (tgt := 35) dX1_shelve_31 (by decide) ?_
    refine r_bipush (pc := 35) dX1_shelve_35 (by decide) ?_
    refine r_iload_n (pc := 37) dX1_shelve_37 rfl ?_
    refine r_callV (pc := 38) (kb' := 474) dX1_shelve_38 kX1_refuse q1528 (t_X1_refuse (p := fA r a 4 = y) (n := 7) (d := y) hb) hb rfl (Nat.le_of_ble_eq_true rfl) (Nat.le_of_ble_eq_true rfl) rfl rfl (Nat.le_of_ble_eq_true rfl) (fun E h7 hx => x_out rfl ⟨hx.1, (7, y), by
        have hc := hx.2.1
        unfold refShelve; (repeat' split) <;> first | rfl | omega | contradiction, hK.rfW (XU.tr hF hx.2.2)⟩) (fun _ h hq => ?_)
    refine go_jN hq (fun hq2 => ?_)
    obtain ⟨e9, hp4⟩ := hq2
    replace e9 := e9.symm
    subst e9
    refine r_aload_n (pc := 41) dX1_shelve_41 rfl ?_
    refine r_iload_n (pc := 42) dX1_shelve_42 rfl ?_
    refine r_callV (pc := 43) (kb' := 457) dX1_shelve_43 kX1_mustHaveRoom q1573 (t_X1_mustHaveRoom hb hX hI (by omega)) hb rfl (Nat.le_of_ble_eq_true rfl) (Nat.le_of_ble_eq_true rfl) rfl rfl (Nat.le_of_ble_eq_true rfl) (fun E h7 hx => x_out rfl ⟨hx.1, (6, y), by
        have hc := hx.2.1
        unfold refShelve; (repeat' split) <;> first | rfl | omega | contradiction, hK.rfW (XU.tr hF hx.2.2)⟩) (fun _ h hq => ?_)
    refine go_jN hq (fun hq2 => ?_)
    obtain ⟨hf6, hpr⟩ := hq2
    replace hF := hF.tr hf6
    have hb := hF.get hb9 pQ_2
    have hX := hX9.q hF
    have hX2 := hX
    obtain ⟨w1, w2, w3, w4, w5, w6, w7, w8⟩ := hX2
    obtain ⟨ar1, w2s⟩ := w2.size
    refine r_aload_n (pc := 46) dX1_shelve_46 rfl ?_
    refine r_callV (pc := 47) (kb' := 0) dX1_shelve_47 kX1_change q1668 (t_X1_change (hK.q hF) hI (hZ.q hF) hw hn) hb rfl (Nat.le_of_ble_eq_true rfl) (Nat.le_of_ble_eq_true rfl) rfl rfl (Nat.le_of_ble_eq_true rfl) (fun _ _ q => q.elim) (fun _ h hq => ?_)
    refine go_jN hq (fun hq2 => ?_)
    obtain ⟨Tn, HT2, he2, hK1, hf, hTn, hTc⟩ := hq2
    have hC : Fr pC h9 h := (hF.wk pQ_C).tr (hf.wk (pCh_C hTn))
    replace hX := hX.fr hf (pCh_s k9.1 hTc) (pCh_z hTn)
    have hb := hK1.1
    replace hF : Fr (pTQ Tc) h h := Fr.rf
    have hT : Tc ≠ 0 := by have := k9.1; omega
    have h2T : ∀ k, ¬ pTQ Tc (2, k) := fun k => pT_2 k9.1
    have hX2 := hX
    obtain ⟨w1, w2, w3, w4, w5, w6, w7, w8⟩ := hX2
    obtain ⟨ar1, w2s⟩ := w2.size
    refine r_aload_n (pc := 50) dX1_shelve_50 rfl ?_
    refine r_iload_n (pc := 51) dX1_shelve_51 rfl ?_
    refine r_callV (pc := 52) (kb' := 0) dX1_shelve_52 kX1_articleAt q1749 (t_X1_articleAt hb hX hI (by omega)) hb rfl (Nat.le_refl _) (Nat.le_of_ble_eq_true rfl) rfl rfl (Nat.le_of_ble_eq_true rfl) (fun _ _ q => q.elim) (fun _ _ hq => ?_)
    refine go_jE hq ?_
    have ea : ((a.toNat : Nat) : Int) = a := by omega
    have ho := hI.2.1 a (by omega) (by omega)
    have ho2 := ho
    unfold artOk at ho2
    have hA5 := w5 a.toNat (by omega)
    rw [ea] at hA5
    refine r_iload_n (pc := 55) dX1_shelve_55 rfl ?_
    refine pX1_167 (pc := 56) dX1_shelve_56 hA5 (tnz (by decide)).symm (Nat.le_of_ble_eq_true rfl) ?_
    refine gp_art (a := a) (w := 4) (z' := y) hX hF (by omega) (by omega) (by decide) rfl (fun h hX hF hF2 => ?_)
    refine r_iload_n (pc := 59) dX1_shelve_59 rfl ?_
    exact r_iret (pc := 60) dX1_shelve_60 rfl rfl ⟨rfl, (by unfold refShelve; (repeat' split) <;> first | rfl | omega | contradiction), (hK1.cur hF hX.w).w, hC.tr (hF.wk (pTQ_C k9.1))⟩
theorem t_X1_scrap {G : Gl} {h9 : Hp} {o : Nat} {r : Row} {Y : KY} {s : Nat} {vs : Value} {hq0 ip ln : Nat} {rv : Value} {Tc Tv : Nat} {HT he : Nat → Nat} (hK : KWx G o (r, Y) s vs hq0 ip ln rv Tc Tv HT he h9) (hI : RI r) (hZ : FZ G h9) (hw : KX.wi (r, Y) = 0 ∨ KX.wi (r, Y) = 1) (hn : KX.hn (r, Y) ≤ 8) {a : Int} (ha : InR a) : Ct G 10 479 yX1_scrap (Cond.code yX1_scrap cX1_scrap 2 (some .int)) [.ref o, .int (iZ a)] h9 (oQ G o (r 0 - 1) (refScrap r a) ((chX (r, Y)).wR (goR r a)) h9) (oX G o (refScrap r a) (r, Y) h9) := by
  obtain ⟨k1, k2, k3, k4, k5, k6, k7, k8, k9⟩ := id hK
  obtain ⟨al, cl, sl, m1, m2, m3, n1, n2, E, F, hX9⟩ := k2
  have hX9 : SWx G Tc s r al cl sl m1 m2 m3 n1 n2 E F h9 := hX9
  have hb9 := k1
  have hF : Fr pQ h9 h9 := Fr.rf
  have hb := hb9
  have hX := hX9
  have b := hI.1
  have hX2 := hX
  obtain ⟨w1, w2, w3, w4, w5, w6, w7, w8⟩ := hX2
  obtain ⟨ar1, w2s⟩ := w2.size
  refine Ct.of (own := "CharterKiln") (nm := "scrap") (by decide +kernel) rfl rfl (L := [some (.ref o), some (.int (iZ a))]) rfl (Nat.le_of_ble_eq_true rfl) rfl ?_
  refine r_aload_n (pc := 0) dX1_scrap_0 rfl ?_
  refine r_iload_n (pc := 1) dX1_scrap_1 rfl ?_
  refine r_callV (pc := 2) (kb' := 468) dX1_scrap_2 kX1_mustBeArticle q1736 (t_X1_mustBeArticle hb hX hI (by omega)) hb rfl (Nat.le_of_ble_eq_true rfl) (Nat.le_of_ble_eq_true rfl) rfl rfl (Nat.le_of_ble_eq_true rfl) (fun E h7 hx => x_out rfl ⟨hx.1, (2, a), by
      have hc := hx.2.1
      unfold refScrap; (repeat' split) <;> first | rfl | omega | contradiction, hK.rfW (XU.tr hF hx.2.2)⟩) (fun _ h hq => ?_)
  refine go_jN hq (fun hq2 => ?_)
  obtain ⟨e9, hpa⟩ := hq2
  replace e9 := e9.symm
  subst e9
  refine r_aload_n (pc := 5) dX1_scrap_5 rfl ?_
  refine r_iload_n (pc := 6) dX1_scrap_6 rfl ?_
  refine r_callV (pc := 7) (kb' := 457) dX1_scrap_7 kX1_mustNotBeLaw q1745 (t_X1_mustNotBeLaw hb hX hI (by omega)) hb rfl (Nat.le_of_ble_eq_true rfl) (Nat.le_of_ble_eq_true rfl) rfl rfl (Nat.le_of_ble_eq_true rfl) (fun E h7 hx => x_out rfl ⟨hx.1, (4, plOf r a), by
      have hc := hx.2.1
      unfold refScrap; (repeat' split) <;> first | rfl | omega | contradiction, hK.rfW (XU.tr hF hx.2.2)⟩) (fun _ h hq => ?_)
  refine go_jN hq (fun hq2 => ?_)
  obtain ⟨e9, hpl⟩ := hq2
  replace e9 := e9.symm
  subst e9
  refine r_aload_n (pc := 10) dX1_scrap_10 rfl ?_
  refine r_callV (pc := 11) (kb' := 0) dX1_scrap_11 kX1_change q1668 (t_X1_change (hK.q hF) hI (hZ.q hF) hw hn) hb rfl (Nat.le_of_ble_eq_true rfl) (Nat.le_of_ble_eq_true rfl) rfl rfl (Nat.le_of_ble_eq_true rfl) (fun _ _ q => q.elim) (fun _ h hq => ?_)
  refine go_jN hq (fun hq2 => ?_)
  obtain ⟨Tn, HT2, he2, hK1, hf, hTn, hTc⟩ := hq2
  have hC : Fr pC h9 h := (hF.wk pQ_C).tr (hf.wk (pCh_C hTn))
  replace hX := hX.fr hf (pCh_s k9.1 hTc) (pCh_z hTn)
  have hb := hK1.1
  replace hF : Fr (pTQ Tc) h h := Fr.rf
  have hT : Tc ≠ 0 := by have := k9.1; omega
  have h2T : ∀ k, ¬ pTQ Tc (2, k) := fun k => pT_2 k9.1
  have hX2 := hX
  obtain ⟨w1, w2, w3, w4, w5, w6, w7, w8⟩ := hX2
  obtain ⟨ar1, w2s⟩ := w2.size
  refine r_aload_n (pc := 14) dX1_scrap_14 rfl ?_
  refine gX1_10 (pc := 15) dX1_scrap_15 hb rfl ?_
  refine gX1_95 (pc := 18) dX1_scrap_18 w1 rfl ?_
  refine r_iload_n (pc := 21) dX1_scrap_21 rfl ?_
  refine go_cz (w := ((a.toNat : Nat) : Int)) (by omega) ?_
  refine r_callV (pc := 22) (kb' := 0) dX1_scrap_22 kJ2_remove q1940 (t_J2_remove (i := a.toNat) w2 (tnz (by decide)).symm (by omega) (fun i hi => ⟨_, _, _, w5 i hi⟩)) w2s rfl (Nat.le_refl _) (Nat.le_of_ble_eq_true rfl) rfl rfl (Nat.le_of_ble_eq_true rfl) (fun _ _ q => q.elim) (fun _ h hq => ?_)
  refine go_jP hq (fun hq2 => ?_)
  obtain ⟨hA2, hF2⟩ := hq2
  have hnl : ∀ j, 0 ≤ j → j < r 1 → (0 ≤ r (12 + j) ∧ r (12 + j) < r 0) ∧ r (12 + j) ≠ a := fun j j0 j1 => by
    have q := hI.2.2.2.1 j j0 j1
    exact ⟨⟨q.1, q.2.1⟩, fun e => by rw [e] at q; omega⟩
  replace hF := hF.tr (hF2.wk pTQ_t)
  replace hX := hX.remA (a := a) (by omega) (by omega) hA2 (hF2.wk (fun _ q => Or.inl q)) hnl
  have u0 : goR r a 0 = r 0 - 1 := go_0
  have hX2 := hX
  obtain ⟨w1, w2, w3, w4, w5, w6, w7, w8⟩ := hX2
  obtain ⟨ar1, w2s⟩ := w2.size
  have hb := hF.get hK1.1 (h2T 0)
  refine r_pop (pc := 25) dX1_scrap_25 rfl ?_
  refine r_aload_n (pc := 26) dX1_scrap_26 rfl ?_
  refine gX1_10 (pc := 27) dX1_scrap_27 hb rfl ?_
  refine gX1_95 (pc := 30) dX1_scrap_30 w1 rfl ?_
  refine r_callV (pc := 33) (kb' := 0) dX1_scrap_33 kJ2_size q1512 (t_J2_size w2s) w2s rfl (Nat.le_refl _) (Nat.le_of_ble_eq_true rfl) rfl rfl (Nat.le_of_ble_eq_true rfl) (fun _ _ q => q.elim) (fun _ _ hq => ?_)
  refine go_jE hq ?_
  refine go_cz (w := r 0 - 1) (by omega) ?_
  exact r_iret (pc := 36) dX1_scrap_36 rfl rfl ⟨rfl, (by unfold refScrap; (repeat' split) <;> first | rfl | omega | contradiction), (hK1.cur hF hX.w).w, hC.tr (hF.wk (pTQ_C k9.1))⟩
theorem t_X1_fire {G : Gl} {h9 : Hp} {o : Nat} {r : Row} {Y : KY} {s : Nat} {vs : Value} {hq0 ip ln : Nat} {rv : Value} {Tc Tv : Nat} {HT he : Nat → Nat} (hK : KWx G o (r, Y) s vs hq0 ip ln rv Tc Tv HT he h9) (hI : RI r) (hZ : FZ G h9) (hw : KX.wi (r, Y) = 0 ∨ KX.wi (r, Y) = 1) (hn : KX.hn (r, Y) ≤ 8) {x : Int} (hx9 : InR x) : Ct G 10 580 yX1_fire (Cond.code yX1_fire cX1_fire 2 (some .int)) [.ref o, .int (iZ x)] h9 (oQ G o ((buZ x (r 0).toNat r 0 0).2) (refFire r x) ((chX (r, Y)).wR (fiR r x)) h9) (oX G o (refFire r x) (r, Y) h9) := by
  obtain ⟨k1, k2, k3, k4, k5, k6, k7, k8, k9⟩ := id hK
  obtain ⟨al, cl, sl, m1, m2, m3, n1, n2, E, F, hX9⟩ := k2
  have hX9 : SWx G Tc s r al cl sl m1 m2 m3 n1 n2 E F h9 := hX9
  have hb9 := k1
  have hF : Fr pQ h9 h9 := Fr.rf
  have hb := hb9
  have hX := hX9
  have b := hI.1
  have hX2 := hX
  obtain ⟨w1, w2, w3, w4, w5, w6, w7, w8⟩ := hX2
  obtain ⟨ar1, w2s⟩ := w2.size
  refine Ct.of (own := "CharterKiln") (nm := "fire") (by decide +kernel) rfl rfl (L := [some (.ref o), some (.int (iZ x))]) rfl (Nat.le_of_ble_eq_true rfl) rfl ?_
  refine r_aload_n (pc := 0) dX1_fire_0 rfl ?_
  refine r_iload_n (pc := 1) dX1_fire_1 rfl ?_
  refine r_bipush (pc := 2) dX1_fire_2 (by decide) ?_
  refine r_bipush (pc := 4) dX1_fire_4 (by decide) ?_
  refine r_callV (pc := 6) (kb' := 569) dX1_fire_6 kX1_inRange q1521 (t_X1_inRange (lo := 10) (hi := 99) hb hX hI (by omega) (by omega) (by omega)) hb rfl (Nat.le_of_ble_eq_true rfl) (Nat.le_of_ble_eq_true rfl) rfl rfl (Nat.le_of_ble_eq_true rfl) (fun E h7 hx => x_out rfl ⟨hx.1, (3, x), by
      have hc := hx.2.1
      unfold refFire; (repeat' split) <;> first | rfl | omega | contradiction, hK.rfW (XU.tr hF hx.2.2)⟩) (fun _ h hq => ?_)
  refine go_jN hq (fun hq2 => ?_)
  obtain ⟨e9, hpx⟩ := hq2
  replace e9 := e9.symm
  subst e9
  refine r_aload_n (pc := 9) dX1_fire_9 rfl ?_
  refine r_aload_n (pc := 10) dX1_fire_10 rfl ?_
  refine gX1_10 (pc := 11) dX1_fire_11 hb rfl ?_
  refine gX1_95 (pc := 14) dX1_fire_14 w1 rfl ?_
  refine r_callV (pc := 17) (kb' := 569) dX1_fire_17 kJ2_size q1512 (t_J2_size w2s) w2s rfl (Nat.le_refl _) (Nat.le_of_ble_eq_true rfl) rfl rfl (Nat.le_of_ble_eq_true rfl) (fun _ _ q => q.elim) (fun _ _ hq => ?_)
  refine go_jE hq ?_
  refine go_cz (w := r 0) (by omega) ?_
  refine r_aload_n (pc := 20) dX1_fire_20 rfl ?_
  refine gX1_10 (pc := 21) dX1_fire_21 hb rfl ?_
  refine gX1_122 (pc := 24) dX1_fire_24 w1 rfl ?_
  refine r_callV (pc := 27) (kb' := 569) dX1_fire_27 kJ4_size q1773 (t_J4_size w3) w3.2.1 rfl (Nat.le_refl _) (Nat.le_of_ble_eq_true rfl) rfl rfl (Nat.le_of_ble_eq_true rfl) (fun _ _ q => q.elim) (fun _ _ hq => ?_)
  refine go_jE hq ?_
  refine go_cz (w := r 1) (by omega) ?_
  refine r_icmp_ne (pc := 30) (tgt := 37) dX1_fire_30 (by decide) (by omega) (by omega) (fun c30 => ?_) (fun c30 => ?_)
  · refine r_iconst (pc := 37) dX1_fire_37 ?_
    refine go_cz (w := bZ (r 1 = r 0)) (bZ_f (by first | assumption | omega)).symm ?_
    refine r_bipush (pc := 38) dX1_fire_38 (by decide) ?_
    refine r_aload_n (pc := 40) dX1_fire_40 rfl ?_
    refine gX1_10 (pc := 41) dX1_fire_41 hb rfl ?_
    refine gX1_122 (pc := 44) dX1_fire_44 w1 rfl ?_
    refine r_callV (pc := 47) (kb' := 569) dX1_fire_47 kJ4_size q1773 (t_J4_size w3) w3.2.1 rfl (Nat.le_refl _) (Nat.le_of_ble_eq_true rfl) rfl rfl (Nat.le_of_ble_eq_true rfl) (fun _ _ q => q.elim) (fun _ _ hq => ?_)
    refine go_jE hq ?_
    refine go_cz (w := r 1) (by omega) ?_
    refine r_callV (pc := 50) (kb' := 558) dX1_fire_50 kX1_refuse q1528 (t_X1_refuse (p := r 1 = r 0) (n := 12) (d := r 1) hb) hb rfl (Nat.le_of_ble_eq_true rfl) (Nat.le_of_ble_eq_true rfl) rfl rfl (Nat.le_of_ble_eq_true rfl) (fun E h7 hx => x_out rfl ⟨hx.1, (12, r 1), by
        have hc := hx.2.1
        unfold refFire; (repeat' split) <;> first | rfl | omega | contradiction, hK.rfW (XU.tr hF hx.2.2)⟩) (fun _ h hq => ?_)
    refine go_jN hq (fun hq2 => ?_)
    obtain ⟨e9, hp4⟩ := hq2
    replace e9 := e9.symm
    subst e9
    refine r_aload_n (pc := 53) dX1_fire_53 rfl ?_
    refine r_callV (pc := 54) (kb' := 101) dX1_fire_54 kX1_change q1668 (t_X1_change (hK.q hF) hI (hZ.q hF) hw hn) hb rfl (Nat.le_of_ble_eq_true rfl) (Nat.le_of_ble_eq_true rfl) rfl rfl (Nat.le_of_ble_eq_true rfl) (fun _ _ q => q.elim) (fun _ h hq => ?_)
    refine go_jN hq (fun hq2 => ?_)
    obtain ⟨Tn, HT2, he2, hK1, hf, hTn, hTc⟩ := hq2
    have hC : Fr pC h9 h := (hF.wk pQ_C).tr (hf.wk (pCh_C hTn))
    replace hX := hX.fr hf (pCh_s k9.1 hTc) (pCh_z hTn)
    have hb := hK1.1
    replace hF : Fr (pTQ Tc) h h := Fr.rf
    have hT : Tc ≠ 0 := by have := k9.1; omega
    have h2T : ∀ k, ¬ pTQ Tc (2, k) := fun k => pT_2 k9.1
    have hX2 := hX
    obtain ⟨w1, w2, w3, w4, w5, w6, w7, w8⟩ := hX2
    obtain ⟨ar1, w2s⟩ := w2.size
    refine r_aload_n (pc := 57) dX1_fire_57 rfl ?_
    refine gX1_10 (pc := 58) dX1_fire_58 hb rfl ?_
    refine r_iload_n (pc := 61) dX1_fire_61 rfl ?_
    refine r_callV (pc := 62) (kb' := 0) dX1_fire_62 kX2_fires q1774 (t_X2_fires hX hI hT (by have := k9.1; omega) hpx) w1 rfl (Nat.le_of_ble_eq_true rfl) (Nat.le_of_ble_eq_true rfl) rfl rfl (Nat.le_of_ble_eq_true rfl) (fun _ _ q => q.elim) (fun _ h hq => ?_)
    refine go_jP hq (fun hq2 => ?_)
    obtain ⟨hS, hF2⟩ := hq2
    replace hF := hF.tr hF2
    exact r_iret (pc := 65) dX1_fire_65 rfl rfl ⟨rfl, (by unfold refFire; (repeat' split) <;> first | rfl | omega | contradiction), (hK1.cur hF hS).w, hC.tr (hF.wk (pTQ_C k9.1))⟩
  · refine r_iconst (pc := 33) dX1_fire_33 ?_
    refine go_cz (w := bZ (r 1 = r 0)) (bZ_t (by first | assumption | omega)).symm ?_
    refine r_goto (pc := 34) (tgt := 38) dX1_fire_34 (by decide) ?_
    refine r_bipush (pc := 38) dX1_fire_38 (by decide) ?_
    refine r_aload_n (pc := 40) dX1_fire_40 rfl ?_
    refine gX1_10 (pc := 41) dX1_fire_41 hb rfl ?_
    refine gX1_122 (pc := 44) dX1_fire_44 w1 rfl ?_
    refine r_callV (pc := 47) (kb' := 569) dX1_fire_47 kJ4_size q1773 (t_J4_size w3) w3.2.1 rfl (Nat.le_refl _) (Nat.le_of_ble_eq_true rfl) rfl rfl (Nat.le_of_ble_eq_true rfl) (fun _ _ q => q.elim) (fun _ _ hq => ?_)
    refine go_jE hq ?_
    refine go_cz (w := r 1) (by omega) ?_
    refine r_callV (pc := 50) (kb' := 558) dX1_fire_50 kX1_refuse q1528 (t_X1_refuse (p := r 1 = r 0) (n := 12) (d := r 1) hb) hb rfl (Nat.le_of_ble_eq_true rfl) (Nat.le_of_ble_eq_true rfl) rfl rfl (Nat.le_of_ble_eq_true rfl) (fun E h7 hx => x_out rfl ⟨hx.1, (12, r 1), by
        have hc := hx.2.1
        unfold refFire; (repeat' split) <;> first | rfl | omega | contradiction, hK.rfW (XU.tr hF hx.2.2)⟩) (fun _ h hq => ?_)
    refine go_jN hq (fun hq2 => ?_)
    obtain ⟨e9, hp4⟩ := hq2
    replace e9 := e9.symm
    subst e9
    refine r_aload_n (pc := 53) dX1_fire_53 rfl ?_
    refine r_callV (pc := 54) (kb' := 101) dX1_fire_54 kX1_change q1668 (t_X1_change (hK.q hF) hI (hZ.q hF) hw hn) hb rfl (Nat.le_of_ble_eq_true rfl) (Nat.le_of_ble_eq_true rfl) rfl rfl (Nat.le_of_ble_eq_true rfl) (fun _ _ q => q.elim) (fun _ h hq => ?_)
    refine go_jN hq (fun hq2 => ?_)
    obtain ⟨Tn, HT2, he2, hK1, hf, hTn, hTc⟩ := hq2
    have hC : Fr pC h9 h := (hF.wk pQ_C).tr (hf.wk (pCh_C hTn))
    replace hX := hX.fr hf (pCh_s k9.1 hTc) (pCh_z hTn)
    have hb := hK1.1
    replace hF : Fr (pTQ Tc) h h := Fr.rf
    have hT : Tc ≠ 0 := by have := k9.1; omega
    have h2T : ∀ k, ¬ pTQ Tc (2, k) := fun k => pT_2 k9.1
    have hX2 := hX
    obtain ⟨w1, w2, w3, w4, w5, w6, w7, w8⟩ := hX2
    obtain ⟨ar1, w2s⟩ := w2.size
    refine r_aload_n (pc := 57) dX1_fire_57 rfl ?_
    refine gX1_10 (pc := 58) dX1_fire_58 hb rfl ?_
    refine r_iload_n (pc := 61) dX1_fire_61 rfl ?_
    refine r_callV (pc := 62) (kb' := 0) dX1_fire_62 kX2_fires q1774 (t_X2_fires hX hI hT (by have := k9.1; omega) hpx) w1 rfl (Nat.le_of_ble_eq_true rfl) (Nat.le_of_ble_eq_true rfl) rfl rfl (Nat.le_of_ble_eq_true rfl) (fun _ _ q => q.elim) (fun _ h hq => ?_)
    refine go_jP hq (fun hq2 => ?_)
    obtain ⟨hS, hF2⟩ := hq2
    replace hF := hF.tr hF2
    exact r_iret (pc := 65) dX1_fire_65 rfl rfl ⟨rfl, (by unfold refFire; (repeat' split) <;> first | rfl | omega | contradiction), (hK1.cur hF hS).w, hC.tr (hF.wk (pTQ_C k9.1))⟩
theorem t_X1_cite {G : Gl} {h9 : Hp} {o : Nat} {r : Row} {Y : KY} {s : Nat} {vs : Value} {hq0 ip ln : Nat} {rv : Value} {Tc Tv : Nat} {HT he : Nat → Nat} (hK : KWx G o (r, Y) s vs hq0 ip ln rv Tc Tv HT he h9) (hI : RI r) (hZ : FZ G h9) (hw : KX.wi (r, Y) = 0 ∨ KX.wi (r, Y) = 1) (hn : KX.hn (r, Y) ≤ 8) {x a : Int} (hx9 : InR x) (ha : InR a) : Ct G 10 518 yX1_cite (Cond.code yX1_cite cX1_cite 5 (some .int)) [.ref o, .int (iZ x), .int (iZ a)] h9 (oQ G o (ciN r x a) (refCite r x a) ((chX (r, Y)).wR (ciR r x a)) h9) (oX G o (refCite r x a) (r, Y) h9) := by
  obtain ⟨k1, k2, k3, k4, k5, k6, k7, k8, k9⟩ := id hK
  obtain ⟨al, cl, sl, m1, m2, m3, n1, n2, E, F, hX9⟩ := k2
  have hX9 : SWx G Tc s r al cl sl m1 m2 m3 n1 n2 E F h9 := hX9
  have hb9 := k1
  have hF : Fr pQ h9 h9 := Fr.rf
  have hb := hb9
  have hX := hX9
  have b := hI.1
  have hX2 := hX
  obtain ⟨w1, w2, w3, w4, w5, w6, w7, w8⟩ := hX2
  obtain ⟨ar1, w2s⟩ := w2.size
  refine Ct.of (own := "CharterKiln") (nm := "cite") (by decide +kernel) rfl rfl (L := [some (.ref o), some (.int (iZ x)), some (.int (iZ a)), none, none]) rfl (Nat.le_of_ble_eq_true rfl) rfl ?_
  refine r_aload_n (pc := 0) dX1_cite_0 rfl ?_
  refine r_aload_n (pc := 1) dX1_cite_1 rfl ?_
  refine gX1_10 (pc := 2) dX1_cite_2 hb rfl ?_
  refine r_iload_n (pc := 5) dX1_cite_5 rfl ?_
  refine r_callV (pc := 6) (kb' := 518) dX1_cite_6 kX2_isShard q1893 (t_X2_isShard hX.w hI (by omega)) w1 rfl (Nat.le_refl _) (Nat.le_of_ble_eq_true rfl) rfl rfl (Nat.le_of_ble_eq_true rfl) (fun _ _ q => q.elim) (fun _ _ hq => ?_)
  refine go_jE hq ?_
  refine r_ifB_ne (pc := 9) (tgt := 16) dX1_cite_9 (by decide) (fun c9 => ?_) (fun c9 => ?_)
  · refine r_iconst (pc := 16) dX1_cite_16 ?_
    refine go_cz (w := bZ (¬ (0 ≤ x ∧ x ≤ r 2 - 1))) (bZ_f (by first | assumption | omega)).symm ?_
    refine r_iconst (pc := 17) dX1_cite_17 ?_
    refine r_iload_n (pc := 18) dX1_cite_18 rfl ?_
    refine r_callV (pc := 19) (kb' := 507) dX1_cite_19 kX1_refuse q1528 (t_X1_refuse (p := ¬ (0 ≤ x ∧ x ≤ r 2 - 1)) (n := 2) (d := x) hb) hb rfl (Nat.le_of_ble_eq_true rfl) (Nat.le_of_ble_eq_true rfl) rfl rfl (Nat.le_of_ble_eq_true rfl) (fun E h7 hx => x_out rfl ⟨hx.1, (2, x), by
        have hc := hx.2.1
        unfold refCite; (repeat' split) <;> first | rfl | omega | contradiction, hK.rfW (XU.tr hF hx.2.2)⟩) (fun _ h hq => ?_)
    refine go_jN hq (fun hq2 => ?_)
    obtain ⟨e9, hpx⟩ := hq2
    replace e9 := e9.symm
    subst e9
    refine r_aload_n (pc := 22) dX1_cite_22 rfl ?_
    refine r_iload_n (pc := 23) dX1_cite_23 rfl ?_
    refine r_callV (pc := 24) (kb' := 496) dX1_cite_24 kX1_mustBeArticle q1736 (t_X1_mustBeArticle hb hX hI (by omega)) hb rfl (Nat.le_of_ble_eq_true rfl) (Nat.le_of_ble_eq_true rfl) rfl rfl (Nat.le_of_ble_eq_true rfl) (fun E h7 hx => x_out rfl ⟨hx.1, (2, a), by
        have hc := hx.2.1
        unfold refCite; (repeat' split) <;> first | rfl | omega | contradiction, hK.rfW (XU.tr hF hx.2.2)⟩) (fun _ h hq => ?_)
    refine go_jN hq (fun hq2 => ?_)
    obtain ⟨e9, hpa⟩ := hq2
    replace e9 := e9.symm
    subst e9
    refine r_aload_n (pc := 27) dX1_cite_27 rfl ?_
    refine r_iload_n (pc := 28) dX1_cite_28 rfl ?_
    refine r_callV (pc := 29) (kb' := 485) dX1_cite_29 kX1_mustNotBeLaw q1745 (t_X1_mustNotBeLaw hb hX hI (by omega)) hb rfl (Nat.le_of_ble_eq_true rfl) (Nat.le_of_ble_eq_true rfl) rfl rfl (Nat.le_of_ble_eq_true rfl) (fun E h7 hx => x_out rfl ⟨hx.1, (4, plOf r a), by
        have hc := hx.2.1
        unfold refCite; (repeat' split) <;> first | rfl | omega | contradiction, hK.rfW (XU.tr hF hx.2.2)⟩) (fun _ h hq => ?_)
    refine go_jN hq (fun hq2 => ?_)
    obtain ⟨e9, hpl⟩ := hq2
    replace e9 := e9.symm
    subst e9
    refine r_aload_n (pc := 32) dX1_cite_32 rfl ?_
    refine r_iload_n (pc := 33) dX1_cite_33 rfl ?_
    refine r_callV (pc := 34) (kb' := 485) dX1_cite_34 kX1_articleAt q1749 (t_X1_articleAt hb hX hI (by omega)) hb rfl (Nat.le_refl _) (Nat.le_of_ble_eq_true rfl) rfl rfl (Nat.le_of_ble_eq_true rfl) (fun _ _ q => q.elim) (fun _ _ hq => ?_)
    refine go_jE hq ?_
    have ea : ((a.toNat : Nat) : Int) = a := by omega
    have ho := hI.2.1 a (by omega) (by omega)
    have ho2 := ho
    unfold artOk at ho2
    have hA5 := w5 a.toNat (by omega)
    rw [ea] at hA5
    refine r_astore_n (pc := 37) (L' := [_, _, _, _, _]) dX1_cite_37 rfl ?_
    refine r_aload_n (pc := 38) dX1_cite_38 rfl ?_
    refine gX1_10 (pc := 39) dX1_cite_39 hb rfl ?_
    refine gX1_180 (pc := 42) dX1_cite_42 w1 rfl ?_
    refine r_iload_n (pc := 45) dX1_cite_45 rfl ?_
    refine go_cz (w := ((x.toNat : Nat) : Int)) (by omega) ?_
    refine r_callV (pc := 46) (kb' := 485) dX1_cite_46 kJ4_get q1897 (t_J4_get w4 (i := x.toNat) (by omega)) w4.2.1 rfl (Nat.le_refl _) (Nat.le_of_ble_eq_true rfl) rfl rfl (Nat.le_of_ble_eq_true rfl) (fun _ _ q => q.elim) (fun _ _ hq => ?_)
    refine go_jE hq ?_
    have hS6 := w6 x.toNat (by omega)
    rw [show ((x.toNat : Nat) : Int) = x by omega] at hS6
    have hso := hI.2.2.1 x (by omega) (by omega)
    have hso2 := hso
    unfold shOk at hso2
    refine r_cast (pc := 49) dX1_cite_49 q1282 hS6 rfl ?_
    refine gX1_186 (pc := 52) dX1_cite_52 hS6 rfl ?_
    refine r_aload_n (pc := 55) dX1_cite_55 rfl ?_
    refine gX1_189 (pc := 56) dX1_cite_56 hA5 rfl ?_
    refine r_callS (pc := 59) (kb' := 485) dX1_cite_59 kX1_apart q1898 (t_X1_apart (by omega) (by omega)) (Nat.le_refl _) (Nat.le_of_ble_eq_true rfl) rfl rfl (Nat.le_of_ble_eq_true rfl) (fun _ _ q => q.elim) (fun _ _ hq => ?_)
    refine go_jE hq ?_
    refine go_cz (w := apt r x a) rfl ?_
    have hap : 0 ≤ apt r x a ∧ apt r x a ≤ 8 := ap_in (by omega) (by omega)
    refine r_istore (pc := 62) (L' := [_, _, _, _, _]) dX1_cite_62 rfl ?_
    refine r_aload_n (pc := 64) dX1_cite_64 rfl ?_
    refine r_aload_n (pc := 65) dX1_cite_65 rfl ?_
    refine gX1_193 (pc := 66) dX1_cite_66 hA5 rfl ?_
    refine r_if_ne (pc := 69) (tgt := 76) dX1_cite_69 (by decide) (by omega) (fun c69 => ?_) (fun c69 => ?_)
    · refine r_iconst (pc := 76) dX1_cite_76 ?_
      refine go_cz (w := bZ (fA r a 2 = 0)) (bZ_f (by first | assumption | omega)).symm ?_
      refine r_bipush (pc := 77) dX1_cite_77 (by decide) ?_
      refine r_aload_n (pc := 79) dX1_cite_79 rfl ?_
      refine gX1_164 (pc := 80) dX1_cite_80 hA5 rfl ?_
      refine r_callV (pc := 83) (kb' := 474) dX1_cite_83 kX1_refuse q1528 (t_X1_refuse (p := fA r a 2 = 0) (n := 10) (d := fA r a 1) hb) hb rfl (Nat.le_of_ble_eq_true rfl) (Nat.le_of_ble_eq_true rfl) rfl rfl (Nat.le_of_ble_eq_true rfl) (fun E h7 hx => x_out rfl ⟨hx.1, (10, fA r a 1), by
          have hc := hx.2.1
          unfold refCite; (repeat' split) <;> first | rfl | omega | contradiction, hK.rfW (XU.tr hF hx.2.2)⟩) (fun _ h hq => ?_)
      refine go_jN hq (fun hq2 => ?_)
      obtain ⟨e9, hp4⟩ := hq2
      replace e9 := e9.symm
      subst e9
      refine r_aload_n (pc := 86) dX1_cite_86 rfl ?_
      refine r_iload (pc := 87) dX1_cite_87 rfl ?_
      refine r_iconst (pc := 89) dX1_cite_89 ?_
      refine r_icmp_le (pc := 90) (tgt := 97) dX1_cite_90 (by decide) (by omega) (by omega) (fun c90 => ?_) (fun c90 => ?_)
      · refine r_iconst (pc := 97) dX1_cite_97 ?_
        refine go_cz (w := bZ (2 < apt r x a)) (bZ_f (by first | assumption | omega)).symm ?_
        refine r_bipush (pc := 98) dX1_cite_98 (by decide) ?_
        refine r_iload (pc := 100) dX1_cite_100 rfl ?_
        refine r_callV (pc := 102) (kb' := 463) dX1_cite_102 kX1_refuse q1528 (t_X1_refuse (p := 2 < apt r x a) (n := 11) (d := apt r x a) hb) hb rfl (Nat.le_of_ble_eq_true rfl) (Nat.le_of_ble_eq_true rfl) rfl rfl (Nat.le_of_ble_eq_true rfl) (fun E h7 hx => x_out rfl ⟨hx.1, (11, apt r x a), by
            have hc := hx.2.1
            unfold refCite; (repeat' split) <;> first | rfl | omega | contradiction, hK.rfW (XU.tr hF hx.2.2)⟩) (fun _ h hq => ?_)
        refine go_jN hq (fun hq2 => ?_)
        obtain ⟨e9, hp5⟩ := hq2
        replace e9 := e9.symm
        subst e9
        refine r_aload_n (pc := 105) dX1_cite_105 rfl ?_
        refine r_callV (pc := 106) (kb' := 6) dX1_cite_106 kX1_change q1668 (t_X1_change (hK.q hF) hI (hZ.q hF) hw hn) hb rfl (Nat.le_of_ble_eq_true rfl) (Nat.le_of_ble_eq_true rfl) rfl rfl (Nat.le_of_ble_eq_true rfl) (fun _ _ q => q.elim) (fun _ h hq => ?_)
        refine go_jN hq (fun hq2 => ?_)
        obtain ⟨Tn, HT2, he2, hK1, hf, hTn, hTc⟩ := hq2
        have hC : Fr pC h9 h := (hF.wk pQ_C).tr (hf.wk (pCh_C hTn))
        replace hX := hX.fr hf (pCh_s k9.1 hTc) (pCh_z hTn)
        have hb := hK1.1
        replace hF : Fr (pTQ Tc) h h := Fr.rf
        have hT : Tc ≠ 0 := by have := k9.1; omega
        have h2T : ∀ k, ¬ pTQ Tc (2, k) := fun k => pT_2 k9.1
        have hX2 := hX
        obtain ⟨w1, w2, w3, w4, w5, w6, w7, w8⟩ := hX2
        obtain ⟨ar1, w2s⟩ := w2.size
        refine r_aload_n (pc := 109) dX1_cite_109 rfl ?_
        refine gX1_10 (pc := 110) dX1_cite_110 hb rfl ?_
        refine r_aload_n (pc := 113) dX1_cite_113 rfl ?_
        refine gX1_10 (pc := 114) dX1_cite_114 hb rfl ?_
        refine gX1_180 (pc := 117) dX1_cite_117 w1 rfl ?_
        refine r_iload_n (pc := 120) dX1_cite_120 rfl ?_
        refine go_cz (w := ((x.toNat : Nat) : Int)) (by omega) ?_
        refine r_callV (pc := 121) (kb' := 6) dX1_cite_121 kJ4_get q1897 (t_J4_get w4 (i := x.toNat) (by omega)) w4.2.1 rfl (Nat.le_refl _) (Nat.le_of_ble_eq_true rfl) rfl rfl (Nat.le_of_ble_eq_true rfl) (fun _ _ q => q.elim) (fun _ _ hq => ?_)
        refine go_jE hq ?_
        have hS6 := w6 x.toNat (by omega)
        rw [show ((x.toNat : Nat) : Int) = x by omega] at hS6
        have hso := hI.2.2.1 x (by omega) (by omega)
        have hso2 := hso
        unfold shOk at hso2
        refine r_cast (pc := 124) dX1_cite_124 q1282 hS6 rfl ?_
        refine r_aload_n (pc := 127) dX1_cite_127 rfl ?_
        refine r_callV (pc := 128) (kb' := 0) dX1_cite_128 kX2_cites q1901 (t_X2_cites hX hI hT (by omega) (by omega) (by omega)) w1 rfl (Nat.le_of_ble_eq_true rfl) (Nat.le_of_ble_eq_true rfl) rfl rfl (Nat.le_of_ble_eq_true rfl) (fun _ _ q => q.elim) (fun _ h hq => ?_)
        refine go_jP hq (fun hq2 => ?_)
        obtain ⟨⟨_, _, _, hX⟩, hF2⟩ := hq2
        replace hF := hF.tr hF2
        exact r_iret (pc := 131) dX1_cite_131 rfl rfl ⟨rfl, (by unfold refCite; (repeat' split) <;> first | rfl | omega | contradiction), (hK1.cur hF hX.w).w, hC.tr (hF.wk (pTQ_C k9.1))⟩
      · refine r_iconst (pc := 93) dX1_cite_93 ?_
        refine go_cz (w := bZ (2 < apt r x a)) (bZ_t (by first | assumption | omega)).symm ?_
        refine r_goto (pc := 94) (tgt := 98) dX1_cite_94 (by decide) ?_
        refine r_bipush (pc := 98) dX1_cite_98 (by decide) ?_
        refine r_iload (pc := 100) dX1_cite_100 rfl ?_
        refine r_callV (pc := 102) (kb' := 463) dX1_cite_102 kX1_refuse q1528 (t_X1_refuse (p := 2 < apt r x a) (n := 11) (d := apt r x a) hb) hb rfl (Nat.le_of_ble_eq_true rfl) (Nat.le_of_ble_eq_true rfl) rfl rfl (Nat.le_of_ble_eq_true rfl) (fun E h7 hx => x_out rfl ⟨hx.1, (11, apt r x a), by
            have hc := hx.2.1
            unfold refCite; (repeat' split) <;> first | rfl | omega | contradiction, hK.rfW (XU.tr hF hx.2.2)⟩) (fun _ h hq => ?_)
        refine go_jN hq (fun hq2 => ?_)
        obtain ⟨e9, hp5⟩ := hq2
        replace e9 := e9.symm
        subst e9
        refine r_aload_n (pc := 105) dX1_cite_105 rfl ?_
        refine r_callV (pc := 106) (kb' := 6) dX1_cite_106 kX1_change q1668 (t_X1_change (hK.q hF) hI (hZ.q hF) hw hn) hb rfl (Nat.le_of_ble_eq_true rfl) (Nat.le_of_ble_eq_true rfl) rfl rfl (Nat.le_of_ble_eq_true rfl) (fun _ _ q => q.elim) (fun _ h hq => ?_)
        refine go_jN hq (fun hq2 => ?_)
        obtain ⟨Tn, HT2, he2, hK1, hf, hTn, hTc⟩ := hq2
        have hC : Fr pC h9 h := (hF.wk pQ_C).tr (hf.wk (pCh_C hTn))
        replace hX := hX.fr hf (pCh_s k9.1 hTc) (pCh_z hTn)
        have hb := hK1.1
        replace hF : Fr (pTQ Tc) h h := Fr.rf
        have hT : Tc ≠ 0 := by have := k9.1; omega
        have h2T : ∀ k, ¬ pTQ Tc (2, k) := fun k => pT_2 k9.1
        have hX2 := hX
        obtain ⟨w1, w2, w3, w4, w5, w6, w7, w8⟩ := hX2
        obtain ⟨ar1, w2s⟩ := w2.size
        refine r_aload_n (pc := 109) dX1_cite_109 rfl ?_
        refine gX1_10 (pc := 110) dX1_cite_110 hb rfl ?_
        refine r_aload_n (pc := 113) dX1_cite_113 rfl ?_
        refine gX1_10 (pc := 114) dX1_cite_114 hb rfl ?_
        refine gX1_180 (pc := 117) dX1_cite_117 w1 rfl ?_
        refine r_iload_n (pc := 120) dX1_cite_120 rfl ?_
        refine go_cz (w := ((x.toNat : Nat) : Int)) (by omega) ?_
        refine r_callV (pc := 121) (kb' := 6) dX1_cite_121 kJ4_get q1897 (t_J4_get w4 (i := x.toNat) (by omega)) w4.2.1 rfl (Nat.le_refl _) (Nat.le_of_ble_eq_true rfl) rfl rfl (Nat.le_of_ble_eq_true rfl) (fun _ _ q => q.elim) (fun _ _ hq => ?_)
        refine go_jE hq ?_
        have hS6 := w6 x.toNat (by omega)
        rw [show ((x.toNat : Nat) : Int) = x by omega] at hS6
        have hso := hI.2.2.1 x (by omega) (by omega)
        have hso2 := hso
        unfold shOk at hso2
        refine r_cast (pc := 124) dX1_cite_124 q1282 hS6 rfl ?_
        refine r_aload_n (pc := 127) dX1_cite_127 rfl ?_
        refine r_callV (pc := 128) (kb' := 0) dX1_cite_128 kX2_cites q1901 (t_X2_cites hX hI hT (by omega) (by omega) (by omega)) w1 rfl (Nat.le_of_ble_eq_true rfl) (Nat.le_of_ble_eq_true rfl) rfl rfl (Nat.le_of_ble_eq_true rfl) (fun _ _ q => q.elim) (fun _ h hq => ?_)
        refine go_jP hq (fun hq2 => ?_)
        obtain ⟨⟨_, _, _, hX⟩, hF2⟩ := hq2
        replace hF := hF.tr hF2
        exact r_iret (pc := 131) dX1_cite_131 rfl rfl ⟨rfl, (by unfold refCite; (repeat' split) <;> first | rfl | omega | contradiction), (hK1.cur hF hX.w).w, hC.tr (hF.wk (pTQ_C k9.1))⟩
    · refine r_iconst (pc := 72) dX1_cite_72 ?_
      refine go_cz (w := bZ (fA r a 2 = 0)) (bZ_t (by first | assumption | omega)).symm ?_
      refine r_goto (pc := 73) (tgt := 77) dX1_cite_73 (by decide) ?_
      refine r_bipush (pc := 77) dX1_cite_77 (by decide) ?_
      refine r_aload_n (pc := 79) dX1_cite_79 rfl ?_
      refine gX1_164 (pc := 80) dX1_cite_80 hA5 rfl ?_
      refine r_callV (pc := 83) (kb' := 474) dX1_cite_83 kX1_refuse q1528 (t_X1_refuse (p := fA r a 2 = 0) (n := 10) (d := fA r a 1) hb) hb rfl (Nat.le_of_ble_eq_true rfl) (Nat.le_of_ble_eq_true rfl) rfl rfl (Nat.le_of_ble_eq_true rfl) (fun E h7 hx => x_out rfl ⟨hx.1, (10, fA r a 1), by
          have hc := hx.2.1
          unfold refCite; (repeat' split) <;> first | rfl | omega | contradiction, hK.rfW (XU.tr hF hx.2.2)⟩) (fun _ h hq => ?_)
      refine go_jN hq (fun hq2 => ?_)
      obtain ⟨e9, hp4⟩ := hq2
      replace e9 := e9.symm
      subst e9
      refine r_aload_n (pc := 86) dX1_cite_86 rfl ?_
      refine r_iload (pc := 87) dX1_cite_87 rfl ?_
      refine r_iconst (pc := 89) dX1_cite_89 ?_
      refine r_icmp_le (pc := 90) (tgt := 97) dX1_cite_90 (by decide) (by omega) (by omega) (fun c90 => ?_) (fun c90 => ?_)
      · refine r_iconst (pc := 97) dX1_cite_97 ?_
        refine go_cz (w := bZ (2 < apt r x a)) (bZ_f (by first | assumption | omega)).symm ?_
        refine r_bipush (pc := 98) dX1_cite_98 (by decide) ?_
        refine r_iload (pc := 100) dX1_cite_100 rfl ?_
        refine r_callV (pc := 102) (kb' := 463) dX1_cite_102 kX1_refuse q1528 (t_X1_refuse (p := 2 < apt r x a) (n := 11) (d := apt r x a) hb) hb rfl (Nat.le_of_ble_eq_true rfl) (Nat.le_of_ble_eq_true rfl) rfl rfl (Nat.le_of_ble_eq_true rfl) (fun E h7 hx => x_out rfl ⟨hx.1, (11, apt r x a), by
            have hc := hx.2.1
            unfold refCite; (repeat' split) <;> first | rfl | omega | contradiction, hK.rfW (XU.tr hF hx.2.2)⟩) (fun _ h hq => ?_)
        refine go_jN hq (fun hq2 => ?_)
        obtain ⟨e9, hp5⟩ := hq2
        replace e9 := e9.symm
        subst e9
        refine r_aload_n (pc := 105) dX1_cite_105 rfl ?_
        refine r_callV (pc := 106) (kb' := 6) dX1_cite_106 kX1_change q1668 (t_X1_change (hK.q hF) hI (hZ.q hF) hw hn) hb rfl (Nat.le_of_ble_eq_true rfl) (Nat.le_of_ble_eq_true rfl) rfl rfl (Nat.le_of_ble_eq_true rfl) (fun _ _ q => q.elim) (fun _ h hq => ?_)
        refine go_jN hq (fun hq2 => ?_)
        obtain ⟨Tn, HT2, he2, hK1, hf, hTn, hTc⟩ := hq2
        have hC : Fr pC h9 h := (hF.wk pQ_C).tr (hf.wk (pCh_C hTn))
        replace hX := hX.fr hf (pCh_s k9.1 hTc) (pCh_z hTn)
        have hb := hK1.1
        replace hF : Fr (pTQ Tc) h h := Fr.rf
        have hT : Tc ≠ 0 := by have := k9.1; omega
        have h2T : ∀ k, ¬ pTQ Tc (2, k) := fun k => pT_2 k9.1
        have hX2 := hX
        obtain ⟨w1, w2, w3, w4, w5, w6, w7, w8⟩ := hX2
        obtain ⟨ar1, w2s⟩ := w2.size
        refine r_aload_n (pc := 109) dX1_cite_109 rfl ?_
        refine gX1_10 (pc := 110) dX1_cite_110 hb rfl ?_
        refine r_aload_n (pc := 113) dX1_cite_113 rfl ?_
        refine gX1_10 (pc := 114) dX1_cite_114 hb rfl ?_
        refine gX1_180 (pc := 117) dX1_cite_117 w1 rfl ?_
        refine r_iload_n (pc := 120) dX1_cite_120 rfl ?_
        refine go_cz (w := ((x.toNat : Nat) : Int)) (by omega) ?_
        refine r_callV (pc := 121) (kb' := 6) dX1_cite_121 kJ4_get q1897 (t_J4_get w4 (i := x.toNat) (by omega)) w4.2.1 rfl (Nat.le_refl _) (Nat.le_of_ble_eq_true rfl) rfl rfl (Nat.le_of_ble_eq_true rfl) (fun _ _ q => q.elim) (fun _ _ hq => ?_)
        refine go_jE hq ?_
        have hS6 := w6 x.toNat (by omega)
        rw [show ((x.toNat : Nat) : Int) = x by omega] at hS6
        have hso := hI.2.2.1 x (by omega) (by omega)
        have hso2 := hso
        unfold shOk at hso2
        refine r_cast (pc := 124) dX1_cite_124 q1282 hS6 rfl ?_
        refine r_aload_n (pc := 127) dX1_cite_127 rfl ?_
        refine r_callV (pc := 128) (kb' := 0) dX1_cite_128 kX2_cites q1901 (t_X2_cites hX hI hT (by omega) (by omega) (by omega)) w1 rfl (Nat.le_of_ble_eq_true rfl) (Nat.le_of_ble_eq_true rfl) rfl rfl (Nat.le_of_ble_eq_true rfl) (fun _ _ q => q.elim) (fun _ h hq => ?_)
        refine go_jP hq (fun hq2 => ?_)
        obtain ⟨⟨_, _, _, hX⟩, hF2⟩ := hq2
        replace hF := hF.tr hF2
        exact r_iret (pc := 131) dX1_cite_131 rfl rfl ⟨rfl, (by unfold refCite; (repeat' split) <;> first | rfl | omega | contradiction), (hK1.cur hF hX.w).w, hC.tr (hF.wk (pTQ_C k9.1))⟩
      · refine r_iconst (pc := 93) dX1_cite_93 ?_
        refine go_cz (w := bZ (2 < apt r x a)) (bZ_t (by first | assumption | omega)).symm ?_
        refine r_goto (pc := 94) (tgt := 98) dX1_cite_94 (by decide) ?_
        refine r_bipush (pc := 98) dX1_cite_98 (by decide) ?_
        refine r_iload (pc := 100) dX1_cite_100 rfl ?_
        refine r_callV (pc := 102) (kb' := 463) dX1_cite_102 kX1_refuse q1528 (t_X1_refuse (p := 2 < apt r x a) (n := 11) (d := apt r x a) hb) hb rfl (Nat.le_of_ble_eq_true rfl) (Nat.le_of_ble_eq_true rfl) rfl rfl (Nat.le_of_ble_eq_true rfl) (fun E h7 hx => x_out rfl ⟨hx.1, (11, apt r x a), by
            have hc := hx.2.1
            unfold refCite; (repeat' split) <;> first | rfl | omega | contradiction, hK.rfW (XU.tr hF hx.2.2)⟩) (fun _ h hq => ?_)
        refine go_jN hq (fun hq2 => ?_)
        obtain ⟨e9, hp5⟩ := hq2
        replace e9 := e9.symm
        subst e9
        refine r_aload_n (pc := 105) dX1_cite_105 rfl ?_
        refine r_callV (pc := 106) (kb' := 6) dX1_cite_106 kX1_change q1668 (t_X1_change (hK.q hF) hI (hZ.q hF) hw hn) hb rfl (Nat.le_of_ble_eq_true rfl) (Nat.le_of_ble_eq_true rfl) rfl rfl (Nat.le_of_ble_eq_true rfl) (fun _ _ q => q.elim) (fun _ h hq => ?_)
        refine go_jN hq (fun hq2 => ?_)
        obtain ⟨Tn, HT2, he2, hK1, hf, hTn, hTc⟩ := hq2
        have hC : Fr pC h9 h := (hF.wk pQ_C).tr (hf.wk (pCh_C hTn))
        replace hX := hX.fr hf (pCh_s k9.1 hTc) (pCh_z hTn)
        have hb := hK1.1
        replace hF : Fr (pTQ Tc) h h := Fr.rf
        have hT : Tc ≠ 0 := by have := k9.1; omega
        have h2T : ∀ k, ¬ pTQ Tc (2, k) := fun k => pT_2 k9.1
        have hX2 := hX
        obtain ⟨w1, w2, w3, w4, w5, w6, w7, w8⟩ := hX2
        obtain ⟨ar1, w2s⟩ := w2.size
        refine r_aload_n (pc := 109) dX1_cite_109 rfl ?_
        refine gX1_10 (pc := 110) dX1_cite_110 hb rfl ?_
        refine r_aload_n (pc := 113) dX1_cite_113 rfl ?_
        refine gX1_10 (pc := 114) dX1_cite_114 hb rfl ?_
        refine gX1_180 (pc := 117) dX1_cite_117 w1 rfl ?_
        refine r_iload_n (pc := 120) dX1_cite_120 rfl ?_
        refine go_cz (w := ((x.toNat : Nat) : Int)) (by omega) ?_
        refine r_callV (pc := 121) (kb' := 6) dX1_cite_121 kJ4_get q1897 (t_J4_get w4 (i := x.toNat) (by omega)) w4.2.1 rfl (Nat.le_refl _) (Nat.le_of_ble_eq_true rfl) rfl rfl (Nat.le_of_ble_eq_true rfl) (fun _ _ q => q.elim) (fun _ _ hq => ?_)
        refine go_jE hq ?_
        have hS6 := w6 x.toNat (by omega)
        rw [show ((x.toNat : Nat) : Int) = x by omega] at hS6
        have hso := hI.2.2.1 x (by omega) (by omega)
        have hso2 := hso
        unfold shOk at hso2
        refine r_cast (pc := 124) dX1_cite_124 q1282 hS6 rfl ?_
        refine r_aload_n (pc := 127) dX1_cite_127 rfl ?_
        refine r_callV (pc := 128) (kb' := 0) dX1_cite_128 kX2_cites q1901 (t_X2_cites hX hI hT (by omega) (by omega) (by omega)) w1 rfl (Nat.le_of_ble_eq_true rfl) (Nat.le_of_ble_eq_true rfl) rfl rfl (Nat.le_of_ble_eq_true rfl) (fun _ _ q => q.elim) (fun _ h hq => ?_)
        refine go_jP hq (fun hq2 => ?_)
        obtain ⟨⟨_, _, _, hX⟩, hF2⟩ := hq2
        replace hF := hF.tr hF2
        exact r_iret (pc := 131) dX1_cite_131 rfl rfl ⟨rfl, (by unfold refCite; (repeat' split) <;> first | rfl | omega | contradiction), (hK1.cur hF hX.w).w, hC.tr (hF.wk (pTQ_C k9.1))⟩
  · refine r_iconst (pc := 12) dX1_cite_12 ?_
    refine go_cz (w := bZ (¬ (0 ≤ x ∧ x ≤ r 2 - 1))) (bZ_t (by first | assumption | omega)).symm ?_
    refine r_goto (pc := 13) (tgt := 17) dX1_cite_13 (by decide) ?_
    refine r_iconst (pc := 17) dX1_cite_17 ?_
    refine r_iload_n (pc := 18) dX1_cite_18 rfl ?_
    refine r_callV (pc := 19) (kb' := 507) dX1_cite_19 kX1_refuse q1528 (t_X1_refuse (p := ¬ (0 ≤ x ∧ x ≤ r 2 - 1)) (n := 2) (d := x) hb) hb rfl (Nat.le_of_ble_eq_true rfl) (Nat.le_of_ble_eq_true rfl) rfl rfl (Nat.le_of_ble_eq_true rfl) (fun E h7 hx => x_out rfl ⟨hx.1, (2, x), by
        have hc := hx.2.1
        unfold refCite; (repeat' split) <;> first | rfl | omega | contradiction, hK.rfW (XU.tr hF hx.2.2)⟩) (fun _ h hq => ?_)
    refine go_jN hq (fun hq2 => ?_)
    obtain ⟨e9, hpx⟩ := hq2
    replace e9 := e9.symm
    subst e9
    refine r_aload_n (pc := 22) dX1_cite_22 rfl ?_
    refine r_iload_n (pc := 23) dX1_cite_23 rfl ?_
    refine r_callV (pc := 24) (kb' := 496) dX1_cite_24 kX1_mustBeArticle q1736 (t_X1_mustBeArticle hb hX hI (by omega)) hb rfl (Nat.le_of_ble_eq_true rfl) (Nat.le_of_ble_eq_true rfl) rfl rfl (Nat.le_of_ble_eq_true rfl) (fun E h7 hx => x_out rfl ⟨hx.1, (2, a), by
        have hc := hx.2.1
        unfold refCite; (repeat' split) <;> first | rfl | omega | contradiction, hK.rfW (XU.tr hF hx.2.2)⟩) (fun _ h hq => ?_)
    refine go_jN hq (fun hq2 => ?_)
    obtain ⟨e9, hpa⟩ := hq2
    replace e9 := e9.symm
    subst e9
    refine r_aload_n (pc := 27) dX1_cite_27 rfl ?_
    refine r_iload_n (pc := 28) dX1_cite_28 rfl ?_
    refine r_callV (pc := 29) (kb' := 485) dX1_cite_29 kX1_mustNotBeLaw q1745 (t_X1_mustNotBeLaw hb hX hI (by omega)) hb rfl (Nat.le_of_ble_eq_true rfl) (Nat.le_of_ble_eq_true rfl) rfl rfl (Nat.le_of_ble_eq_true rfl) (fun E h7 hx => x_out rfl ⟨hx.1, (4, plOf r a), by
        have hc := hx.2.1
        unfold refCite; (repeat' split) <;> first | rfl | omega | contradiction, hK.rfW (XU.tr hF hx.2.2)⟩) (fun _ h hq => ?_)
    refine go_jN hq (fun hq2 => ?_)
    obtain ⟨e9, hpl⟩ := hq2
    replace e9 := e9.symm
    subst e9
    refine r_aload_n (pc := 32) dX1_cite_32 rfl ?_
    refine r_iload_n (pc := 33) dX1_cite_33 rfl ?_
    refine r_callV (pc := 34) (kb' := 485) dX1_cite_34 kX1_articleAt q1749 (t_X1_articleAt hb hX hI (by omega)) hb rfl (Nat.le_refl _) (Nat.le_of_ble_eq_true rfl) rfl rfl (Nat.le_of_ble_eq_true rfl) (fun _ _ q => q.elim) (fun _ _ hq => ?_)
    refine go_jE hq ?_
    have ea : ((a.toNat : Nat) : Int) = a := by omega
    have ho := hI.2.1 a (by omega) (by omega)
    have ho2 := ho
    unfold artOk at ho2
    have hA5 := w5 a.toNat (by omega)
    rw [ea] at hA5
    refine r_astore_n (pc := 37) (L' := [_, _, _, _, _]) dX1_cite_37 rfl ?_
    refine r_aload_n (pc := 38) dX1_cite_38 rfl ?_
    refine gX1_10 (pc := 39) dX1_cite_39 hb rfl ?_
    refine gX1_180 (pc := 42) dX1_cite_42 w1 rfl ?_
    refine r_iload_n (pc := 45) dX1_cite_45 rfl ?_
    refine go_cz (w := ((x.toNat : Nat) : Int)) (by omega) ?_
    refine r_callV (pc := 46) (kb' := 485) dX1_cite_46 kJ4_get q1897 (t_J4_get w4 (i := x.toNat) (by omega)) w4.2.1 rfl (Nat.le_refl _) (Nat.le_of_ble_eq_true rfl) rfl rfl (Nat.le_of_ble_eq_true rfl) (fun _ _ q => q.elim) (fun _ _ hq => ?_)
    refine go_jE hq ?_
    have hS6 := w6 x.toNat (by omega)
    rw [show ((x.toNat : Nat) : Int) = x by omega] at hS6
    have hso := hI.2.2.1 x (by omega) (by omega)
    have hso2 := hso
    unfold shOk at hso2
    refine r_cast (pc := 49) dX1_cite_49 q1282 hS6 rfl ?_
    refine gX1_186 (pc := 52) dX1_cite_52 hS6 rfl ?_
    refine r_aload_n (pc := 55) dX1_cite_55 rfl ?_
    refine gX1_189 (pc := 56) dX1_cite_56 hA5 rfl ?_
    refine r_callS (pc := 59) (kb' := 485) dX1_cite_59 kX1_apart q1898 (t_X1_apart (by omega) (by omega)) (Nat.le_refl _) (Nat.le_of_ble_eq_true rfl) rfl rfl (Nat.le_of_ble_eq_true rfl) (fun _ _ q => q.elim) (fun _ _ hq => ?_)
    refine go_jE hq ?_
    refine go_cz (w := apt r x a) rfl ?_
    have hap : 0 ≤ apt r x a ∧ apt r x a ≤ 8 := ap_in (by omega) (by omega)
    refine r_istore (pc := 62) (L' := [_, _, _, _, _]) dX1_cite_62 rfl ?_
    refine r_aload_n (pc := 64) dX1_cite_64 rfl ?_
    refine r_aload_n (pc := 65) dX1_cite_65 rfl ?_
    refine gX1_193 (pc := 66) dX1_cite_66 hA5 rfl ?_
    refine r_if_ne (pc := 69) (tgt := 76) dX1_cite_69 (by decide) (by omega) (fun c69 => ?_) (fun c69 => ?_)
    · refine r_iconst (pc := 76) dX1_cite_76 ?_
      refine go_cz (w := bZ (fA r a 2 = 0)) (bZ_f (by first | assumption | omega)).symm ?_
      refine r_bipush (pc := 77) dX1_cite_77 (by decide) ?_
      refine r_aload_n (pc := 79) dX1_cite_79 rfl ?_
      refine gX1_164 (pc := 80) dX1_cite_80 hA5 rfl ?_
      refine r_callV (pc := 83) (kb' := 474) dX1_cite_83 kX1_refuse q1528 (t_X1_refuse (p := fA r a 2 = 0) (n := 10) (d := fA r a 1) hb) hb rfl (Nat.le_of_ble_eq_true rfl) (Nat.le_of_ble_eq_true rfl) rfl rfl (Nat.le_of_ble_eq_true rfl) (fun E h7 hx => x_out rfl ⟨hx.1, (10, fA r a 1), by
          have hc := hx.2.1
          unfold refCite; (repeat' split) <;> first | rfl | omega | contradiction, hK.rfW (XU.tr hF hx.2.2)⟩) (fun _ h hq => ?_)
      refine go_jN hq (fun hq2 => ?_)
      obtain ⟨e9, hp4⟩ := hq2
      replace e9 := e9.symm
      subst e9
      refine r_aload_n (pc := 86) dX1_cite_86 rfl ?_
      refine r_iload (pc := 87) dX1_cite_87 rfl ?_
      refine r_iconst (pc := 89) dX1_cite_89 ?_
      refine r_icmp_le (pc := 90) (tgt := 97) dX1_cite_90 (by decide) (by omega) (by omega) (fun c90 => ?_) (fun c90 => ?_)
      · refine r_iconst (pc := 97) dX1_cite_97 ?_
        refine go_cz (w := bZ (2 < apt r x a)) (bZ_f (by first | assumption | omega)).symm ?_
        refine r_bipush (pc := 98) dX1_cite_98 (by decide) ?_
        refine r_iload (pc := 100) dX1_cite_100 rfl ?_
        refine r_callV (pc := 102) (kb' := 463) dX1_cite_102 kX1_refuse q1528 (t_X1_refuse (p := 2 < apt r x a) (n := 11) (d := apt r x a) hb) hb rfl (Nat.le_of_ble_eq_true rfl) (Nat.le_of_ble_eq_true rfl) rfl rfl (Nat.le_of_ble_eq_true rfl) (fun E h7 hx => x_out rfl ⟨hx.1, (11, apt r x a), by
            have hc := hx.2.1
            unfold refCite; (repeat' split) <;> first | rfl | omega | contradiction, hK.rfW (XU.tr hF hx.2.2)⟩) (fun _ h hq => ?_)
        refine go_jN hq (fun hq2 => ?_)
        obtain ⟨e9, hp5⟩ := hq2
        replace e9 := e9.symm
        subst e9
        refine r_aload_n (pc := 105) dX1_cite_105 rfl ?_
        refine r_callV (pc := 106) (kb' := 6) dX1_cite_106 kX1_change q1668 (t_X1_change (hK.q hF) hI (hZ.q hF) hw hn) hb rfl (Nat.le_of_ble_eq_true rfl) (Nat.le_of_ble_eq_true rfl) rfl rfl (Nat.le_of_ble_eq_true rfl) (fun _ _ q => q.elim) (fun _ h hq => ?_)
        refine go_jN hq (fun hq2 => ?_)
        obtain ⟨Tn, HT2, he2, hK1, hf, hTn, hTc⟩ := hq2
        have hC : Fr pC h9 h := (hF.wk pQ_C).tr (hf.wk (pCh_C hTn))
        replace hX := hX.fr hf (pCh_s k9.1 hTc) (pCh_z hTn)
        have hb := hK1.1
        replace hF : Fr (pTQ Tc) h h := Fr.rf
        have hT : Tc ≠ 0 := by have := k9.1; omega
        have h2T : ∀ k, ¬ pTQ Tc (2, k) := fun k => pT_2 k9.1
        have hX2 := hX
        obtain ⟨w1, w2, w3, w4, w5, w6, w7, w8⟩ := hX2
        obtain ⟨ar1, w2s⟩ := w2.size
        refine r_aload_n (pc := 109) dX1_cite_109 rfl ?_
        refine gX1_10 (pc := 110) dX1_cite_110 hb rfl ?_
        refine r_aload_n (pc := 113) dX1_cite_113 rfl ?_
        refine gX1_10 (pc := 114) dX1_cite_114 hb rfl ?_
        refine gX1_180 (pc := 117) dX1_cite_117 w1 rfl ?_
        refine r_iload_n (pc := 120) dX1_cite_120 rfl ?_
        refine go_cz (w := ((x.toNat : Nat) : Int)) (by omega) ?_
        refine r_callV (pc := 121) (kb' := 6) dX1_cite_121 kJ4_get q1897 (t_J4_get w4 (i := x.toNat) (by omega)) w4.2.1 rfl (Nat.le_refl _) (Nat.le_of_ble_eq_true rfl) rfl rfl (Nat.le_of_ble_eq_true rfl) (fun _ _ q => q.elim) (fun _ _ hq => ?_)
        refine go_jE hq ?_
        have hS6 := w6 x.toNat (by omega)
        rw [show ((x.toNat : Nat) : Int) = x by omega] at hS6
        have hso := hI.2.2.1 x (by omega) (by omega)
        have hso2 := hso
        unfold shOk at hso2
        refine r_cast (pc := 124) dX1_cite_124 q1282 hS6 rfl ?_
        refine r_aload_n (pc := 127) dX1_cite_127 rfl ?_
        refine r_callV (pc := 128) (kb' := 0) dX1_cite_128 kX2_cites q1901 (t_X2_cites hX hI hT (by omega) (by omega) (by omega)) w1 rfl (Nat.le_of_ble_eq_true rfl) (Nat.le_of_ble_eq_true rfl) rfl rfl (Nat.le_of_ble_eq_true rfl) (fun _ _ q => q.elim) (fun _ h hq => ?_)
        refine go_jP hq (fun hq2 => ?_)
        obtain ⟨⟨_, _, _, hX⟩, hF2⟩ := hq2
        replace hF := hF.tr hF2
        exact r_iret (pc := 131) dX1_cite_131 rfl rfl ⟨rfl, (by unfold refCite; (repeat' split) <;> first | rfl | omega | contradiction), (hK1.cur hF hX.w).w, hC.tr (hF.wk (pTQ_C k9.1))⟩
      · refine r_iconst (pc := 93) dX1_cite_93 ?_
        refine go_cz (w := bZ (2 < apt r x a)) (bZ_t (by first | assumption | omega)).symm ?_
        refine r_goto (pc := 94) (tgt := 98) dX1_cite_94 (by decide) ?_
        refine r_bipush (pc := 98) dX1_cite_98 (by decide) ?_
        refine r_iload (pc := 100) dX1_cite_100 rfl ?_
        refine r_callV (pc := 102) (kb' := 463) dX1_cite_102 kX1_refuse q1528 (t_X1_refuse (p := 2 < apt r x a) (n := 11) (d := apt r x a) hb) hb rfl (Nat.le_of_ble_eq_true rfl) (Nat.le_of_ble_eq_true rfl) rfl rfl (Nat.le_of_ble_eq_true rfl) (fun E h7 hx => x_out rfl ⟨hx.1, (11, apt r x a), by
            have hc := hx.2.1
            unfold refCite; (repeat' split) <;> first | rfl | omega | contradiction, hK.rfW (XU.tr hF hx.2.2)⟩) (fun _ h hq => ?_)
        refine go_jN hq (fun hq2 => ?_)
        obtain ⟨e9, hp5⟩ := hq2
        replace e9 := e9.symm
        subst e9
        refine r_aload_n (pc := 105) dX1_cite_105 rfl ?_
        refine r_callV (pc := 106) (kb' := 6) dX1_cite_106 kX1_change q1668 (t_X1_change (hK.q hF) hI (hZ.q hF) hw hn) hb rfl (Nat.le_of_ble_eq_true rfl) (Nat.le_of_ble_eq_true rfl) rfl rfl (Nat.le_of_ble_eq_true rfl) (fun _ _ q => q.elim) (fun _ h hq => ?_)
        refine go_jN hq (fun hq2 => ?_)
        obtain ⟨Tn, HT2, he2, hK1, hf, hTn, hTc⟩ := hq2
        have hC : Fr pC h9 h := (hF.wk pQ_C).tr (hf.wk (pCh_C hTn))
        replace hX := hX.fr hf (pCh_s k9.1 hTc) (pCh_z hTn)
        have hb := hK1.1
        replace hF : Fr (pTQ Tc) h h := Fr.rf
        have hT : Tc ≠ 0 := by have := k9.1; omega
        have h2T : ∀ k, ¬ pTQ Tc (2, k) := fun k => pT_2 k9.1
        have hX2 := hX
        obtain ⟨w1, w2, w3, w4, w5, w6, w7, w8⟩ := hX2
        obtain ⟨ar1, w2s⟩ := w2.size
        refine r_aload_n (pc := 109) dX1_cite_109 rfl ?_
        refine gX1_10 (pc := 110) dX1_cite_110 hb rfl ?_
        refine r_aload_n (pc := 113) dX1_cite_113 rfl ?_
        refine gX1_10 (pc := 114) dX1_cite_114 hb rfl ?_
        refine gX1_180 (pc := 117) dX1_cite_117 w1 rfl ?_
        refine r_iload_n (pc := 120) dX1_cite_120 rfl ?_
        refine go_cz (w := ((x.toNat : Nat) : Int)) (by omega) ?_
        refine r_callV (pc := 121) (kb' := 6) dX1_cite_121 kJ4_get q1897 (t_J4_get w4 (i := x.toNat) (by omega)) w4.2.1 rfl (Nat.le_refl _) (Nat.le_of_ble_eq_true rfl) rfl rfl (Nat.le_of_ble_eq_true rfl) (fun _ _ q => q.elim) (fun _ _ hq => ?_)
        refine go_jE hq ?_
        have hS6 := w6 x.toNat (by omega)
        rw [show ((x.toNat : Nat) : Int) = x by omega] at hS6
        have hso := hI.2.2.1 x (by omega) (by omega)
        have hso2 := hso
        unfold shOk at hso2
        refine r_cast (pc := 124) dX1_cite_124 q1282 hS6 rfl ?_
        refine r_aload_n (pc := 127) dX1_cite_127 rfl ?_
        refine r_callV (pc := 128) (kb' := 0) dX1_cite_128 kX2_cites q1901 (t_X2_cites hX hI hT (by omega) (by omega) (by omega)) w1 rfl (Nat.le_of_ble_eq_true rfl) (Nat.le_of_ble_eq_true rfl) rfl rfl (Nat.le_of_ble_eq_true rfl) (fun _ _ q => q.elim) (fun _ h hq => ?_)
        refine go_jP hq (fun hq2 => ?_)
        obtain ⟨⟨_, _, _, hX⟩, hF2⟩ := hq2
        replace hF := hF.tr hF2
        exact r_iret (pc := 131) dX1_cite_131 rfl rfl ⟨rfl, (by unfold refCite; (repeat' split) <;> first | rfl | omega | contradiction), (hK1.cur hF hX.w).w, hC.tr (hF.wk (pTQ_C k9.1))⟩
    · refine r_iconst (pc := 72) dX1_cite_72 ?_
      refine go_cz (w := bZ (fA r a 2 = 0)) (bZ_t (by first | assumption | omega)).symm ?_
      refine r_goto (pc := 73) (tgt := 77) dX1_cite_73 (by decide) ?_
      refine r_bipush (pc := 77) dX1_cite_77 (by decide) ?_
      refine r_aload_n (pc := 79) dX1_cite_79 rfl ?_
      refine gX1_164 (pc := 80) dX1_cite_80 hA5 rfl ?_
      refine r_callV (pc := 83) (kb' := 474) dX1_cite_83 kX1_refuse q1528 (t_X1_refuse (p := fA r a 2 = 0) (n := 10) (d := fA r a 1) hb) hb rfl (Nat.le_of_ble_eq_true rfl) (Nat.le_of_ble_eq_true rfl) rfl rfl (Nat.le_of_ble_eq_true rfl) (fun E h7 hx => x_out rfl ⟨hx.1, (10, fA r a 1), by
          have hc := hx.2.1
          unfold refCite; (repeat' split) <;> first | rfl | omega | contradiction, hK.rfW (XU.tr hF hx.2.2)⟩) (fun _ h hq => ?_)
      refine go_jN hq (fun hq2 => ?_)
      obtain ⟨e9, hp4⟩ := hq2
      replace e9 := e9.symm
      subst e9
      refine r_aload_n (pc := 86) dX1_cite_86 rfl ?_
      refine r_iload (pc := 87) dX1_cite_87 rfl ?_
      refine r_iconst (pc := 89) dX1_cite_89 ?_
      refine r_icmp_le (pc := 90) (tgt := 97) dX1_cite_90 (by decide) (by omega) (by omega) (fun c90 => ?_) (fun c90 => ?_)
      · refine r_iconst (pc := 97) dX1_cite_97 ?_
        refine go_cz (w := bZ (2 < apt r x a)) (bZ_f (by first | assumption | omega)).symm ?_
        refine r_bipush (pc := 98) dX1_cite_98 (by decide) ?_
        refine r_iload (pc := 100) dX1_cite_100 rfl ?_
        refine r_callV (pc := 102) (kb' := 463) dX1_cite_102 kX1_refuse q1528 (t_X1_refuse (p := 2 < apt r x a) (n := 11) (d := apt r x a) hb) hb rfl (Nat.le_of_ble_eq_true rfl) (Nat.le_of_ble_eq_true rfl) rfl rfl (Nat.le_of_ble_eq_true rfl) (fun E h7 hx => x_out rfl ⟨hx.1, (11, apt r x a), by
            have hc := hx.2.1
            unfold refCite; (repeat' split) <;> first | rfl | omega | contradiction, hK.rfW (XU.tr hF hx.2.2)⟩) (fun _ h hq => ?_)
        refine go_jN hq (fun hq2 => ?_)
        obtain ⟨e9, hp5⟩ := hq2
        replace e9 := e9.symm
        subst e9
        refine r_aload_n (pc := 105) dX1_cite_105 rfl ?_
        refine r_callV (pc := 106) (kb' := 6) dX1_cite_106 kX1_change q1668 (t_X1_change (hK.q hF) hI (hZ.q hF) hw hn) hb rfl (Nat.le_of_ble_eq_true rfl) (Nat.le_of_ble_eq_true rfl) rfl rfl (Nat.le_of_ble_eq_true rfl) (fun _ _ q => q.elim) (fun _ h hq => ?_)
        refine go_jN hq (fun hq2 => ?_)
        obtain ⟨Tn, HT2, he2, hK1, hf, hTn, hTc⟩ := hq2
        have hC : Fr pC h9 h := (hF.wk pQ_C).tr (hf.wk (pCh_C hTn))
        replace hX := hX.fr hf (pCh_s k9.1 hTc) (pCh_z hTn)
        have hb := hK1.1
        replace hF : Fr (pTQ Tc) h h := Fr.rf
        have hT : Tc ≠ 0 := by have := k9.1; omega
        have h2T : ∀ k, ¬ pTQ Tc (2, k) := fun k => pT_2 k9.1
        have hX2 := hX
        obtain ⟨w1, w2, w3, w4, w5, w6, w7, w8⟩ := hX2
        obtain ⟨ar1, w2s⟩ := w2.size
        refine r_aload_n (pc := 109) dX1_cite_109 rfl ?_
        refine gX1_10 (pc := 110) dX1_cite_110 hb rfl ?_
        refine r_aload_n (pc := 113) dX1_cite_113 rfl ?_
        refine gX1_10 (pc := 114) dX1_cite_114 hb rfl ?_
        refine gX1_180 (pc := 117) dX1_cite_117 w1 rfl ?_
        refine r_iload_n (pc := 120) dX1_cite_120 rfl ?_
        refine go_cz (w := ((x.toNat : Nat) : Int)) (by omega) ?_
        refine r_callV (pc := 121) (kb' := 6) dX1_cite_121 kJ4_get q1897 (t_J4_get w4 (i := x.toNat) (by omega)) w4.2.1 rfl (Nat.le_refl _) (Nat.le_of_ble_eq_true rfl) rfl rfl (Nat.le_of_ble_eq_true rfl) (fun _ _ q => q.elim) (fun _ _ hq => ?_)
        refine go_jE hq ?_
        have hS6 := w6 x.toNat (by omega)
        rw [show ((x.toNat : Nat) : Int) = x by omega] at hS6
        have hso := hI.2.2.1 x (by omega) (by omega)
        have hso2 := hso
        unfold shOk at hso2
        refine r_cast (pc := 124) dX1_cite_124 q1282 hS6 rfl ?_
        refine r_aload_n (pc := 127) dX1_cite_127 rfl ?_
        refine r_callV (pc := 128) (kb' := 0) dX1_cite_128 kX2_cites q1901 (t_X2_cites hX hI hT (by omega) (by omega) (by omega)) w1 rfl (Nat.le_of_ble_eq_true rfl) (Nat.le_of_ble_eq_true rfl) rfl rfl (Nat.le_of_ble_eq_true rfl) (fun _ _ q => q.elim) (fun _ h hq => ?_)
        refine go_jP hq (fun hq2 => ?_)
        obtain ⟨⟨_, _, _, hX⟩, hF2⟩ := hq2
        replace hF := hF.tr hF2
        exact r_iret (pc := 131) dX1_cite_131 rfl rfl ⟨rfl, (by unfold refCite; (repeat' split) <;> first | rfl | omega | contradiction), (hK1.cur hF hX.w).w, hC.tr (hF.wk (pTQ_C k9.1))⟩
      · refine r_iconst (pc := 93) dX1_cite_93 ?_
        refine go_cz (w := bZ (2 < apt r x a)) (bZ_t (by first | assumption | omega)).symm ?_
        refine r_goto (pc := 94) (tgt := 98) dX1_cite_94 (by decide) ?_
        refine r_bipush (pc := 98) dX1_cite_98 (by decide) ?_
        refine r_iload (pc := 100) dX1_cite_100 rfl ?_
        refine r_callV (pc := 102) (kb' := 463) dX1_cite_102 kX1_refuse q1528 (t_X1_refuse (p := 2 < apt r x a) (n := 11) (d := apt r x a) hb) hb rfl (Nat.le_of_ble_eq_true rfl) (Nat.le_of_ble_eq_true rfl) rfl rfl (Nat.le_of_ble_eq_true rfl) (fun E h7 hx => x_out rfl ⟨hx.1, (11, apt r x a), by
            have hc := hx.2.1
            unfold refCite; (repeat' split) <;> first | rfl | omega | contradiction, hK.rfW (XU.tr hF hx.2.2)⟩) (fun _ h hq => ?_)
        refine go_jN hq (fun hq2 => ?_)
        obtain ⟨e9, hp5⟩ := hq2
        replace e9 := e9.symm
        subst e9
        refine r_aload_n (pc := 105) dX1_cite_105 rfl ?_
        refine r_callV (pc := 106) (kb' := 6) dX1_cite_106 kX1_change q1668 (t_X1_change (hK.q hF) hI (hZ.q hF) hw hn) hb rfl (Nat.le_of_ble_eq_true rfl) (Nat.le_of_ble_eq_true rfl) rfl rfl (Nat.le_of_ble_eq_true rfl) (fun _ _ q => q.elim) (fun _ h hq => ?_)
        refine go_jN hq (fun hq2 => ?_)
        obtain ⟨Tn, HT2, he2, hK1, hf, hTn, hTc⟩ := hq2
        have hC : Fr pC h9 h := (hF.wk pQ_C).tr (hf.wk (pCh_C hTn))
        replace hX := hX.fr hf (pCh_s k9.1 hTc) (pCh_z hTn)
        have hb := hK1.1
        replace hF : Fr (pTQ Tc) h h := Fr.rf
        have hT : Tc ≠ 0 := by have := k9.1; omega
        have h2T : ∀ k, ¬ pTQ Tc (2, k) := fun k => pT_2 k9.1
        have hX2 := hX
        obtain ⟨w1, w2, w3, w4, w5, w6, w7, w8⟩ := hX2
        obtain ⟨ar1, w2s⟩ := w2.size
        refine r_aload_n (pc := 109) dX1_cite_109 rfl ?_
        refine gX1_10 (pc := 110) dX1_cite_110 hb rfl ?_
        refine r_aload_n (pc := 113) dX1_cite_113 rfl ?_
        refine gX1_10 (pc := 114) dX1_cite_114 hb rfl ?_
        refine gX1_180 (pc := 117) dX1_cite_117 w1 rfl ?_
        refine r_iload_n (pc := 120) dX1_cite_120 rfl ?_
        refine go_cz (w := ((x.toNat : Nat) : Int)) (by omega) ?_
        refine r_callV (pc := 121) (kb' := 6) dX1_cite_121 kJ4_get q1897 (t_J4_get w4 (i := x.toNat) (by omega)) w4.2.1 rfl (Nat.le_refl _) (Nat.le_of_ble_eq_true rfl) rfl rfl (Nat.le_of_ble_eq_true rfl) (fun _ _ q => q.elim) (fun _ _ hq => ?_)
        refine go_jE hq ?_
        have hS6 := w6 x.toNat (by omega)
        rw [show ((x.toNat : Nat) : Int) = x by omega] at hS6
        have hso := hI.2.2.1 x (by omega) (by omega)
        have hso2 := hso
        unfold shOk at hso2
        refine r_cast (pc := 124) dX1_cite_124 q1282 hS6 rfl ?_
        refine r_aload_n (pc := 127) dX1_cite_127 rfl ?_
        refine r_callV (pc := 128) (kb' := 0) dX1_cite_128 kX2_cites q1901 (t_X2_cites hX hI hT (by omega) (by omega) (by omega)) w1 rfl (Nat.le_of_ble_eq_true rfl) (Nat.le_of_ble_eq_true rfl) rfl rfl (Nat.le_of_ble_eq_true rfl) (fun _ _ q => q.elim) (fun _ h hq => ?_)
        refine go_jP hq (fun hq2 => ?_)
        obtain ⟨⟨_, _, _, hX⟩, hF2⟩ := hq2
        replace hF := hF.tr hF2
        exact r_iret (pc := 131) dX1_cite_131 rfl rfl ⟨rfl, (by unfold refCite; (repeat' split) <;> first | rfl | omega | contradiction), (hK1.cur hF hX.w).w, hC.tr (hF.wk (pTQ_C k9.1))⟩
theorem t_X1_ratify {G : Gl} {h9 : Hp} {o : Nat} {r : Row} {Y : KY} {s : Nat} {vs : Value} {hq0 ip ln : Nat} {rv : Value} {Tc Tv : Nat} {HT he : Nat → Nat} (hK : KWx G o (r, Y) s vs hq0 ip ln rv Tc Tv HT he h9) (hI : RI r) (hZ : FZ G h9) (hw : KX.wi (r, Y) = 0 ∨ KX.wi (r, Y) = 1) (hn : KX.hn (r, Y) ≤ 8) {a : Int} (ha : InR a) : Ct G 10 505 yX1_ratify (Cond.code yX1_ratify cX1_ratify 3 (some .int)) [.ref o, .int (iZ a)] h9 (oQ G o (r 1 + 1) (refRatify r a) ((chX (r, Y)).wR (raR r a)) h9) (oX G o (refRatify r a) (r, Y) h9) := by
  obtain ⟨k1, k2, k3, k4, k5, k6, k7, k8, k9⟩ := id hK
  obtain ⟨al, cl, sl, m1, m2, m3, n1, n2, E, F, hX9⟩ := k2
  have hX9 : SWx G Tc s r al cl sl m1 m2 m3 n1 n2 E F h9 := hX9
  have hb9 := k1
  have hF : Fr pQ h9 h9 := Fr.rf
  have hb := hb9
  have hX := hX9
  have b := hI.1
  have hX2 := hX
  obtain ⟨w1, w2, w3, w4, w5, w6, w7, w8⟩ := hX2
  obtain ⟨ar1, w2s⟩ := w2.size
  refine Ct.of (own := "CharterKiln") (nm := "ratify") (by decide +kernel) rfl rfl (L := [some (.ref o), some (.int (iZ a)), none]) rfl (Nat.le_of_ble_eq_true rfl) rfl ?_
  refine r_aload_n (pc := 0) dX1_ratify_0 rfl ?_
  refine r_iload_n (pc := 1) dX1_ratify_1 rfl ?_
  refine r_callV (pc := 2) (kb' := 494) dX1_ratify_2 kX1_mustBeArticle q1736 (t_X1_mustBeArticle hb hX hI (by omega)) hb rfl (Nat.le_of_ble_eq_true rfl) (Nat.le_of_ble_eq_true rfl) rfl rfl (Nat.le_of_ble_eq_true rfl) (fun E h7 hx => x_out rfl ⟨hx.1, (2, a), by
      have hc := hx.2.1
      unfold refRatify; (repeat' split) <;> first | rfl | omega | contradiction, hK.rfW (XU.tr hF hx.2.2)⟩) (fun _ h hq => ?_)
  refine go_jN hq (fun hq2 => ?_)
  obtain ⟨e9, hpa⟩ := hq2
  replace e9 := e9.symm
  subst e9
  refine r_aload_n (pc := 5) dX1_ratify_5 rfl ?_
  refine r_iload_n (pc := 6) dX1_ratify_6 rfl ?_
  refine r_callV (pc := 7) (kb' := 483) dX1_ratify_7 kX1_mustNotBeLaw q1745 (t_X1_mustNotBeLaw hb hX hI (by omega)) hb rfl (Nat.le_of_ble_eq_true rfl) (Nat.le_of_ble_eq_true rfl) rfl rfl (Nat.le_of_ble_eq_true rfl) (fun E h7 hx => x_out rfl ⟨hx.1, (4, plOf r a), by
      have hc := hx.2.1
      unfold refRatify; (repeat' split) <;> first | rfl | omega | contradiction, hK.rfW (XU.tr hF hx.2.2)⟩) (fun _ h hq => ?_)
  refine go_jN hq (fun hq2 => ?_)
  obtain ⟨e9, hpl⟩ := hq2
  replace e9 := e9.symm
  subst e9
  refine r_aload_n (pc := 10) dX1_ratify_10 rfl ?_
  refine r_iload_n (pc := 11) dX1_ratify_11 rfl ?_
  refine r_callV (pc := 12) (kb' := 483) dX1_ratify_12 kX1_articleAt q1749 (t_X1_articleAt hb hX hI (by omega)) hb rfl (Nat.le_refl _) (Nat.le_of_ble_eq_true rfl) rfl rfl (Nat.le_of_ble_eq_true rfl) (fun _ _ q => q.elim) (fun _ _ hq => ?_)
  refine go_jE hq ?_
  have ea : ((a.toNat : Nat) : Int) = a := by omega
  have ho := hI.2.1 a (by omega) (by omega)
  have ho2 := ho
  unfold artOk at ho2
  have hA5 := w5 a.toNat (by omega)
  rw [ea] at hA5
  refine r_astore_n (pc := 15) (L' := [_, _, _]) dX1_ratify_15 rfl ?_
  refine r_aload_n (pc := 16) dX1_ratify_16 rfl ?_
  refine r_aload_n (pc := 17) dX1_ratify_17 rfl ?_
  refine gX1_200 (pc := 18) dX1_ratify_18 hA5 rfl ?_
  refine r_if_ne (pc := 21) (tgt := 28) dX1_ratify_21 (by decide) (by omega) (fun c21 => ?_) (fun c21 => ?_)
  · refine r_iconst (pc := 28) dX1_ratify_28 ?_
    refine go_cz (w := bZ (fA r a 3 = 0)) (bZ_f (by first | assumption | omega)).symm ?_
    refine r_bipush (pc := 29) dX1_ratify_29 (by decide) ?_
    refine r_aload_n (pc := 31) dX1_ratify_31 rfl ?_
    refine gX1_189 (pc := 32) dX1_ratify_32 hA5 rfl ?_
    refine r_callV (pc := 35) (kb' := 472) dX1_ratify_35 kX1_refuse q1528 (t_X1_refuse (p := fA r a 3 = 0) (n := 8) (d := fA r a 0) hb) hb rfl (Nat.le_of_ble_eq_true rfl) (Nat.le_of_ble_eq_true rfl) rfl rfl (Nat.le_of_ble_eq_true rfl) (fun E h7 hx => x_out rfl ⟨hx.1, (8, fA r a 0), by
        have hc := hx.2.1
        unfold refRatify; (repeat' split) <;> first | rfl | omega | contradiction, hK.rfW (XU.tr hF hx.2.2)⟩) (fun _ h hq => ?_)
    refine go_jN hq (fun hq2 => ?_)
    obtain ⟨e9, hp3⟩ := hq2
    replace e9 := e9.symm
    subst e9
    refine r_aload_n (pc := 38) dX1_ratify_38 rfl ?_
    refine r_aload_n (pc := 39) dX1_ratify_39 rfl ?_
    refine gX1_193 (pc := 40) dX1_ratify_40 hA5 rfl ?_
    refine r_if_le (pc := 43) (tgt := 50) dX1_ratify_43 (by decide) (by omega) (fun c43 => ?_) (fun c43 => ?_)
    · refine r_iconst (pc := 50) dX1_ratify_50 ?_
      refine go_cz (w := bZ (0 < fA r a 2)) (bZ_f (by first | assumption | omega)).symm ?_
      refine r_bipush (pc := 51) dX1_ratify_51 (by decide) ?_
      refine r_aload_n (pc := 53) dX1_ratify_53 rfl ?_
      refine gX1_193 (pc := 54) dX1_ratify_54 hA5 rfl ?_
      refine r_callV (pc := 57) (kb' := 461) dX1_ratify_57 kX1_refuse q1528 (t_X1_refuse (p := 0 < fA r a 2) (n := 9) (d := fA r a 2) hb) hb rfl (Nat.le_of_ble_eq_true rfl) (Nat.le_of_ble_eq_true rfl) rfl rfl (Nat.le_of_ble_eq_true rfl) (fun E h7 hx => x_out rfl ⟨hx.1, (9, fA r a 2), by
          have hc := hx.2.1
          unfold refRatify; (repeat' split) <;> first | rfl | omega | contradiction, hK.rfW (XU.tr hF hx.2.2)⟩) (fun _ h hq => ?_)
      refine go_jN hq (fun hq2 => ?_)
      obtain ⟨e9, hp4⟩ := hq2
      replace e9 := e9.symm
      subst e9
      refine r_aload_n (pc := 60) dX1_ratify_60 rfl ?_
      refine r_callV (pc := 61) (kb' := 4) dX1_ratify_61 kX1_change q1668 (t_X1_change (hK.q hF) hI (hZ.q hF) hw hn) hb rfl (Nat.le_of_ble_eq_true rfl) (Nat.le_of_ble_eq_true rfl) rfl rfl (Nat.le_of_ble_eq_true rfl) (fun _ _ q => q.elim) (fun _ h hq => ?_)
      refine go_jN hq (fun hq2 => ?_)
      obtain ⟨Tn, HT2, he2, hK1, hf, hTn, hTc⟩ := hq2
      have hC : Fr pC h9 h := (hF.wk pQ_C).tr (hf.wk (pCh_C hTn))
      replace hX := hX.fr hf (pCh_s k9.1 hTc) (pCh_z hTn)
      have hb := hK1.1
      replace hF : Fr (pTQ Tc) h h := Fr.rf
      have hT : Tc ≠ 0 := by have := k9.1; omega
      have h2T : ∀ k, ¬ pTQ Tc (2, k) := fun k => pT_2 k9.1
      have hX2 := hX
      obtain ⟨w1, w2, w3, w4, w5, w6, w7, w8⟩ := hX2
      obtain ⟨ar1, w2s⟩ := w2.size
      refine r_aload_n (pc := 64) dX1_ratify_64 rfl ?_
      refine gX1_10 (pc := 65) dX1_ratify_65 hb rfl ?_
      refine r_aload_n (pc := 68) dX1_ratify_68 rfl ?_
      refine r_iload_n (pc := 69) dX1_ratify_69 rfl ?_
      refine r_callV (pc := 70) (kb' := 4) dX1_ratify_70 kX1_articleAt q1749 (t_X1_articleAt hb hX hI (by omega)) hb rfl (Nat.le_refl _) (Nat.le_of_ble_eq_true rfl) rfl rfl (Nat.le_of_ble_eq_true rfl) (fun _ _ q => q.elim) (fun _ _ hq => ?_)
      refine go_jE hq ?_
      have ea : ((a.toNat : Nat) : Int) = a := by omega
      have ho := hI.2.1 a (by omega) (by omega)
      have ho2 := ho
      unfold artOk at ho2
      have hA5 := w5 a.toNat (by omega)
      rw [ea] at hA5
      refine r_callV (pc := 73) (kb' := 0) dX1_ratify_73 kX2_ratifies q1918 (t_X2_ratifies hX hI hT (by omega) (by have := pig hI.2.2.2.2.1 (fun k k0 k1 => ⟨(hI.2.2.2.1 k k0 k1).1, (hI.2.2.2.1 k k0 k1).2.1, fun e => by have := (hI.2.2.2.1 k k0 k1).2.2; rw [e] at this; omega⟩) (a := a) (by omega) (by omega) (by omega); omega)) w1 rfl (Nat.le_of_ble_eq_true rfl) (Nat.le_of_ble_eq_true rfl) rfl rfl (Nat.le_of_ble_eq_true rfl) (fun _ _ q => q.elim) (fun _ h hq => ?_)
      refine go_jN hq (fun hq2 => ?_)
      obtain ⟨hS, hF2⟩ := hq2
      replace hF := hF.tr hF2
      obtain ⟨_, _, _, _, _, _, _, _, _, _, hX⟩ := hS
      have u1 : raR r a 1 = r 1 + 1 := rfl
      have hX2 := hX
      obtain ⟨w1, w2, w3, w4, w5, w6, w7, w8⟩ := hX2
      obtain ⟨ar1, w2s⟩ := w2.size
      have hb := hF.get hK1.1 (h2T 0)
      refine r_aload_n (pc := 76) dX1_ratify_76 rfl ?_
      refine gX1_10 (pc := 77) dX1_ratify_77 hb rfl ?_
      refine gX1_122 (pc := 80) dX1_ratify_80 w1 rfl ?_
      refine r_callV (pc := 83) (kb' := 0) dX1_ratify_83 kJ4_size q1773 (t_J4_size w3) w3.2.1 rfl (Nat.le_refl _) (Nat.le_of_ble_eq_true rfl) rfl rfl (Nat.le_of_ble_eq_true rfl) (fun _ _ q => q.elim) (fun _ _ hq => ?_)
      refine go_jE hq ?_
      refine go_cz (w := r 1 + 1) (by omega) ?_
      exact r_iret (pc := 86) dX1_ratify_86 rfl rfl ⟨rfl, (by unfold refRatify; (repeat' split) <;> first | rfl | omega | contradiction), (hK1.cur hF hX.w).w, hC.tr (hF.wk (pTQ_C k9.1))⟩
    · refine r_iconst (pc := 46) dX1_ratify_46 ?_
      refine go_cz (w := bZ (0 < fA r a 2)) (bZ_t (by first | assumption | omega)).symm ?_
      refine r_goto (pc := 47) (tgt := 51) dX1_ratify_47 (by decide) ?_
      refine r_bipush (pc := 51) dX1_ratify_51 (by decide) ?_
      refine r_aload_n (pc := 53) dX1_ratify_53 rfl ?_
      refine gX1_193 (pc := 54) dX1_ratify_54 hA5 rfl ?_
      refine r_callV (pc := 57) (kb' := 461) dX1_ratify_57 kX1_refuse q1528 (t_X1_refuse (p := 0 < fA r a 2) (n := 9) (d := fA r a 2) hb) hb rfl (Nat.le_of_ble_eq_true rfl) (Nat.le_of_ble_eq_true rfl) rfl rfl (Nat.le_of_ble_eq_true rfl) (fun E h7 hx => x_out rfl ⟨hx.1, (9, fA r a 2), by
          have hc := hx.2.1
          unfold refRatify; (repeat' split) <;> first | rfl | omega | contradiction, hK.rfW (XU.tr hF hx.2.2)⟩) (fun _ h hq => ?_)
      refine go_jN hq (fun hq2 => ?_)
      obtain ⟨e9, hp4⟩ := hq2
      replace e9 := e9.symm
      subst e9
      refine r_aload_n (pc := 60) dX1_ratify_60 rfl ?_
      refine r_callV (pc := 61) (kb' := 4) dX1_ratify_61 kX1_change q1668 (t_X1_change (hK.q hF) hI (hZ.q hF) hw hn) hb rfl (Nat.le_of_ble_eq_true rfl) (Nat.le_of_ble_eq_true rfl) rfl rfl (Nat.le_of_ble_eq_true rfl) (fun _ _ q => q.elim) (fun _ h hq => ?_)
      refine go_jN hq (fun hq2 => ?_)
      obtain ⟨Tn, HT2, he2, hK1, hf, hTn, hTc⟩ := hq2
      have hC : Fr pC h9 h := (hF.wk pQ_C).tr (hf.wk (pCh_C hTn))
      replace hX := hX.fr hf (pCh_s k9.1 hTc) (pCh_z hTn)
      have hb := hK1.1
      replace hF : Fr (pTQ Tc) h h := Fr.rf
      have hT : Tc ≠ 0 := by have := k9.1; omega
      have h2T : ∀ k, ¬ pTQ Tc (2, k) := fun k => pT_2 k9.1
      have hX2 := hX
      obtain ⟨w1, w2, w3, w4, w5, w6, w7, w8⟩ := hX2
      obtain ⟨ar1, w2s⟩ := w2.size
      refine r_aload_n (pc := 64) dX1_ratify_64 rfl ?_
      refine gX1_10 (pc := 65) dX1_ratify_65 hb rfl ?_
      refine r_aload_n (pc := 68) dX1_ratify_68 rfl ?_
      refine r_iload_n (pc := 69) dX1_ratify_69 rfl ?_
      refine r_callV (pc := 70) (kb' := 4) dX1_ratify_70 kX1_articleAt q1749 (t_X1_articleAt hb hX hI (by omega)) hb rfl (Nat.le_refl _) (Nat.le_of_ble_eq_true rfl) rfl rfl (Nat.le_of_ble_eq_true rfl) (fun _ _ q => q.elim) (fun _ _ hq => ?_)
      refine go_jE hq ?_
      have ea : ((a.toNat : Nat) : Int) = a := by omega
      have ho := hI.2.1 a (by omega) (by omega)
      have ho2 := ho
      unfold artOk at ho2
      have hA5 := w5 a.toNat (by omega)
      rw [ea] at hA5
      refine r_callV (pc := 73) (kb' := 0) dX1_ratify_73 kX2_ratifies q1918 (t_X2_ratifies hX hI hT (by omega) (by have := pig hI.2.2.2.2.1 (fun k k0 k1 => ⟨(hI.2.2.2.1 k k0 k1).1, (hI.2.2.2.1 k k0 k1).2.1, fun e => by have := (hI.2.2.2.1 k k0 k1).2.2; rw [e] at this; omega⟩) (a := a) (by omega) (by omega) (by omega); omega)) w1 rfl (Nat.le_of_ble_eq_true rfl) (Nat.le_of_ble_eq_true rfl) rfl rfl (Nat.le_of_ble_eq_true rfl) (fun _ _ q => q.elim) (fun _ h hq => ?_)
      refine go_jN hq (fun hq2 => ?_)
      obtain ⟨hS, hF2⟩ := hq2
      replace hF := hF.tr hF2
      obtain ⟨_, _, _, _, _, _, _, _, _, _, hX⟩ := hS
      have u1 : raR r a 1 = r 1 + 1 := rfl
      have hX2 := hX
      obtain ⟨w1, w2, w3, w4, w5, w6, w7, w8⟩ := hX2
      obtain ⟨ar1, w2s⟩ := w2.size
      have hb := hF.get hK1.1 (h2T 0)
      refine r_aload_n (pc := 76) dX1_ratify_76 rfl ?_
      refine gX1_10 (pc := 77) dX1_ratify_77 hb rfl ?_
      refine gX1_122 (pc := 80) dX1_ratify_80 w1 rfl ?_
      refine r_callV (pc := 83) (kb' := 0) dX1_ratify_83 kJ4_size q1773 (t_J4_size w3) w3.2.1 rfl (Nat.le_refl _) (Nat.le_of_ble_eq_true rfl) rfl rfl (Nat.le_of_ble_eq_true rfl) (fun _ _ q => q.elim) (fun _ _ hq => ?_)
      refine go_jE hq ?_
      refine go_cz (w := r 1 + 1) (by omega) ?_
      exact r_iret (pc := 86) dX1_ratify_86 rfl rfl ⟨rfl, (by unfold refRatify; (repeat' split) <;> first | rfl | omega | contradiction), (hK1.cur hF hX.w).w, hC.tr (hF.wk (pTQ_C k9.1))⟩
  · refine r_iconst (pc := 24) dX1_ratify_24 ?_
    refine go_cz (w := bZ (fA r a 3 = 0)) (bZ_t (by first | assumption | omega)).symm ?_
    refine r_goto (pc := 25) (tgt := 29) dX1_ratify_25 (by decide) ?_
    refine r_bipush (pc := 29) dX1_ratify_29 (by decide) ?_
    refine r_aload_n (pc := 31) dX1_ratify_31 rfl ?_
    refine gX1_189 (pc := 32) dX1_ratify_32 hA5 rfl ?_
    refine r_callV (pc := 35) (kb' := 472) dX1_ratify_35 kX1_refuse q1528 (t_X1_refuse (p := fA r a 3 = 0) (n := 8) (d := fA r a 0) hb) hb rfl (Nat.le_of_ble_eq_true rfl) (Nat.le_of_ble_eq_true rfl) rfl rfl (Nat.le_of_ble_eq_true rfl) (fun E h7 hx => x_out rfl ⟨hx.1, (8, fA r a 0), by
        have hc := hx.2.1
        unfold refRatify; (repeat' split) <;> first | rfl | omega | contradiction, hK.rfW (XU.tr hF hx.2.2)⟩) (fun _ h hq => ?_)
    refine go_jN hq (fun hq2 => ?_)
    obtain ⟨e9, hp3⟩ := hq2
    replace e9 := e9.symm
    subst e9
    refine r_aload_n (pc := 38) dX1_ratify_38 rfl ?_
    refine r_aload_n (pc := 39) dX1_ratify_39 rfl ?_
    refine gX1_193 (pc := 40) dX1_ratify_40 hA5 rfl ?_
    refine r_if_le (pc := 43) (tgt := 50) dX1_ratify_43 (by decide) (by omega) (fun c43 => ?_) (fun c43 => ?_)
    · refine r_iconst (pc := 50) dX1_ratify_50 ?_
      refine go_cz (w := bZ (0 < fA r a 2)) (bZ_f (by first | assumption | omega)).symm ?_
      refine r_bipush (pc := 51) dX1_ratify_51 (by decide) ?_
      refine r_aload_n (pc := 53) dX1_ratify_53 rfl ?_
      refine gX1_193 (pc := 54) dX1_ratify_54 hA5 rfl ?_
      refine r_callV (pc := 57) (kb' := 461) dX1_ratify_57 kX1_refuse q1528 (t_X1_refuse (p := 0 < fA r a 2) (n := 9) (d := fA r a 2) hb) hb rfl (Nat.le_of_ble_eq_true rfl) (Nat.le_of_ble_eq_true rfl) rfl rfl (Nat.le_of_ble_eq_true rfl) (fun E h7 hx => x_out rfl ⟨hx.1, (9, fA r a 2), by
          have hc := hx.2.1
          unfold refRatify; (repeat' split) <;> first | rfl | omega | contradiction, hK.rfW (XU.tr hF hx.2.2)⟩) (fun _ h hq => ?_)
      refine go_jN hq (fun hq2 => ?_)
      obtain ⟨e9, hp4⟩ := hq2
      replace e9 := e9.symm
      subst e9
      refine r_aload_n (pc := 60) dX1_ratify_60 rfl ?_
      refine r_callV (pc := 61) (kb' := 4) dX1_ratify_61 kX1_change q1668 (t_X1_change (hK.q hF) hI (hZ.q hF) hw hn) hb rfl (Nat.le_of_ble_eq_true rfl) (Nat.le_of_ble_eq_true rfl) rfl rfl (Nat.le_of_ble_eq_true rfl) (fun _ _ q => q.elim) (fun _ h hq => ?_)
      refine go_jN hq (fun hq2 => ?_)
      obtain ⟨Tn, HT2, he2, hK1, hf, hTn, hTc⟩ := hq2
      have hC : Fr pC h9 h := (hF.wk pQ_C).tr (hf.wk (pCh_C hTn))
      replace hX := hX.fr hf (pCh_s k9.1 hTc) (pCh_z hTn)
      have hb := hK1.1
      replace hF : Fr (pTQ Tc) h h := Fr.rf
      have hT : Tc ≠ 0 := by have := k9.1; omega
      have h2T : ∀ k, ¬ pTQ Tc (2, k) := fun k => pT_2 k9.1
      have hX2 := hX
      obtain ⟨w1, w2, w3, w4, w5, w6, w7, w8⟩ := hX2
      obtain ⟨ar1, w2s⟩ := w2.size
      refine r_aload_n (pc := 64) dX1_ratify_64 rfl ?_
      refine gX1_10 (pc := 65) dX1_ratify_65 hb rfl ?_
      refine r_aload_n (pc := 68) dX1_ratify_68 rfl ?_
      refine r_iload_n (pc := 69) dX1_ratify_69 rfl ?_
      refine r_callV (pc := 70) (kb' := 4) dX1_ratify_70 kX1_articleAt q1749 (t_X1_articleAt hb hX hI (by omega)) hb rfl (Nat.le_refl _) (Nat.le_of_ble_eq_true rfl) rfl rfl (Nat.le_of_ble_eq_true rfl) (fun _ _ q => q.elim) (fun _ _ hq => ?_)
      refine go_jE hq ?_
      have ea : ((a.toNat : Nat) : Int) = a := by omega
      have ho := hI.2.1 a (by omega) (by omega)
      have ho2 := ho
      unfold artOk at ho2
      have hA5 := w5 a.toNat (by omega)
      rw [ea] at hA5
      refine r_callV (pc := 73) (kb' := 0) dX1_ratify_73 kX2_ratifies q1918 (t_X2_ratifies hX hI hT (by omega) (by have := pig hI.2.2.2.2.1 (fun k k0 k1 => ⟨(hI.2.2.2.1 k k0 k1).1, (hI.2.2.2.1 k k0 k1).2.1, fun e => by have := (hI.2.2.2.1 k k0 k1).2.2; rw [e] at this; omega⟩) (a := a) (by omega) (by omega) (by omega); omega)) w1 rfl (Nat.le_of_ble_eq_true rfl) (Nat.le_of_ble_eq_true rfl) rfl rfl (Nat.le_of_ble_eq_true rfl) (fun _ _ q => q.elim) (fun _ h hq => ?_)
      refine go_jN hq (fun hq2 => ?_)
      obtain ⟨hS, hF2⟩ := hq2
      replace hF := hF.tr hF2
      obtain ⟨_, _, _, _, _, _, _, _, _, _, hX⟩ := hS
      have u1 : raR r a 1 = r 1 + 1 := rfl
      have hX2 := hX
      obtain ⟨w1, w2, w3, w4, w5, w6, w7, w8⟩ := hX2
      obtain ⟨ar1, w2s⟩ := w2.size
      have hb := hF.get hK1.1 (h2T 0)
      refine r_aload_n (pc := 76) dX1_ratify_76 rfl ?_
      refine gX1_10 (pc := 77) dX1_ratify_77 hb rfl ?_
      refine gX1_122 (pc := 80) dX1_ratify_80 w1 rfl ?_
      refine r_callV (pc := 83) (kb' := 0) dX1_ratify_83 kJ4_size q1773 (t_J4_size w3) w3.2.1 rfl (Nat.le_refl _) (Nat.le_of_ble_eq_true rfl) rfl rfl (Nat.le_of_ble_eq_true rfl) (fun _ _ q => q.elim) (fun _ _ hq => ?_)
      refine go_jE hq ?_
      refine go_cz (w := r 1 + 1) (by omega) ?_
      exact r_iret (pc := 86) dX1_ratify_86 rfl rfl ⟨rfl, (by unfold refRatify; (repeat' split) <;> first | rfl | omega | contradiction), (hK1.cur hF hX.w).w, hC.tr (hF.wk (pTQ_C k9.1))⟩
    · refine r_iconst (pc := 46) dX1_ratify_46 ?_
      refine go_cz (w := bZ (0 < fA r a 2)) (bZ_t (by first | assumption | omega)).symm ?_
      refine r_goto (pc := 47) (tgt := 51) dX1_ratify_47 (by decide) ?_
      refine r_bipush (pc := 51) dX1_ratify_51 (by decide) ?_
      refine r_aload_n (pc := 53) dX1_ratify_53 rfl ?_
      refine gX1_193 (pc := 54) dX1_ratify_54 hA5 rfl ?_
      refine r_callV (pc := 57) (kb' := 461) dX1_ratify_57 kX1_refuse q1528 (t_X1_refuse (p := 0 < fA r a 2) (n := 9) (d := fA r a 2) hb) hb rfl (Nat.le_of_ble_eq_true rfl) (Nat.le_of_ble_eq_true rfl) rfl rfl (Nat.le_of_ble_eq_true rfl) (fun E h7 hx => x_out rfl ⟨hx.1, (9, fA r a 2), by
          have hc := hx.2.1
          unfold refRatify; (repeat' split) <;> first | rfl | omega | contradiction, hK.rfW (XU.tr hF hx.2.2)⟩) (fun _ h hq => ?_)
      refine go_jN hq (fun hq2 => ?_)
      obtain ⟨e9, hp4⟩ := hq2
      replace e9 := e9.symm
      subst e9
      refine r_aload_n (pc := 60) dX1_ratify_60 rfl ?_
      refine r_callV (pc := 61) (kb' := 4) dX1_ratify_61 kX1_change q1668 (t_X1_change (hK.q hF) hI (hZ.q hF) hw hn) hb rfl (Nat.le_of_ble_eq_true rfl) (Nat.le_of_ble_eq_true rfl) rfl rfl (Nat.le_of_ble_eq_true rfl) (fun _ _ q => q.elim) (fun _ h hq => ?_)
      refine go_jN hq (fun hq2 => ?_)
      obtain ⟨Tn, HT2, he2, hK1, hf, hTn, hTc⟩ := hq2
      have hC : Fr pC h9 h := (hF.wk pQ_C).tr (hf.wk (pCh_C hTn))
      replace hX := hX.fr hf (pCh_s k9.1 hTc) (pCh_z hTn)
      have hb := hK1.1
      replace hF : Fr (pTQ Tc) h h := Fr.rf
      have hT : Tc ≠ 0 := by have := k9.1; omega
      have h2T : ∀ k, ¬ pTQ Tc (2, k) := fun k => pT_2 k9.1
      have hX2 := hX
      obtain ⟨w1, w2, w3, w4, w5, w6, w7, w8⟩ := hX2
      obtain ⟨ar1, w2s⟩ := w2.size
      refine r_aload_n (pc := 64) dX1_ratify_64 rfl ?_
      refine gX1_10 (pc := 65) dX1_ratify_65 hb rfl ?_
      refine r_aload_n (pc := 68) dX1_ratify_68 rfl ?_
      refine r_iload_n (pc := 69) dX1_ratify_69 rfl ?_
      refine r_callV (pc := 70) (kb' := 4) dX1_ratify_70 kX1_articleAt q1749 (t_X1_articleAt hb hX hI (by omega)) hb rfl (Nat.le_refl _) (Nat.le_of_ble_eq_true rfl) rfl rfl (Nat.le_of_ble_eq_true rfl) (fun _ _ q => q.elim) (fun _ _ hq => ?_)
      refine go_jE hq ?_
      have ea : ((a.toNat : Nat) : Int) = a := by omega
      have ho := hI.2.1 a (by omega) (by omega)
      have ho2 := ho
      unfold artOk at ho2
      have hA5 := w5 a.toNat (by omega)
      rw [ea] at hA5
      refine r_callV (pc := 73) (kb' := 0) dX1_ratify_73 kX2_ratifies q1918 (t_X2_ratifies hX hI hT (by omega) (by have := pig hI.2.2.2.2.1 (fun k k0 k1 => ⟨(hI.2.2.2.1 k k0 k1).1, (hI.2.2.2.1 k k0 k1).2.1, fun e => by have := (hI.2.2.2.1 k k0 k1).2.2; rw [e] at this; omega⟩) (a := a) (by omega) (by omega) (by omega); omega)) w1 rfl (Nat.le_of_ble_eq_true rfl) (Nat.le_of_ble_eq_true rfl) rfl rfl (Nat.le_of_ble_eq_true rfl) (fun _ _ q => q.elim) (fun _ h hq => ?_)
      refine go_jN hq (fun hq2 => ?_)
      obtain ⟨hS, hF2⟩ := hq2
      replace hF := hF.tr hF2
      obtain ⟨_, _, _, _, _, _, _, _, _, _, hX⟩ := hS
      have u1 : raR r a 1 = r 1 + 1 := rfl
      have hX2 := hX
      obtain ⟨w1, w2, w3, w4, w5, w6, w7, w8⟩ := hX2
      obtain ⟨ar1, w2s⟩ := w2.size
      have hb := hF.get hK1.1 (h2T 0)
      refine r_aload_n (pc := 76) dX1_ratify_76 rfl ?_
      refine gX1_10 (pc := 77) dX1_ratify_77 hb rfl ?_
      refine gX1_122 (pc := 80) dX1_ratify_80 w1 rfl ?_
      refine r_callV (pc := 83) (kb' := 0) dX1_ratify_83 kJ4_size q1773 (t_J4_size w3) w3.2.1 rfl (Nat.le_refl _) (Nat.le_of_ble_eq_true rfl) rfl rfl (Nat.le_of_ble_eq_true rfl) (fun _ _ q => q.elim) (fun _ _ hq => ?_)
      refine go_jE hq ?_
      refine go_cz (w := r 1 + 1) (by omega) ?_
      exact r_iret (pc := 86) dX1_ratify_86 rfl rfl ⟨rfl, (by unfold refRatify; (repeat' split) <;> first | rfl | omega | contradiction), (hK1.cur hF hX.w).w, hC.tr (hF.wk (pTQ_C k9.1))⟩
theorem t_X1_repeal {G : Gl} {h9 : Hp} {o : Nat} {r : Row} {Y : KY} {s : Nat} {vs : Value} {hq0 ip ln : Nat} {rv : Value} {Tc Tv : Nat} {HT he : Nat → Nat} (hK : KWx G o (r, Y) s vs hq0 ip ln rv Tc Tv HT he h9) (hI : RI r) (hZ : FZ G h9) (hw : KX.wi (r, Y) = 0 ∨ KX.wi (r, Y) = 1) (hn : KX.hn (r, Y) ≤ 8) {a y : Int} (ha : InR a) (hy : InR y) : Ct G 10 513 yX1_repeal (Cond.code yX1_repeal cX1_repeal 3 (some .int)) [.ref o, .int (iZ a), .int (iZ y)] h9 (oQ G o (r 1 - 1) (refRepeal r a y) ((chX (r, Y)).wR (reR r a y)) h9) (oX G o (refRepeal r a y) (r, Y) h9) := by
  obtain ⟨k1, k2, k3, k4, k5, k6, k7, k8, k9⟩ := id hK
  obtain ⟨al, cl, sl, m1, m2, m3, n1, n2, E, F, hX9⟩ := k2
  have hX9 : SWx G Tc s r al cl sl m1 m2 m3 n1 n2 E F h9 := hX9
  have hb9 := k1
  have hF : Fr pQ h9 h9 := Fr.rf
  have hb := hb9
  have hX := hX9
  have b := hI.1
  have hX2 := hX
  obtain ⟨w1, w2, w3, w4, w5, w6, w7, w8⟩ := hX2
  obtain ⟨ar1, w2s⟩ := w2.size
  refine Ct.of (own := "CharterKiln") (nm := "repeal") (by decide +kernel) rfl rfl (L := [some (.ref o), some (.int (iZ a)), some (.int (iZ y))]) rfl (Nat.le_of_ble_eq_true rfl) rfl ?_
  refine r_aload_n (pc := 0) dX1_repeal_0 rfl ?_
  refine r_iload_n (pc := 1) dX1_repeal_1 rfl ?_
  refine r_callV (pc := 2) (kb' := 502) dX1_repeal_2 kX1_mustBeArticle q1736 (t_X1_mustBeArticle hb hX hI (by omega)) hb rfl (Nat.le_of_ble_eq_true rfl) (Nat.le_of_ble_eq_true rfl) rfl rfl (Nat.le_of_ble_eq_true rfl) (fun E h7 hx => x_out rfl ⟨hx.1, (2, a), by
      have hc := hx.2.1
      unfold refRepeal; (repeat' split) <;> first | rfl | omega | contradiction, hK.rfW (XU.tr hF hx.2.2)⟩) (fun _ h hq => ?_)
  refine go_jN hq (fun hq2 => ?_)
  obtain ⟨e9, hpa⟩ := hq2
  replace e9 := e9.symm
  subst e9
  refine r_aload_n (pc := 5) dX1_repeal_5 rfl ?_
  refine r_iload_n (pc := 6) dX1_repeal_6 rfl ?_
  refine r_callV (pc := 7) (kb' := 491) dX1_repeal_7 kX1_mustBeShelf q1566 (t_X1_mustBeShelf hb hX hI (by omega)) hb rfl (Nat.le_of_ble_eq_true rfl) (Nat.le_of_ble_eq_true rfl) rfl rfl (Nat.le_of_ble_eq_true rfl) (fun E h7 hx => x_out rfl ⟨hx.1, (2, y), by
      have hc := hx.2.1
      unfold refRepeal; (repeat' split) <;> first | rfl | omega | contradiction, hK.rfW (XU.tr hF hx.2.2)⟩) (fun _ h hq => ?_)
  refine go_jN hq (fun hq2 => ?_)
  obtain ⟨e9, hps⟩ := hq2
  replace e9 := e9.symm
  subst e9
  refine r_aload_n (pc := 10) dX1_repeal_10 rfl ?_
  refine r_aload_n (pc := 11) dX1_repeal_11 rfl ?_
  refine r_iload_n (pc := 12) dX1_repeal_12 rfl ?_
  refine r_callV (pc := 13) (kb' := 491) dX1_repeal_13 kX1_articleAt q1749 (t_X1_articleAt hb hX hI (by omega)) hb rfl (Nat.le_refl _) (Nat.le_of_ble_eq_true rfl) rfl rfl (Nat.le_of_ble_eq_true rfl) (fun _ _ q => q.elim) (fun _ _ hq => ?_)
  refine go_jE hq ?_
  have ea : ((a.toNat : Nat) : Int) = a := by omega
  have ho := hI.2.1 a (by omega) (by omega)
  have ho2 := ho
  unfold artOk at ho2
  have hA5 := w5 a.toNat (by omega)
  rw [ea] at hA5
  refine r_callV (pc := 16) (kb' := 491) dX1_repeal_16 kX5_isLaw q1206 (t_X5_isLaw hA5 (by omega)) hA5 rfl (Nat.le_refl _) (Nat.le_of_ble_eq_true rfl) rfl rfl (Nat.le_of_ble_eq_true rfl) (fun _ _ q => q.elim) (fun _ _ hq => ?_)
  refine go_jE hq ?_
  refine r_ifB_ne (pc := 19) (tgt := 26) dX1_repeal_19 (by decide) (fun c19 => ?_) (fun c19 => ?_)
  · refine r_iconst (pc := 26) dX1_repeal_26 ?_
    refine go_cz (w := bZ (0 ≤ fA r a 4)) (bZ_f (by first | assumption | omega)).symm ?_
    refine r_iconst (pc := 27) dX1_repeal_27 ?_
    refine r_aload_n (pc := 28) dX1_repeal_28 rfl ?_
    refine r_iload_n (pc := 29) dX1_repeal_29 rfl ?_
    refine r_callV (pc := 30) (kb' := 491) dX1_repeal_30 kX1_articleAt q1749 (t_X1_articleAt hb hX hI (by omega)) hb rfl (Nat.le_refl _) (Nat.le_of_ble_eq_true rfl) rfl rfl (Nat.le_of_ble_eq_true rfl) (fun _ _ q => q.elim) (fun _ _ hq => ?_)
    refine go_jE hq ?_
    have ea : ((a.toNat : Nat) : Int) = a := by omega
    have ho := hI.2.1 a (by omega) (by omega)
    have ho2 := ho
    unfold artOk at ho2
    have hA5 := w5 a.toNat (by omega)
    rw [ea] at hA5
    refine gX1_167 (pc := 33) dX1_repeal_33 hA5 rfl ?_
    refine r_callV (pc := 36) (kb' := 480) dX1_repeal_36 kX1_refuse q1528 (t_X1_refuse (p := 0 ≤ fA r a 4) (n := 5) (d := fA r a 4) hb) hb rfl (Nat.le_of_ble_eq_true rfl) (Nat.le_of_ble_eq_true rfl) rfl rfl (Nat.le_of_ble_eq_true rfl) (fun E h7 hx => x_out rfl ⟨hx.1, (5, fA r a 4), by
        have hc := hx.2.1
        unfold refRepeal; (repeat' split) <;> first | rfl | omega | contradiction, hK.rfW (XU.tr hF hx.2.2)⟩) (fun _ h hq => ?_)
    refine go_jN hq (fun hq2 => ?_)
    obtain ⟨e9, hp4⟩ := hq2
    replace e9 := e9.symm
    subst e9
    refine r_aload_n (pc := 39) dX1_repeal_39 rfl ?_
    refine r_iload_n (pc := 40) dX1_repeal_40 rfl ?_
    refine r_callV (pc := 41) (kb' := 463) dX1_repeal_41 kX1_mustHaveRoom q1573 (t_X1_mustHaveRoom hb hX hI (by omega)) hb rfl (Nat.le_of_ble_eq_true rfl) (Nat.le_of_ble_eq_true rfl) rfl rfl (Nat.le_of_ble_eq_true rfl) (fun E h7 hx => x_out rfl ⟨hx.1, (6, y), by
        have hc := hx.2.1
        unfold refRepeal; (repeat' split) <;> first | rfl | omega | contradiction, hK.rfW (XU.tr hF hx.2.2)⟩) (fun _ h hq => ?_)
    refine go_jN hq (fun hq2 => ?_)
    obtain ⟨hf6, hpr⟩ := hq2
    replace hF := hF.tr hf6
    have hb := hF.get hb9 pQ_2
    have hX := hX9.q hF
    have hX2 := hX
    obtain ⟨w1, w2, w3, w4, w5, w6, w7, w8⟩ := hX2
    obtain ⟨ar1, w2s⟩ := w2.size
    refine r_aload_n (pc := 44) dX1_repeal_44 rfl ?_
    refine r_callV (pc := 45) (kb' := 6) dX1_repeal_45 kX1_change q1668 (t_X1_change (hK.q hF) hI (hZ.q hF) hw hn) hb rfl (Nat.le_of_ble_eq_true rfl) (Nat.le_of_ble_eq_true rfl) rfl rfl (Nat.le_of_ble_eq_true rfl) (fun _ _ q => q.elim) (fun _ h hq => ?_)
    refine go_jN hq (fun hq2 => ?_)
    obtain ⟨Tn, HT2, he2, hK1, hf, hTn, hTc⟩ := hq2
    have hC : Fr pC h9 h := (hF.wk pQ_C).tr (hf.wk (pCh_C hTn))
    replace hX := hX.fr hf (pCh_s k9.1 hTc) (pCh_z hTn)
    have hb := hK1.1
    replace hF : Fr (pTQ Tc) h h := Fr.rf
    have hT : Tc ≠ 0 := by have := k9.1; omega
    have h2T : ∀ k, ¬ pTQ Tc (2, k) := fun k => pT_2 k9.1
    have hX2 := hX
    obtain ⟨w1, w2, w3, w4, w5, w6, w7, w8⟩ := hX2
    obtain ⟨ar1, w2s⟩ := w2.size
    refine r_aload_n (pc := 48) dX1_repeal_48 rfl ?_
    refine gX1_10 (pc := 49) dX1_repeal_49 hb rfl ?_
    refine r_aload_n (pc := 52) dX1_repeal_52 rfl ?_
    refine r_iload_n (pc := 53) dX1_repeal_53 rfl ?_
    refine r_callV (pc := 54) (kb' := 6) dX1_repeal_54 kX1_articleAt q1749 (t_X1_articleAt hb hX hI (by omega)) hb rfl (Nat.le_refl _) (Nat.le_of_ble_eq_true rfl) rfl rfl (Nat.le_of_ble_eq_true rfl) (fun _ _ q => q.elim) (fun _ _ hq => ?_)
    refine go_jE hq ?_
    have ea : ((a.toNat : Nat) : Int) = a := by omega
    have ho := hI.2.1 a (by omega) (by omega)
    have ho2 := ho
    unfold artOk at ho2
    have hA5 := w5 a.toNat (by omega)
    rw [ea] at hA5
    refine r_iload_n (pc := 57) dX1_repeal_57 rfl ?_
    refine r_callV (pc := 58) (kb' := 0) dX1_repeal_58 kX2_repeals q1929 (t_X2_repeals hX hI hT (by omega) (by omega)) w1 rfl (Nat.le_of_ble_eq_true rfl) (Nat.le_of_ble_eq_true rfl) rfl rfl (Nat.le_of_ble_eq_true rfl) (fun _ _ q => q.elim) (fun _ h hq => ?_)
    refine go_jN hq (fun hq2 => ?_)
    obtain ⟨hS, hF2⟩ := hq2
    replace hF := hF.tr hF2
    obtain ⟨_, _, _, _, _, _, _, _, _, _, hX⟩ := hS
    have u1 : reR r a y 1 = r 1 - 1 := rfl
    have pl := pl_law hI (a := a) (by omega) (by omega)
    have hX2 := hX
    obtain ⟨w1, w2, w3, w4, w5, w6, w7, w8⟩ := hX2
    obtain ⟨ar1, w2s⟩ := w2.size
    have hb := hF.get hK1.1 (h2T 0)
    refine r_aload_n (pc := 61) dX1_repeal_61 rfl ?_
    refine gX1_10 (pc := 62) dX1_repeal_62 hb rfl ?_
    refine gX1_122 (pc := 65) dX1_repeal_65 w1 rfl ?_
    refine r_callV (pc := 68) (kb' := 0) dX1_repeal_68 kJ4_size q1773 (t_J4_size w3) w3.2.1 rfl (Nat.le_refl _) (Nat.le_of_ble_eq_true rfl) rfl rfl (Nat.le_of_ble_eq_true rfl) (fun _ _ q => q.elim) (fun _ _ hq => ?_)
    refine go_jE hq ?_
    refine go_cz (w := r 1 - 1) (by omega) ?_
    exact r_iret (pc := 71) dX1_repeal_71 rfl rfl ⟨rfl, (by unfold refRepeal; (repeat' split) <;> first | rfl | omega | contradiction), (hK1.cur hF hX.w).w, hC.tr (hF.wk (pTQ_C k9.1))⟩
  · refine r_iconst (pc := 22) dX1_repeal_22 ?_
    refine go_cz (w := bZ (0 ≤ fA r a 4)) (bZ_t (by first | assumption | omega)).symm ?_
    refine r_goto (pc := 23) (tgt := 27) dX1_repeal_23 (by decide) ?_
    refine r_iconst (pc := 27) dX1_repeal_27 ?_
    refine r_aload_n (pc := 28) dX1_repeal_28 rfl ?_
    refine r_iload_n (pc := 29) dX1_repeal_29 rfl ?_
    refine r_callV (pc := 30) (kb' := 491) dX1_repeal_30 kX1_articleAt q1749 (t_X1_articleAt hb hX hI (by omega)) hb rfl (Nat.le_refl _) (Nat.le_of_ble_eq_true rfl) rfl rfl (Nat.le_of_ble_eq_true rfl) (fun _ _ q => q.elim) (fun _ _ hq => ?_)
    refine go_jE hq ?_
    have ea : ((a.toNat : Nat) : Int) = a := by omega
    have ho := hI.2.1 a (by omega) (by omega)
    have ho2 := ho
    unfold artOk at ho2
    have hA5 := w5 a.toNat (by omega)
    rw [ea] at hA5
    refine gX1_167 (pc := 33) dX1_repeal_33 hA5 rfl ?_
    refine r_callV (pc := 36) (kb' := 480) dX1_repeal_36 kX1_refuse q1528 (t_X1_refuse (p := 0 ≤ fA r a 4) (n := 5) (d := fA r a 4) hb) hb rfl (Nat.le_of_ble_eq_true rfl) (Nat.le_of_ble_eq_true rfl) rfl rfl (Nat.le_of_ble_eq_true rfl) (fun E h7 hx => x_out rfl ⟨hx.1, (5, fA r a 4), by
        have hc := hx.2.1
        unfold refRepeal; (repeat' split) <;> first | rfl | omega | contradiction, hK.rfW (XU.tr hF hx.2.2)⟩) (fun _ h hq => ?_)
    refine go_jN hq (fun hq2 => ?_)
    obtain ⟨e9, hp4⟩ := hq2
    replace e9 := e9.symm
    subst e9
    refine r_aload_n (pc := 39) dX1_repeal_39 rfl ?_
    refine r_iload_n (pc := 40) dX1_repeal_40 rfl ?_
    refine r_callV (pc := 41) (kb' := 463) dX1_repeal_41 kX1_mustHaveRoom q1573 (t_X1_mustHaveRoom hb hX hI (by omega)) hb rfl (Nat.le_of_ble_eq_true rfl) (Nat.le_of_ble_eq_true rfl) rfl rfl (Nat.le_of_ble_eq_true rfl) (fun E h7 hx => x_out rfl ⟨hx.1, (6, y), by
        have hc := hx.2.1
        unfold refRepeal; (repeat' split) <;> first | rfl | omega | contradiction, hK.rfW (XU.tr hF hx.2.2)⟩) (fun _ h hq => ?_)
    refine go_jN hq (fun hq2 => ?_)
    obtain ⟨hf6, hpr⟩ := hq2
    replace hF := hF.tr hf6
    have hb := hF.get hb9 pQ_2
    have hX := hX9.q hF
    have hX2 := hX
    obtain ⟨w1, w2, w3, w4, w5, w6, w7, w8⟩ := hX2
    obtain ⟨ar1, w2s⟩ := w2.size
    refine r_aload_n (pc := 44) dX1_repeal_44 rfl ?_
    refine r_callV (pc := 45) (kb' := 6) dX1_repeal_45 kX1_change q1668 (t_X1_change (hK.q hF) hI (hZ.q hF) hw hn) hb rfl (Nat.le_of_ble_eq_true rfl) (Nat.le_of_ble_eq_true rfl) rfl rfl (Nat.le_of_ble_eq_true rfl) (fun _ _ q => q.elim) (fun _ h hq => ?_)
    refine go_jN hq (fun hq2 => ?_)
    obtain ⟨Tn, HT2, he2, hK1, hf, hTn, hTc⟩ := hq2
    have hC : Fr pC h9 h := (hF.wk pQ_C).tr (hf.wk (pCh_C hTn))
    replace hX := hX.fr hf (pCh_s k9.1 hTc) (pCh_z hTn)
    have hb := hK1.1
    replace hF : Fr (pTQ Tc) h h := Fr.rf
    have hT : Tc ≠ 0 := by have := k9.1; omega
    have h2T : ∀ k, ¬ pTQ Tc (2, k) := fun k => pT_2 k9.1
    have hX2 := hX
    obtain ⟨w1, w2, w3, w4, w5, w6, w7, w8⟩ := hX2
    obtain ⟨ar1, w2s⟩ := w2.size
    refine r_aload_n (pc := 48) dX1_repeal_48 rfl ?_
    refine gX1_10 (pc := 49) dX1_repeal_49 hb rfl ?_
    refine r_aload_n (pc := 52) dX1_repeal_52 rfl ?_
    refine r_iload_n (pc := 53) dX1_repeal_53 rfl ?_
    refine r_callV (pc := 54) (kb' := 6) dX1_repeal_54 kX1_articleAt q1749 (t_X1_articleAt hb hX hI (by omega)) hb rfl (Nat.le_refl _) (Nat.le_of_ble_eq_true rfl) rfl rfl (Nat.le_of_ble_eq_true rfl) (fun _ _ q => q.elim) (fun _ _ hq => ?_)
    refine go_jE hq ?_
    have ea : ((a.toNat : Nat) : Int) = a := by omega
    have ho := hI.2.1 a (by omega) (by omega)
    have ho2 := ho
    unfold artOk at ho2
    have hA5 := w5 a.toNat (by omega)
    rw [ea] at hA5
    refine r_iload_n (pc := 57) dX1_repeal_57 rfl ?_
    refine r_callV (pc := 58) (kb' := 0) dX1_repeal_58 kX2_repeals q1929 (t_X2_repeals hX hI hT (by omega) (by omega)) w1 rfl (Nat.le_of_ble_eq_true rfl) (Nat.le_of_ble_eq_true rfl) rfl rfl (Nat.le_of_ble_eq_true rfl) (fun _ _ q => q.elim) (fun _ h hq => ?_)
    refine go_jN hq (fun hq2 => ?_)
    obtain ⟨hS, hF2⟩ := hq2
    replace hF := hF.tr hF2
    obtain ⟨_, _, _, _, _, _, _, _, _, _, hX⟩ := hS
    have u1 : reR r a y 1 = r 1 - 1 := rfl
    have pl := pl_law hI (a := a) (by omega) (by omega)
    have hX2 := hX
    obtain ⟨w1, w2, w3, w4, w5, w6, w7, w8⟩ := hX2
    obtain ⟨ar1, w2s⟩ := w2.size
    have hb := hF.get hK1.1 (h2T 0)
    refine r_aload_n (pc := 61) dX1_repeal_61 rfl ?_
    refine gX1_10 (pc := 62) dX1_repeal_62 hb rfl ?_
    refine gX1_122 (pc := 65) dX1_repeal_65 w1 rfl ?_
    refine r_callV (pc := 68) (kb' := 0) dX1_repeal_68 kJ4_size q1773 (t_J4_size w3) w3.2.1 rfl (Nat.le_refl _) (Nat.le_of_ble_eq_true rfl) rfl rfl (Nat.le_of_ble_eq_true rfl) (fun _ _ q => q.elim) (fun _ _ hq => ?_)
    refine go_jE hq ?_
    refine go_cz (w := r 1 - 1) (by omega) ?_
    exact r_iret (pc := 71) dX1_repeal_71 rfl rfl ⟨rfl, (by unfold refRepeal; (repeat' split) <;> first | rfl | omega | contradiction), (hK1.cur hF hX.w).w, hC.tr (hF.wk (pTQ_C k9.1))⟩
