set_option maxRecDepth 100000
theorem t_cites {G : Gl} {m : Nat} {ad : Nat → Nat} {h0 h : Hp} {T : TM} (hm : TI m ad h0 T h) {s a : Int} (hI : RI (T 0)) (hs : 0 ≤ s ∧ s < T 0 2) (ha : 0 ≤ a ∧ a < T 0 0) : Ct G 3 0 yX3_cites (Cond.code yX3_cites cX3_cites 4 (some .int)) [.ref m, .int (iZ s), .int (iZ a)] h (RT m ad h (ciN (T 0) s a) (uT T (ciR (T 0) s a))) noX := by
  have hm := hm.nw
  have hb := hI.1
  have ho := hI.2.1 a ha.1 ha.2
  have ho2 := ho
  unfold artOk at ho
  have hs2 := hI.2.2.1 s hs.1 hs.2
  unfold shOk at hs2
  have h6 : 0 ≤ apt (T 0) s a ∧ apt (T 0) s a ≤ 8 := ap_in (by omega) (by omega)
  have h7 : ciN (T 0) s a = leZ (fA (T 0) a 2) (3 - apt (T 0) s a) := rfl
  have h8 : -8 ≤ ciN (T 0) s a ∧ ciN (T 0) s a ≤ 9 := (by unfold ciN leZ; split <;> omega)
  rw [h7] at h8
  refine Ct.of (own := eM) (nm := "cites") (by decide +kernel) rfl rfl (L := [some (.ref m), some (.int (iZ s)), some (.int (iZ a)), none]) rfl (Nat.le_of_ble_eq_true rfl) rfl ?_
  refine r_aload_n (pc := 0) dX3_cites_0 rfl ?_
  refine r_iload_n (pc := 1) dX3_cites_1 rfl ?_
  refine r_iconst (pc := 2) dX3_cites_2 ?_
  refine r_callV (pc := 3) (kb' := 0) dX3_cites_3 kX3_av q2815 (t_av hm (by omega) (by omega)) hm.1.1 rfl (Nat.le_refl _) (Nat.le_of_ble_eq_true rfl) rfl rfl (Nat.le_of_ble_eq_true rfl) (fun _ _ q => q.elim) (fun _ _ hq => go_E hq ?_)
  refine r_iconst (pc := 6) dX3_cites_6 ?_
  refine r_aload_n (pc := 7) dX3_cites_7 rfl ?_
  refine r_iload_n (pc := 8) dX3_cites_8 rfl ?_
  refine r_iload_n (pc := 9) dX3_cites_9 rfl ?_
  refine r_callV (pc := 10) (kb' := 0) dX3_cites_10 kX3_apart q2937 (t_apart hm hI (by omega) (by omega)) hm.1.1 rfl (Nat.le_refl _) (Nat.le_of_ble_eq_true rfl) rfl rfl (Nat.le_of_ble_eq_true rfl) (fun _ _ q => q.elim) (fun _ _ hq => go_E hq ?_)
  refine r_isub (pc := 13) dX3_cites_13 ?_
  refine r_callS (pc := 14) (kb' := 0) dX3_cites_14 kX3_least q2949 (t_least (by omega) (by omega)) (Nat.le_refl _) (Nat.le_of_ble_eq_true rfl) rfl rfl (Nat.le_of_ble_eq_true rfl) (fun _ _ q => q.elim) (fun _ _ hq => go_E hq ?_)
  refine r_istore_n (pc := 17) (L' := [_, _, _, _]) dX3_cites_17 rfl ?_
  refine r_aload_n (pc := 18) dX3_cites_18 rfl ?_
  refine r_iload_n (pc := 19) dX3_cites_19 rfl ?_
  refine r_iconst (pc := 20) dX3_cites_20 ?_
  refine r_aload_n (pc := 21) dX3_cites_21 rfl ?_
  refine r_iload_n (pc := 22) dX3_cites_22 rfl ?_
  refine r_iconst (pc := 23) dX3_cites_23 ?_
  refine r_callV (pc := 24) (kb' := 0) dX3_cites_24 kX3_av q2815 (t_av hm (by omega) (by omega)) hm.1.1 rfl (Nat.le_refl _) (Nat.le_of_ble_eq_true rfl) rfl rfl (Nat.le_of_ble_eq_true rfl) (fun _ _ q => q.elim) (fun _ _ hq => go_E hq ?_)
  refine r_iload_n (pc := 27) dX3_cites_27 rfl ?_
  refine r_isub (pc := 28) dX3_cites_28 ?_
  refine r_callV (pc := 29) (kb' := 0) dX3_cites_29 kX3_la q2831 (t_la hm (by omega) (by omega) (by omega)) hm.1.1 rfl (Nat.le_refl _) (Nat.le_of_ble_eq_true rfl) rfl rfl (Nat.le_of_ble_eq_true rfl) (fun _ _ q => q.elim) (fun _ _ hq => go_V hq (fun h hm1 => ?_))
  have hm := hm.tr hm1
  refine r_aload_n (pc := 32) dX3_cites_32 rfl ?_
  refine gX3_7 (pc := 33) dX3_cites_33 hm.1.1 rfl ?_
  refine r_iconst (pc := 36) dX3_cites_36 ?_
  refine r_dup2 (pc := 37) dX3_cites_37 rfl rfl ?_
  refine t_iald (pc := 38) (lim := 140) 0 dX3_cites_38 hm (by decide) rfl (by first | omega | exact rfB_in _ | exact nz_in _ | exact hm.r _ _) (fun r38 => ?_)
  refine go_nm (fun z38 e38 => ?_)
  have r38 := InR_of e38 r38
  have g38 : z38 = T 0 5 := (by rw [e38, sT_i (by omega)])
  refine r_iconst (pc := 39) dX3_cites_39 ?_
  refine r_iadd (pc := 40) dX3_cites_40 ?_
  refine t_iastN (pc := 41) (lim := 140) 0 dX3_cites_41 hm (by decide) rfl (by first | omega | exact rfB_in _ | exact nz_in _ | exact hm.r _ _) (fun h hm => ?_)
  refine r_aload_n (pc := 42) dX3_cites_42 rfl ?_
  refine gX3_7 (pc := 43) dX3_cites_43 hm.1.1 rfl ?_
  refine r_bipush (pc := 46) dX3_cites_46 (by decide) ?_
  refine r_dup2 (pc := 48) dX3_cites_48 rfl rfl ?_
  refine t_iald (pc := 49) (lim := 140) 0 dX3_cites_49 hm (by decide) rfl (by first | omega | exact rfB_in _ | exact nz_in _ | exact hm.r _ _) (fun r49 => ?_)
  refine go_nm (fun z49 e49 => ?_)
  have r49 := InR_of e49 r49
  have g49 : z49 = T 0 6 := (by rw [e49, sT_i (by omega), sT_i (by omega)])
  refine r_iload_n (pc := 50) dX3_cites_50 rfl ?_
  refine r_iadd (pc := 51) dX3_cites_51 ?_
  refine t_iastN (pc := 52) (lim := 140) 0 dX3_cites_52 hm (by decide) rfl (by first | omega | exact rfB_in _ | exact nz_in _ | exact hm.r _ _) (fun h hm => ?_)
  refine r_aload_n (pc := 53) dX3_cites_53 rfl ?_
  refine gX3_7 (pc := 54) dX3_cites_54 hm.1.1 rfl ?_
  refine r_bipush (pc := 57) dX3_cites_57 (by decide) ?_
  refine r_iconst (pc := 59) dX3_cites_59 ?_
  refine r_iload_n (pc := 60) dX3_cites_60 rfl ?_
  refine r_imul (pc := 61) dX3_cites_61 ?_
  refine r_iadd (pc := 62) dX3_cites_62 ?_
  refine r_iconst (pc := 63) dX3_cites_63 ?_
  refine r_iadd (pc := 64) dX3_cites_64 ?_
  refine r_dup2 (pc := 65) dX3_cites_65 rfl rfl ?_
  refine t_iald (pc := 66) (lim := 140) 0 dX3_cites_66 hm (by decide) rfl (by first | omega | exact rfB_in _ | exact nz_in _ | exact hm.r _ _) (fun r66 => ?_)
  refine go_nm (fun z66 e66 => ?_)
  have r66 := InR_of e66 r66
  have g66 : z66 = fS (T 0) s 1 := (by rw [e66, sT_i (by omega), sT_i (by omega), sT_i (by omega)]; rfl)
  refine r_iconst (pc := 67) dX3_cites_67 ?_
  refine r_isub (pc := 68) dX3_cites_68 ?_
  refine t_iast (pc := 69) (lim := 140) 0 dX3_cites_69 hm (by decide) rfl (by first | omega | exact rfB_in _ | exact nz_in _ | exact hm.r _ _) (by first | omega | exact rfB_in _ | exact nz_in _ | exact hm.r _ _) (fun h hm => ?_)
  have hm := hm.to (T' := uT T (ci1 (T 0) s a)) (by rw [g38, g49, g66]; exact (by funext k j; simp only [sT, uT, ci1, ciN]; (repeat' split) <;> (subst_vars; first | rfl | omega | (congr 1; omega) | (simp_all; done) | (simp_all; omega))))
  refine r_aload_n (pc := 70) dX3_cites_70 rfl ?_
  refine r_iload_n (pc := 71) dX3_cites_71 rfl ?_
  refine r_iconst (pc := 72) dX3_cites_72 ?_
  refine r_callV (pc := 73) (kb' := 0) dX3_cites_73 kX3_hv q2941 (t_hv hm (by omega) (by omega)) hm.1.1 rfl (Nat.le_refl _) (Nat.le_of_ble_eq_true rfl) rfl rfl (Nat.le_of_ble_eq_true rfl) (fun _ _ q => q.elim) (fun _ _ hq => go_E hq ?_)
  refine go_n2 (fS (T 0) s 1 - 1) (by rw [uT_0]; exact ci1_u (by omega) ha.1) (fun z73 e73 => ?_)
  refine r_if_ne (pc := 76) (tgt := 84) dX3_cites_76 (by decide) (by first | omega | exact rfB_in _ | exact nz_in _ | exact hm.r _ _) (fun c76 => ?_) (fun c76 => ?_)
  · refine r_iload_n (pc := 84) dX3_cites_84 rfl ?_
    exact e_retT (pc := 85) dX3_cites_85 rfl hm rfl (by first | (rw [show ciR (T 0) s a = ci1 (T 0) s a from if_neg (by omega)]; done) | (rw [uT_0, uT_uT, show ciR (T 0) s a = sgR (ci1 (T 0) s a) s from if_pos (by omega)]; done))
  · refine r_aload_n (pc := 79) dX3_cites_79 rfl ?_
    refine r_iload_n (pc := 80) dX3_cites_80 rfl ?_
    refine r_callV (pc := 81) (kb' := 0) dX3_cites_81 kX3_shardGoes q2913 (t_shardGoes hm (by rw [uT_0, ci1_2 hs.1 ha.1]; omega)) hm.1.1 rfl (Nat.le_refl _) (Nat.le_of_ble_eq_true rfl) rfl rfl (Nat.le_of_ble_eq_true rfl) (fun _ _ q => q.elim) (fun _ _ hq => go_V hq (fun h hm1 => ?_))
    have hm := hm.tr hm1
    refine r_iload_n (pc := 84) dX3_cites_84 rfl ?_
    exact e_retT (pc := 85) dX3_cites_85 rfl hm rfl (by first | (rw [show ciR (T 0) s a = ci1 (T 0) s a from if_neg (by omega)]; done) | (rw [uT_0, uT_uT, show ciR (T 0) s a = sgR (ci1 (T 0) s a) s from if_pos (by omega)]; done))
