set_option maxRecDepth 100000
theorem t_writes {G : Gl} {m : Nat} {ad : Nat → Nat} {h0 h9 : Hp} {T : TM} (hm : TI m ad h0 T h9) {c : Int} (hc : InR c) (hf : 0 ≤ T 24 0 ∧ T 24 0 ≤ 59) : Ct G 1 0 yX3_writes (Cond.code yX3_writes cX3_writes 2 (none)) [.ref m, .int (iZ c)] h9 (RV m ad h9 (wrs T [c])) noX := by
  have hm := hm.nw
  refine Ct.of (own := eM) (nm := "writes") (by decide +kernel) rfl rfl (L := [some (.ref m), some (.int (iZ c))]) rfl (Nat.le_of_ble_eq_true rfl) rfl ?_
  refine r_aload_n (pc := 0) dX3_writes_0 rfl ?_
  refine gX3_81 (pc := 1) dX3_writes_1 hm.1.1 rfl ?_
  refine r_aload_n (pc := 4) dX3_writes_4 rfl ?_
  refine gX3_84 (pc := 5) dX3_writes_5 hm.1.1 rfl ?_; have r5 := hm.r 24 0
  refine go_nm (fun z5 e5 => ?_)
  have r5 := InR_of e5 r5
  refine r_iload_n (pc := 8) dX3_writes_8 rfl ?_
  refine t_iast (pc := 9) (lim := 60) 23 dX3_writes_9 hm (by decide) rfl (by first | omega | exact rfB_in _ | exact nz_in _ | exact hm.r _ _) (by first | omega | exact rfB_in _ | exact nz_in _ | exact hm.r _ _) (fun h hm => ?_)
  refine r_aload_n (pc := 10) dX3_writes_10 rfl ?_
  refine r_dup (pc := 11) dX3_writes_11 rfl ?_
  refine gX3_84 (pc := 12) dX3_writes_12 hm.1.1 rfl ?_; have r12 := hm.r 24 0
  refine go_nm (fun z12 e12 => ?_)
  have r12 := InR_of e12 r12
  try simp [sT, cpT, cpN] at e12
  refine r_iconst (pc := 15) dX3_writes_15 ?_
  refine r_iadd (pc := 16) dX3_writes_16 ?_
  refine pX3_84 (pc := 17) dX3_writes_17 hm.1.1 (by decide) (Nat.le_of_ble_eq_true rfl) ?_
  refine t_put 24 rfl hm (by first | omega | exact rfB_in _ | exact nz_in _ | exact hm.r _ _) (fun h hm => ?_)
  exact e_vret (pc := 20) dX3_writes_20 rfl hm (by rw [e5, e12]; rfl)
theorem t_writesNumber {G : Gl} {m : Nat} {ad : Nat → Nat} {h0 h9 : Hp} {T : TM} (hm : TI m ad h0 T h9) {v : Int} (hv : 0 ≤ v ∧ v ≤ 99) (hf : 0 ≤ T 24 0 ∧ T 24 0 ≤ 58) : Ct G 2 0 yX3_writesNumber (Cond.code yX3_writesNumber cX3_writesNumber 2 (none)) [.ref m, .int (iZ v)] h9 (RV m ad h9 (wrs T (numL v))) noX := by
  have hm := hm.nw
  refine Ct.of (own := eM) (nm := "writesNumber") (by decide +kernel) rfl rfl (L := [some (.ref m), some (.int (iZ v))]) rfl (Nat.le_of_ble_eq_true rfl) rfl ?_
  refine r_iload_n (pc := 0) dX3_writesNumber_0 rfl ?_
  refine r_bipush (pc := 1) dX3_writesNumber_1 (by decide) ?_
  refine r_icmp_le (pc := 3) (tgt := 17) dX3_writesNumber_3 (by decide) (by first | omega | exact rfB_in _ | exact nz_in _ | exact hm.r _ _) (by first | omega | exact rfB_in _ | exact nz_in _ | exact hm.r _ _) (fun c3 => ?_) (fun c3 => ?_)
  · refine r_aload_n (pc := 17) dX3_writesNumber_17 rfl ?_
    refine r_bipush (pc := 18) dX3_writesNumber_18 (by decide) ?_
    refine r_iload_n (pc := 20) dX3_writesNumber_20 rfl ?_
    refine r_bipush (pc := 21) dX3_writesNumber_21 (by decide) ?_
    refine r_irem (pc := 23) dX3_writesNumber_23 (by first | omega | exact rfB_in _ | exact nz_in _ | exact hm.r _ _) (by first | omega | exact rfB_in _ | exact nz_in _ | exact hm.r _ _) (by first | omega | exact rfB_in _ | exact nz_in _ | exact hm.r _ _) ?_
    refine r_iadd (pc := 24) dX3_writesNumber_24 ?_
    refine r_callV (pc := 25) (kb' := 0) dX3_writesNumber_25 kX3_writes q3174 (t_writes hm (by omega) (by first | omega | (rw [wrs_24 (T := T)]; simp; omega))) hm.1.1 rfl (Nat.le_refl _) (Nat.le_of_ble_eq_true rfl) rfl rfl (Nat.le_of_ble_eq_true rfl) (fun _ _ q => q.elim) (fun _ _ hq => go_V hq (fun h hm1 => ?_))
    have hm := hm.tr hm1
    exact e_vret (pc := 28) dX3_writesNumber_28 rfl hm (by unfold numL; first | (rw [if_pos (by omega), wrs_wrs]; rfl) | (rw [if_neg (by omega)]))
  · refine r_aload_n (pc := 6) dX3_writesNumber_6 rfl ?_
    refine r_bipush (pc := 7) dX3_writesNumber_7 (by decide) ?_
    refine r_iload_n (pc := 9) dX3_writesNumber_9 rfl ?_
    refine r_bipush (pc := 10) dX3_writesNumber_10 (by decide) ?_
    refine r_idiv (pc := 12) dX3_writesNumber_12 (by first | omega | exact rfB_in _ | exact nz_in _ | exact hm.r _ _) (by first | omega | exact rfB_in _ | exact nz_in _ | exact hm.r _ _) (by first | omega | exact rfB_in _ | exact nz_in _ | exact hm.r _ _) ?_
    refine r_iadd (pc := 13) dX3_writesNumber_13 ?_
    refine r_callV (pc := 14) (kb' := 0) dX3_writesNumber_14 kX3_writes q3174 (t_writes hm (by omega) (by omega)) hm.1.1 rfl (Nat.le_refl _) (Nat.le_of_ble_eq_true rfl) rfl rfl (Nat.le_of_ble_eq_true rfl) (fun _ _ q => q.elim) (fun _ _ hq => go_V hq (fun h hm1 => ?_))
    have hm := hm.tr hm1
    refine r_aload_n (pc := 17) dX3_writesNumber_17 rfl ?_
    refine r_bipush (pc := 18) dX3_writesNumber_18 (by decide) ?_
    refine r_iload_n (pc := 20) dX3_writesNumber_20 rfl ?_
    refine r_bipush (pc := 21) dX3_writesNumber_21 (by decide) ?_
    refine r_irem (pc := 23) dX3_writesNumber_23 (by first | omega | exact rfB_in _ | exact nz_in _ | exact hm.r _ _) (by first | omega | exact rfB_in _ | exact nz_in _ | exact hm.r _ _) (by first | omega | exact rfB_in _ | exact nz_in _ | exact hm.r _ _) ?_
    refine r_iadd (pc := 24) dX3_writesNumber_24 ?_
    refine r_callV (pc := 25) (kb' := 0) dX3_writesNumber_25 kX3_writes q3174 (t_writes hm (by omega) (by first | omega | (rw [wrs_24 (T := T)]; simp; omega))) hm.1.1 rfl (Nat.le_refl _) (Nat.le_of_ble_eq_true rfl) rfl rfl (Nat.le_of_ble_eq_true rfl) (fun _ _ q => q.elim) (fun _ _ hq => go_V hq (fun h hm1 => ?_))
    have hm := hm.tr hm1
    exact e_vret (pc := 28) dX3_writesNumber_28 rfl hm (by unfold numL; first | (rw [if_pos (by omega), wrs_wrs]; rfl) | (rw [if_neg (by omega)]))
theorem t_tell {G : Gl} {m : Nat} {ad : Nat → Nat} {h0 h9 : Hp} {T : TM} (hm : TI m ad h0 T h9) {a : Int} (hI : RI (T 0)) (ha : InR a) : Ct G 3 0 yX3_tell (Cond.code yX3_tell cX3_tell 2 (some .int)) [.ref m, .int (iZ a)] h9 (RT m ad h9 (telZ T a) (telT T a)) noX := by
  have hm := hm.nw
  have hb := hI.1
  refine Ct.of (own := eM) (nm := "tell") (by decide +kernel) rfl rfl (L := [some (.ref m), some (.int (iZ a))]) rfl (Nat.le_of_ble_eq_true rfl) rfl ?_
  refine r_aload_n (pc := 0) dX3_tell_0 rfl ?_
  refine r_aload_n (pc := 1) dX3_tell_1 rfl ?_
  refine r_iload_n (pc := 2) dX3_tell_2 rfl ?_
  refine r_callV (pc := 3) (kb' := 0) dX3_tell_3 kX3_isArticle q2851 (t_isArticle hm hI (by omega)) hm.1.1 rfl (Nat.le_refl _) (Nat.le_of_ble_eq_true rfl) rfl rfl (Nat.le_of_ble_eq_true rfl) (fun _ _ q => q.elim) (fun _ _ hq => go_E hq ?_)
  refine r_ifB_eq (pc := 6) (tgt := 13) dX3_tell_6 (by decide) (fun c6 => ?_) (fun c6 => ?_)
  · refine r_iconst (pc := 13) dX3_tell_13 ?_
    refine pX3_25 (pc := 14) dX3_tell_14 hm.1.1 (by decide) (Nat.le_of_ble_eq_true rfl) ?_
    refine t_put 5 rfl hm (by first | omega | exact rfB_in _ | exact nz_in _ | exact hm.r _ _) (fun h hm => ?_)
    refine r_aload_n (pc := 17) dX3_tell_17 rfl ?_
    refine gX3_25 (pc := 18) dX3_tell_18 hm.1.1 rfl ?_; have r18 := hm.r 5 0
    refine go_z (z' := 1) (by simp [sT]) ?_
    refine r_if_le (pc := 21) (tgt := 26) dX3_tell_21 (by decide) (by decide) (fun q => absurd q (by decide)) (fun _ => ?_)
    refine r_iconst (pc := 24) dX3_tell_24 ?_
    exact e_retT (pc := 25) dX3_tell_25 rfl hm (by first | (exfalso; omega) | exact (if_neg (by omega)).symm | (rw [show telZ T a = (telL (T 0) a).length from if_pos (by omega), e148]; unfold telL tllL; ((first | rw [if_pos (show fA (T 0) a 4 < 0 by omega), if_pos (show fA (T 0) a 4 < 0 by omega)] | rw [if_neg (show ¬ fA (T 0) a 4 < 0 by omega), if_neg (show ¬ fA (T 0) a 4 < 0 by omega)]); (first | rw [if_pos (show fA (T 0) a 3 = 1 by omega)] | rw [if_neg (show ¬ fA (T 0) a 3 = 1 by omega)]); simp))) (by first | (exfalso; omega) | exact (if_neg (by omega)).symm | (rw [show telT T a = wrs (liT T) (telL (T 0) a) from if_pos (by omega)]; unfold telL tllL; ((first | rw [if_pos (show fA (T 0) a 4 < 0 by omega), if_pos (show fA (T 0) a 4 < 0 by omega)] | rw [if_neg (show ¬ fA (T 0) a 4 < 0 by omega), if_neg (show ¬ fA (T 0) a 4 < 0 by omega)]); (first | rw [if_pos (show fA (T 0) a 3 = 1 by omega)] | rw [if_neg (show ¬ fA (T 0) a 3 = 1 by omega)]); rfl)))
  · refine r_iconst (pc := 9) dX3_tell_9 ?_
    refine r_goto (pc := 10) (tgt := 14) dX3_tell_10 (by decide) ?_
    refine pX3_25 (pc := 14) dX3_tell_14 hm.1.1 (by decide) (Nat.le_of_ble_eq_true rfl) ?_
    refine t_put 5 rfl hm (by first | omega | exact rfB_in _ | exact nz_in _ | exact hm.r _ _) (fun h hm => ?_)
    refine r_aload_n (pc := 17) dX3_tell_17 rfl ?_
    refine gX3_25 (pc := 18) dX3_tell_18 hm.1.1 rfl ?_; have r18 := hm.r 5 0
    refine go_z (z' := 0) (by simp [sT]) ?_
    refine r_if_le (pc := 21) (tgt := 26) dX3_tell_21 (by decide) (by decide) (fun _ => ?_) (fun q => absurd (by decide) q)
    refine r_aload_n (pc := 26) dX3_tell_26 rfl ?_
    refine r_iconst (pc := 27) dX3_tell_27 ?_
    refine pX3_84 (pc := 28) dX3_tell_28 hm.1.1 (by decide) (Nat.le_of_ble_eq_true rfl) ?_
    refine t_put 24 rfl hm (by first | omega | exact rfB_in _ | exact nz_in _ | exact hm.r _ _) (fun h hm => ?_)
    have hm := hm.to (T' := wrs (liT T) []) rfl
    have hl : ([] : List Int).length ≤ 0 := Nat.le_refl 0
    have ho := hI.2.1 a (by omega) (by omega)
    unfold artOk at ho
    have hpl := fun h => pl_law hI (a := a) (by omega) h
    refine r_aload_n (pc := 31) dX3_tell_31 rfl ?_
    refine r_iload_n (pc := 32) dX3_tell_32 rfl ?_
    refine r_callV (pc := 33) (kb' := 0) dX3_tell_33 kX3_writesNumber q3170 (t_writesNumber hm (by omega) (wpre hl liT_24 (by decide))) hm.1.1 rfl (Nat.le_refl _) (Nat.le_of_ble_eq_true rfl) rfl rfl (Nat.le_of_ble_eq_true rfl) (fun _ _ q => q.elim) (fun _ _ hq => go_V hq (fun h hm1 => ?_))
    have hm := hm.tr hm1
    obtain ⟨hm, hl⟩ := wst hm hl (numL_le _)
    refine r_aload_n (pc := 36) dX3_tell_36 rfl ?_
    refine r_bipush (pc := 37) dX3_tell_37 (by decide) ?_
    refine r_callV (pc := 39) (kb' := 0) dX3_tell_39 kX3_writes q3174 (t_writes hm (by omega) (wpre hl liT_24 (by decide))) hm.1.1 rfl (Nat.le_refl _) (Nat.le_of_ble_eq_true rfl) rfl rfl (Nat.le_of_ble_eq_true rfl) (fun _ _ q => q.elim) (fun _ _ hq => go_V hq (fun h hm1 => ?_))
    have hm := hm.tr hm1
    obtain ⟨hm, hl⟩ := wst hm hl (Nat.le_refl 1)
    refine r_aload_n (pc := 42) dX3_tell_42 rfl ?_
    refine r_aload_n (pc := 43) dX3_tell_43 rfl ?_
    refine r_iload_n (pc := 44) dX3_tell_44 rfl ?_
    refine r_iconst (pc := 45) dX3_tell_45 ?_
    refine r_callV (pc := 46) (kb' := 0) dX3_tell_46 kX3_av q2815 (t_av hm (by omega) (by omega)) hm.1.1 rfl (Nat.le_refl _) (Nat.le_of_ble_eq_true rfl) rfl rfl (Nat.le_of_ble_eq_true rfl) (fun _ _ q => q.elim) (fun _ _ hq => go_E hq ?_)
    simp only [wrs_k (show (0 : Nat) ≠ 23 by decide) (show (0 : Nat) ≠ 24 by decide), liT_0]
    refine r_callV (pc := 49) (kb' := 0) dX3_tell_49 kX3_writesNumber q3170 (t_writesNumber hm (by omega) (wpre hl liT_24 (by decide))) hm.1.1 rfl (Nat.le_refl _) (Nat.le_of_ble_eq_true rfl) rfl rfl (Nat.le_of_ble_eq_true rfl) (fun _ _ q => q.elim) (fun _ _ hq => go_V hq (fun h hm1 => ?_))
    have hm := hm.tr hm1
    obtain ⟨hm, hl⟩ := wst hm hl (numL_le _)
    refine r_aload_n (pc := 52) dX3_tell_52 rfl ?_
    refine r_bipush (pc := 53) dX3_tell_53 (by decide) ?_
    refine r_callV (pc := 55) (kb' := 0) dX3_tell_55 kX3_writes q3174 (t_writes hm (by omega) (wpre hl liT_24 (by decide))) hm.1.1 rfl (Nat.le_refl _) (Nat.le_of_ble_eq_true rfl) rfl rfl (Nat.le_of_ble_eq_true rfl) (fun _ _ q => q.elim) (fun _ _ hq => go_V hq (fun h hm1 => ?_))
    have hm := hm.tr hm1
    obtain ⟨hm, hl⟩ := wst hm hl (Nat.le_refl 1)
    refine r_aload_n (pc := 58) dX3_tell_58 rfl ?_
    refine r_aload_n (pc := 59) dX3_tell_59 rfl ?_
    refine r_iload_n (pc := 60) dX3_tell_60 rfl ?_
    refine r_iconst (pc := 61) dX3_tell_61 ?_
    refine r_callV (pc := 62) (kb' := 0) dX3_tell_62 kX3_av q2815 (t_av hm (by omega) (by omega)) hm.1.1 rfl (Nat.le_refl _) (Nat.le_of_ble_eq_true rfl) rfl rfl (Nat.le_of_ble_eq_true rfl) (fun _ _ q => q.elim) (fun _ _ hq => go_E hq ?_)
    simp only [wrs_k (show (0 : Nat) ≠ 23 by decide) (show (0 : Nat) ≠ 24 by decide), liT_0]
    refine r_callV (pc := 65) (kb' := 0) dX3_tell_65 kX3_writesNumber q3170 (t_writesNumber hm (by omega) (wpre hl liT_24 (by decide))) hm.1.1 rfl (Nat.le_refl _) (Nat.le_of_ble_eq_true rfl) rfl rfl (Nat.le_of_ble_eq_true rfl) (fun _ _ q => q.elim) (fun _ _ hq => go_V hq (fun h hm1 => ?_))
    have hm := hm.tr hm1
    obtain ⟨hm, hl⟩ := wst hm hl (numL_le _)
    refine r_aload_n (pc := 68) dX3_tell_68 rfl ?_
    refine r_bipush (pc := 69) dX3_tell_69 (by decide) ?_
    refine r_callV (pc := 71) (kb' := 0) dX3_tell_71 kX3_writes q3174 (t_writes hm (by omega) (wpre hl liT_24 (by decide))) hm.1.1 rfl (Nat.le_refl _) (Nat.le_of_ble_eq_true rfl) rfl rfl (Nat.le_of_ble_eq_true rfl) (fun _ _ q => q.elim) (fun _ _ hq => go_V hq (fun h hm1 => ?_))
    have hm := hm.tr hm1
    obtain ⟨hm, hl⟩ := wst hm hl (Nat.le_refl 1)
    refine r_aload_n (pc := 74) dX3_tell_74 rfl ?_
    refine r_aload_n (pc := 75) dX3_tell_75 rfl ?_
    refine r_iload_n (pc := 76) dX3_tell_76 rfl ?_
    refine r_iconst (pc := 77) dX3_tell_77 ?_
    refine r_callV (pc := 78) (kb' := 0) dX3_tell_78 kX3_av q2815 (t_av hm (by omega) (by omega)) hm.1.1 rfl (Nat.le_refl _) (Nat.le_of_ble_eq_true rfl) rfl rfl (Nat.le_of_ble_eq_true rfl) (fun _ _ q => q.elim) (fun _ _ hq => go_E hq ?_)
    simp only [wrs_k (show (0 : Nat) ≠ 23 by decide) (show (0 : Nat) ≠ 24 by decide), liT_0]
    refine r_callV (pc := 81) (kb' := 0) dX3_tell_81 kX3_writesNumber q3170 (t_writesNumber hm (by omega) (wpre hl liT_24 (by decide))) hm.1.1 rfl (Nat.le_refl _) (Nat.le_of_ble_eq_true rfl) rfl rfl (Nat.le_of_ble_eq_true rfl) (fun _ _ q => q.elim) (fun _ _ hq => go_V hq (fun h hm1 => ?_))
    have hm := hm.tr hm1
    obtain ⟨hm, hl⟩ := wst hm hl (numL_le _)
    refine r_aload_n (pc := 84) dX3_tell_84 rfl ?_
    refine r_aload_n (pc := 85) dX3_tell_85 rfl ?_
    refine r_iload_n (pc := 86) dX3_tell_86 rfl ?_
    refine r_iconst (pc := 87) dX3_tell_87 ?_
    refine r_callV (pc := 88) (kb' := 0) dX3_tell_88 kX3_av q2815 (t_av hm (by omega) (by omega)) hm.1.1 rfl (Nat.le_refl _) (Nat.le_of_ble_eq_true rfl) rfl rfl (Nat.le_of_ble_eq_true rfl) (fun _ _ q => q.elim) (fun _ _ hq => go_E hq ?_)
    simp only [wrs_k (show (0 : Nat) ≠ 23 by decide) (show (0 : Nat) ≠ 24 by decide), liT_0]
    refine r_if_ge (pc := 91) (tgt := 99) dX3_tell_91 (by decide) (by first | omega | exact rfB_in _ | exact nz_in _ | exact hm.r _ _) (fun c91 => ?_) (fun c91 => ?_)
    · refine r_bipush (pc := 99) dX3_tell_99 (by decide) ?_
      try have hpl := hpl (by omega)
      refine r_callV (pc := 101) (kb' := 0) dX3_tell_101 kX3_writes q3174 (t_writes hm (by omega) (wpre hl liT_24 (by decide))) hm.1.1 rfl (Nat.le_refl _) (Nat.le_of_ble_eq_true rfl) rfl rfl (Nat.le_of_ble_eq_true rfl) (fun _ _ q => q.elim) (fun _ _ hq => go_V hq (fun h hm1 => ?_))
      have hm := hm.tr hm1
      obtain ⟨hm, hl⟩ := wst hm hl (Nat.le_refl 1)
      refine r_aload_n (pc := 104) dX3_tell_104 rfl ?_
      refine r_aload_n (pc := 105) dX3_tell_105 rfl ?_
      refine r_iload_n (pc := 106) dX3_tell_106 rfl ?_
      refine r_iconst (pc := 107) dX3_tell_107 ?_
      refine r_callV (pc := 108) (kb' := 0) dX3_tell_108 kX3_av q2815 (t_av hm (by omega) (by omega)) hm.1.1 rfl (Nat.le_refl _) (Nat.le_of_ble_eq_true rfl) rfl rfl (Nat.le_of_ble_eq_true rfl) (fun _ _ q => q.elim) (fun _ _ hq => go_E hq ?_)
      simp only [wrs_k (show (0 : Nat) ≠ 23 by decide) (show (0 : Nat) ≠ 24 by decide), liT_0]
      refine r_if_ge (pc := 111) (tgt := 122) dX3_tell_111 (by decide) (by first | omega | exact rfB_in _ | exact nz_in _ | exact hm.r _ _) (fun c111 => ?_) (fun c111 => ?_)
      · refine r_aload_n (pc := 122) dX3_tell_122 rfl ?_
        refine r_iload_n (pc := 123) dX3_tell_123 rfl ?_
        refine r_iconst (pc := 124) dX3_tell_124 ?_
        refine r_callV (pc := 125) (kb' := 0) dX3_tell_125 kX3_av q2815 (t_av hm (by omega) (by omega)) hm.1.1 rfl (Nat.le_refl _) (Nat.le_of_ble_eq_true rfl) rfl rfl (Nat.le_of_ble_eq_true rfl) (fun _ _ q => q.elim) (fun _ _ hq => go_E hq ?_)
        simp only [wrs_k (show (0 : Nat) ≠ 23 by decide) (show (0 : Nat) ≠ 24 by decide), liT_0]
        refine r_callV (pc := 128) (kb' := 0) dX3_tell_128 kX3_writesNumber q3170 (t_writesNumber hm (by omega) (wpre hl liT_24 (by decide))) hm.1.1 rfl (Nat.le_refl _) (Nat.le_of_ble_eq_true rfl) rfl rfl (Nat.le_of_ble_eq_true rfl) (fun _ _ q => q.elim) (fun _ _ hq => go_V hq (fun h hm1 => ?_))
        have hm := hm.tr hm1
        obtain ⟨hm, hl⟩ := wst hm hl (numL_le _)
        refine r_aload_n (pc := 131) dX3_tell_131 rfl ?_
        refine r_iload_n (pc := 132) dX3_tell_132 rfl ?_
        refine r_iconst (pc := 133) dX3_tell_133 ?_
        refine r_callV (pc := 134) (kb' := 0) dX3_tell_134 kX3_av q2815 (t_av hm (by omega) (by omega)) hm.1.1 rfl (Nat.le_refl _) (Nat.le_of_ble_eq_true rfl) rfl rfl (Nat.le_of_ble_eq_true rfl) (fun _ _ q => q.elim) (fun _ _ hq => go_E hq ?_)
        simp only [wrs_k (show (0 : Nat) ≠ 23 by decide) (show (0 : Nat) ≠ 24 by decide), liT_0]
        refine r_iconst (pc := 137) dX3_tell_137 ?_
        refine r_icmp_ne (pc := 138) (tgt := 147) dX3_tell_138 (by decide) (by first | omega | exact rfB_in _ | exact nz_in _ | exact hm.r _ _) (by first | omega | exact rfB_in _ | exact nz_in _ | exact hm.r _ _) (fun c138 => ?_) (fun c138 => ?_)
        · refine r_aload_n (pc := 147) dX3_tell_147 rfl ?_
          refine gX3_84 (pc := 148) dX3_tell_148 hm.1.1 rfl ?_; have r148 := hm.r 24 0
          refine go_nm (fun z148 e148 => ?_)
          have r148 := InR_of e148 r148
          rw [wrs_24 (T := liT T), liT_24] at e148
          exact e_retT (pc := 151) dX3_tell_151 rfl hm (by first | (exfalso; omega) | exact (if_neg (by omega)).symm | (rw [show telZ T a = (telL (T 0) a).length from if_pos (by omega), e148]; unfold telL tllL; ((first | rw [if_pos (show fA (T 0) a 4 < 0 by omega), if_pos (show fA (T 0) a 4 < 0 by omega)] | rw [if_neg (show ¬ fA (T 0) a 4 < 0 by omega), if_neg (show ¬ fA (T 0) a 4 < 0 by omega)]); (first | rw [if_pos (show fA (T 0) a 3 = 1 by omega)] | rw [if_neg (show ¬ fA (T 0) a 3 = 1 by omega)]); simp))) (by first | (exfalso; omega) | exact (if_neg (by omega)).symm | (rw [show telT T a = wrs (liT T) (telL (T 0) a) from if_pos (by omega)]; unfold telL tllL; ((first | rw [if_pos (show fA (T 0) a 4 < 0 by omega), if_pos (show fA (T 0) a 4 < 0 by omega)] | rw [if_neg (show ¬ fA (T 0) a 4 < 0 by omega), if_neg (show ¬ fA (T 0) a 4 < 0 by omega)]); (first | rw [if_pos (show fA (T 0) a 3 = 1 by omega)] | rw [if_neg (show ¬ fA (T 0) a 3 = 1 by omega)]); rfl)))
        · refine r_aload_n (pc := 141) dX3_tell_141 rfl ?_
          refine r_bipush (pc := 142) dX3_tell_142 (by decide) ?_
          refine r_callV (pc := 144) (kb' := 0) dX3_tell_144 kX3_writes q3174 (t_writes hm (by omega) (wpre hl liT_24 (by decide))) hm.1.1 rfl (Nat.le_refl _) (Nat.le_of_ble_eq_true rfl) rfl rfl (Nat.le_of_ble_eq_true rfl) (fun _ _ q => q.elim) (fun _ _ hq => go_V hq (fun h hm1 => ?_))
          have hm := hm.tr hm1
          obtain ⟨hm, hl⟩ := wst hm hl (Nat.le_refl 1)
          refine r_aload_n (pc := 147) dX3_tell_147 rfl ?_
          refine gX3_84 (pc := 148) dX3_tell_148 hm.1.1 rfl ?_; have r148 := hm.r 24 0
          refine go_nm (fun z148 e148 => ?_)
          have r148 := InR_of e148 r148
          rw [wrs_24 (T := liT T), liT_24] at e148
          exact e_retT (pc := 151) dX3_tell_151 rfl hm (by first | (exfalso; omega) | exact (if_neg (by omega)).symm | (rw [show telZ T a = (telL (T 0) a).length from if_pos (by omega), e148]; unfold telL tllL; ((first | rw [if_pos (show fA (T 0) a 4 < 0 by omega), if_pos (show fA (T 0) a 4 < 0 by omega)] | rw [if_neg (show ¬ fA (T 0) a 4 < 0 by omega), if_neg (show ¬ fA (T 0) a 4 < 0 by omega)]); (first | rw [if_pos (show fA (T 0) a 3 = 1 by omega)] | rw [if_neg (show ¬ fA (T 0) a 3 = 1 by omega)]); simp))) (by first | (exfalso; omega) | exact (if_neg (by omega)).symm | (rw [show telT T a = wrs (liT T) (telL (T 0) a) from if_pos (by omega)]; unfold telL tllL; ((first | rw [if_pos (show fA (T 0) a 4 < 0 by omega), if_pos (show fA (T 0) a 4 < 0 by omega)] | rw [if_neg (show ¬ fA (T 0) a 4 < 0 by omega), if_neg (show ¬ fA (T 0) a 4 < 0 by omega)]); (first | rw [if_pos (show fA (T 0) a 3 = 1 by omega)] | rw [if_neg (show ¬ fA (T 0) a 3 = 1 by omega)]); rfl)))
      · refine r_aload_n (pc := 114) dX3_tell_114 rfl ?_
        refine r_iload_n (pc := 115) dX3_tell_115 rfl ?_
        refine r_callV (pc := 116) (kb' := 0) dX3_tell_116 kX3_placeOf q2859 (t_placeOf hm (by rw [wrs_k (by decide) (by decide), liT_0]; exact hI) (by omega)) hm.1.1 rfl (Nat.le_refl _) (Nat.le_of_ble_eq_true rfl) rfl rfl (Nat.le_of_ble_eq_true rfl) (fun _ _ q => q.elim) (fun _ _ hq => go_E hq ?_)
        simp only [wrs_k (show (0 : Nat) ≠ 23 by decide) (show (0 : Nat) ≠ 24 by decide), liT_0]
        refine r_goto (pc := 119) (tgt := 128) dX3_tell_119 (by decide) ?_
        refine r_callV (pc := 128) (kb' := 0) dX3_tell_128 kX3_writesNumber q3170 (t_writesNumber hm (by omega) (wpre hl liT_24 (by decide))) hm.1.1 rfl (Nat.le_refl _) (Nat.le_of_ble_eq_true rfl) rfl rfl (Nat.le_of_ble_eq_true rfl) (fun _ _ q => q.elim) (fun _ _ hq => go_V hq (fun h hm1 => ?_))
        have hm := hm.tr hm1
        obtain ⟨hm, hl⟩ := wst hm hl (numL_le _)
        refine r_aload_n (pc := 131) dX3_tell_131 rfl ?_
        refine r_iload_n (pc := 132) dX3_tell_132 rfl ?_
        refine r_iconst (pc := 133) dX3_tell_133 ?_
        refine r_callV (pc := 134) (kb' := 0) dX3_tell_134 kX3_av q2815 (t_av hm (by omega) (by omega)) hm.1.1 rfl (Nat.le_refl _) (Nat.le_of_ble_eq_true rfl) rfl rfl (Nat.le_of_ble_eq_true rfl) (fun _ _ q => q.elim) (fun _ _ hq => go_E hq ?_)
        simp only [wrs_k (show (0 : Nat) ≠ 23 by decide) (show (0 : Nat) ≠ 24 by decide), liT_0]
        refine r_iconst (pc := 137) dX3_tell_137 ?_
        refine r_icmp_ne (pc := 138) (tgt := 147) dX3_tell_138 (by decide) (by first | omega | exact rfB_in _ | exact nz_in _ | exact hm.r _ _) (by first | omega | exact rfB_in _ | exact nz_in _ | exact hm.r _ _) (fun c138 => ?_) (fun c138 => ?_)
        · refine r_aload_n (pc := 147) dX3_tell_147 rfl ?_
          refine gX3_84 (pc := 148) dX3_tell_148 hm.1.1 rfl ?_; have r148 := hm.r 24 0
          refine go_nm (fun z148 e148 => ?_)
          have r148 := InR_of e148 r148
          rw [wrs_24 (T := liT T), liT_24] at e148
          exact e_retT (pc := 151) dX3_tell_151 rfl hm (by first | (exfalso; omega) | exact (if_neg (by omega)).symm | (rw [show telZ T a = (telL (T 0) a).length from if_pos (by omega), e148]; unfold telL tllL; ((first | rw [if_pos (show fA (T 0) a 4 < 0 by omega), if_pos (show fA (T 0) a 4 < 0 by omega)] | rw [if_neg (show ¬ fA (T 0) a 4 < 0 by omega), if_neg (show ¬ fA (T 0) a 4 < 0 by omega)]); (first | rw [if_pos (show fA (T 0) a 3 = 1 by omega)] | rw [if_neg (show ¬ fA (T 0) a 3 = 1 by omega)]); simp))) (by first | (exfalso; omega) | exact (if_neg (by omega)).symm | (rw [show telT T a = wrs (liT T) (telL (T 0) a) from if_pos (by omega)]; unfold telL tllL; ((first | rw [if_pos (show fA (T 0) a 4 < 0 by omega), if_pos (show fA (T 0) a 4 < 0 by omega)] | rw [if_neg (show ¬ fA (T 0) a 4 < 0 by omega), if_neg (show ¬ fA (T 0) a 4 < 0 by omega)]); (first | rw [if_pos (show fA (T 0) a 3 = 1 by omega)] | rw [if_neg (show ¬ fA (T 0) a 3 = 1 by omega)]); rfl)))
        · refine r_aload_n (pc := 141) dX3_tell_141 rfl ?_
          refine r_bipush (pc := 142) dX3_tell_142 (by decide) ?_
          refine r_callV (pc := 144) (kb' := 0) dX3_tell_144 kX3_writes q3174 (t_writes hm (by omega) (wpre hl liT_24 (by decide))) hm.1.1 rfl (Nat.le_refl _) (Nat.le_of_ble_eq_true rfl) rfl rfl (Nat.le_of_ble_eq_true rfl) (fun _ _ q => q.elim) (fun _ _ hq => go_V hq (fun h hm1 => ?_))
          have hm := hm.tr hm1
          obtain ⟨hm, hl⟩ := wst hm hl (Nat.le_refl 1)
          refine r_aload_n (pc := 147) dX3_tell_147 rfl ?_
          refine gX3_84 (pc := 148) dX3_tell_148 hm.1.1 rfl ?_; have r148 := hm.r 24 0
          refine go_nm (fun z148 e148 => ?_)
          have r148 := InR_of e148 r148
          rw [wrs_24 (T := liT T), liT_24] at e148
          exact e_retT (pc := 151) dX3_tell_151 rfl hm (by first | (exfalso; omega) | exact (if_neg (by omega)).symm | (rw [show telZ T a = (telL (T 0) a).length from if_pos (by omega), e148]; unfold telL tllL; ((first | rw [if_pos (show fA (T 0) a 4 < 0 by omega), if_pos (show fA (T 0) a 4 < 0 by omega)] | rw [if_neg (show ¬ fA (T 0) a 4 < 0 by omega), if_neg (show ¬ fA (T 0) a 4 < 0 by omega)]); (first | rw [if_pos (show fA (T 0) a 3 = 1 by omega)] | rw [if_neg (show ¬ fA (T 0) a 3 = 1 by omega)]); simp))) (by first | (exfalso; omega) | exact (if_neg (by omega)).symm | (rw [show telT T a = wrs (liT T) (telL (T 0) a) from if_pos (by omega)]; unfold telL tllL; ((first | rw [if_pos (show fA (T 0) a 4 < 0 by omega), if_pos (show fA (T 0) a 4 < 0 by omega)] | rw [if_neg (show ¬ fA (T 0) a 4 < 0 by omega), if_neg (show ¬ fA (T 0) a 4 < 0 by omega)]); (first | rw [if_pos (show fA (T 0) a 3 = 1 by omega)] | rw [if_neg (show ¬ fA (T 0) a 3 = 1 by omega)]); rfl)))
    · refine r_bipush (pc := 94) dX3_tell_94 (by decide) ?_
      refine r_goto (pc := 96) (tgt := 101) dX3_tell_96 (by decide) ?_
      try have hpl := hpl (by omega)
      refine r_callV (pc := 101) (kb' := 0) dX3_tell_101 kX3_writes q3174 (t_writes hm (by omega) (wpre hl liT_24 (by decide))) hm.1.1 rfl (Nat.le_refl _) (Nat.le_of_ble_eq_true rfl) rfl rfl (Nat.le_of_ble_eq_true rfl) (fun _ _ q => q.elim) (fun _ _ hq => go_V hq (fun h hm1 => ?_))
      have hm := hm.tr hm1
      obtain ⟨hm, hl⟩ := wst hm hl (Nat.le_refl 1)
      refine r_aload_n (pc := 104) dX3_tell_104 rfl ?_
      refine r_aload_n (pc := 105) dX3_tell_105 rfl ?_
      refine r_iload_n (pc := 106) dX3_tell_106 rfl ?_
      refine r_iconst (pc := 107) dX3_tell_107 ?_
      refine r_callV (pc := 108) (kb' := 0) dX3_tell_108 kX3_av q2815 (t_av hm (by omega) (by omega)) hm.1.1 rfl (Nat.le_refl _) (Nat.le_of_ble_eq_true rfl) rfl rfl (Nat.le_of_ble_eq_true rfl) (fun _ _ q => q.elim) (fun _ _ hq => go_E hq ?_)
      simp only [wrs_k (show (0 : Nat) ≠ 23 by decide) (show (0 : Nat) ≠ 24 by decide), liT_0]
      refine r_if_ge (pc := 111) (tgt := 122) dX3_tell_111 (by decide) (by first | omega | exact rfB_in _ | exact nz_in _ | exact hm.r _ _) (fun c111 => ?_) (fun c111 => ?_)
      · refine r_aload_n (pc := 122) dX3_tell_122 rfl ?_
        refine r_iload_n (pc := 123) dX3_tell_123 rfl ?_
        refine r_iconst (pc := 124) dX3_tell_124 ?_
        refine r_callV (pc := 125) (kb' := 0) dX3_tell_125 kX3_av q2815 (t_av hm (by omega) (by omega)) hm.1.1 rfl (Nat.le_refl _) (Nat.le_of_ble_eq_true rfl) rfl rfl (Nat.le_of_ble_eq_true rfl) (fun _ _ q => q.elim) (fun _ _ hq => go_E hq ?_)
        simp only [wrs_k (show (0 : Nat) ≠ 23 by decide) (show (0 : Nat) ≠ 24 by decide), liT_0]
        refine r_callV (pc := 128) (kb' := 0) dX3_tell_128 kX3_writesNumber q3170 (t_writesNumber hm (by omega) (wpre hl liT_24 (by decide))) hm.1.1 rfl (Nat.le_refl _) (Nat.le_of_ble_eq_true rfl) rfl rfl (Nat.le_of_ble_eq_true rfl) (fun _ _ q => q.elim) (fun _ _ hq => go_V hq (fun h hm1 => ?_))
        have hm := hm.tr hm1
        obtain ⟨hm, hl⟩ := wst hm hl (numL_le _)
        refine r_aload_n (pc := 131) dX3_tell_131 rfl ?_
        refine r_iload_n (pc := 132) dX3_tell_132 rfl ?_
        refine r_iconst (pc := 133) dX3_tell_133 ?_
        refine r_callV (pc := 134) (kb' := 0) dX3_tell_134 kX3_av q2815 (t_av hm (by omega) (by omega)) hm.1.1 rfl (Nat.le_refl _) (Nat.le_of_ble_eq_true rfl) rfl rfl (Nat.le_of_ble_eq_true rfl) (fun _ _ q => q.elim) (fun _ _ hq => go_E hq ?_)
        simp only [wrs_k (show (0 : Nat) ≠ 23 by decide) (show (0 : Nat) ≠ 24 by decide), liT_0]
        refine r_iconst (pc := 137) dX3_tell_137 ?_
        refine r_icmp_ne (pc := 138) (tgt := 147) dX3_tell_138 (by decide) (by first | omega | exact rfB_in _ | exact nz_in _ | exact hm.r _ _) (by first | omega | exact rfB_in _ | exact nz_in _ | exact hm.r _ _) (fun c138 => ?_) (fun c138 => ?_)
        · refine r_aload_n (pc := 147) dX3_tell_147 rfl ?_
          refine gX3_84 (pc := 148) dX3_tell_148 hm.1.1 rfl ?_; have r148 := hm.r 24 0
          refine go_nm (fun z148 e148 => ?_)
          have r148 := InR_of e148 r148
          rw [wrs_24 (T := liT T), liT_24] at e148
          exact e_retT (pc := 151) dX3_tell_151 rfl hm (by first | (exfalso; omega) | exact (if_neg (by omega)).symm | (rw [show telZ T a = (telL (T 0) a).length from if_pos (by omega), e148]; unfold telL tllL; ((first | rw [if_pos (show fA (T 0) a 4 < 0 by omega), if_pos (show fA (T 0) a 4 < 0 by omega)] | rw [if_neg (show ¬ fA (T 0) a 4 < 0 by omega), if_neg (show ¬ fA (T 0) a 4 < 0 by omega)]); (first | rw [if_pos (show fA (T 0) a 3 = 1 by omega)] | rw [if_neg (show ¬ fA (T 0) a 3 = 1 by omega)]); simp))) (by first | (exfalso; omega) | exact (if_neg (by omega)).symm | (rw [show telT T a = wrs (liT T) (telL (T 0) a) from if_pos (by omega)]; unfold telL tllL; ((first | rw [if_pos (show fA (T 0) a 4 < 0 by omega), if_pos (show fA (T 0) a 4 < 0 by omega)] | rw [if_neg (show ¬ fA (T 0) a 4 < 0 by omega), if_neg (show ¬ fA (T 0) a 4 < 0 by omega)]); (first | rw [if_pos (show fA (T 0) a 3 = 1 by omega)] | rw [if_neg (show ¬ fA (T 0) a 3 = 1 by omega)]); rfl)))
        · refine r_aload_n (pc := 141) dX3_tell_141 rfl ?_
          refine r_bipush (pc := 142) dX3_tell_142 (by decide) ?_
          refine r_callV (pc := 144) (kb' := 0) dX3_tell_144 kX3_writes q3174 (t_writes hm (by omega) (wpre hl liT_24 (by decide))) hm.1.1 rfl (Nat.le_refl _) (Nat.le_of_ble_eq_true rfl) rfl rfl (Nat.le_of_ble_eq_true rfl) (fun _ _ q => q.elim) (fun _ _ hq => go_V hq (fun h hm1 => ?_))
          have hm := hm.tr hm1
          obtain ⟨hm, hl⟩ := wst hm hl (Nat.le_refl 1)
          refine r_aload_n (pc := 147) dX3_tell_147 rfl ?_
          refine gX3_84 (pc := 148) dX3_tell_148 hm.1.1 rfl ?_; have r148 := hm.r 24 0
          refine go_nm (fun z148 e148 => ?_)
          have r148 := InR_of e148 r148
          rw [wrs_24 (T := liT T), liT_24] at e148
          exact e_retT (pc := 151) dX3_tell_151 rfl hm (by first | (exfalso; omega) | exact (if_neg (by omega)).symm | (rw [show telZ T a = (telL (T 0) a).length from if_pos (by omega), e148]; unfold telL tllL; ((first | rw [if_pos (show fA (T 0) a 4 < 0 by omega), if_pos (show fA (T 0) a 4 < 0 by omega)] | rw [if_neg (show ¬ fA (T 0) a 4 < 0 by omega), if_neg (show ¬ fA (T 0) a 4 < 0 by omega)]); (first | rw [if_pos (show fA (T 0) a 3 = 1 by omega)] | rw [if_neg (show ¬ fA (T 0) a 3 = 1 by omega)]); simp))) (by first | (exfalso; omega) | exact (if_neg (by omega)).symm | (rw [show telT T a = wrs (liT T) (telL (T 0) a) from if_pos (by omega)]; unfold telL tllL; ((first | rw [if_pos (show fA (T 0) a 4 < 0 by omega), if_pos (show fA (T 0) a 4 < 0 by omega)] | rw [if_neg (show ¬ fA (T 0) a 4 < 0 by omega), if_neg (show ¬ fA (T 0) a 4 < 0 by omega)]); (first | rw [if_pos (show fA (T 0) a 3 = 1 by omega)] | rw [if_neg (show ¬ fA (T 0) a 3 = 1 by omega)]); rfl)))
      · refine r_aload_n (pc := 114) dX3_tell_114 rfl ?_
        refine r_iload_n (pc := 115) dX3_tell_115 rfl ?_
        refine r_callV (pc := 116) (kb' := 0) dX3_tell_116 kX3_placeOf q2859 (t_placeOf hm (by rw [wrs_k (by decide) (by decide), liT_0]; exact hI) (by omega)) hm.1.1 rfl (Nat.le_refl _) (Nat.le_of_ble_eq_true rfl) rfl rfl (Nat.le_of_ble_eq_true rfl) (fun _ _ q => q.elim) (fun _ _ hq => go_E hq ?_)
        simp only [wrs_k (show (0 : Nat) ≠ 23 by decide) (show (0 : Nat) ≠ 24 by decide), liT_0]
        refine r_goto (pc := 119) (tgt := 128) dX3_tell_119 (by decide) ?_
        refine r_callV (pc := 128) (kb' := 0) dX3_tell_128 kX3_writesNumber q3170 (t_writesNumber hm (by omega) (wpre hl liT_24 (by decide))) hm.1.1 rfl (Nat.le_refl _) (Nat.le_of_ble_eq_true rfl) rfl rfl (Nat.le_of_ble_eq_true rfl) (fun _ _ q => q.elim) (fun _ _ hq => go_V hq (fun h hm1 => ?_))
        have hm := hm.tr hm1
        obtain ⟨hm, hl⟩ := wst hm hl (numL_le _)
        refine r_aload_n (pc := 131) dX3_tell_131 rfl ?_
        refine r_iload_n (pc := 132) dX3_tell_132 rfl ?_
        refine r_iconst (pc := 133) dX3_tell_133 ?_
        refine r_callV (pc := 134) (kb' := 0) dX3_tell_134 kX3_av q2815 (t_av hm (by omega) (by omega)) hm.1.1 rfl (Nat.le_refl _) (Nat.le_of_ble_eq_true rfl) rfl rfl (Nat.le_of_ble_eq_true rfl) (fun _ _ q => q.elim) (fun _ _ hq => go_E hq ?_)
        simp only [wrs_k (show (0 : Nat) ≠ 23 by decide) (show (0 : Nat) ≠ 24 by decide), liT_0]
        refine r_iconst (pc := 137) dX3_tell_137 ?_
        refine r_icmp_ne (pc := 138) (tgt := 147) dX3_tell_138 (by decide) (by first | omega | exact rfB_in _ | exact nz_in _ | exact hm.r _ _) (by first | omega | exact rfB_in _ | exact nz_in _ | exact hm.r _ _) (fun c138 => ?_) (fun c138 => ?_)
        · refine r_aload_n (pc := 147) dX3_tell_147 rfl ?_
          refine gX3_84 (pc := 148) dX3_tell_148 hm.1.1 rfl ?_; have r148 := hm.r 24 0
          refine go_nm (fun z148 e148 => ?_)
          have r148 := InR_of e148 r148
          rw [wrs_24 (T := liT T), liT_24] at e148
          exact e_retT (pc := 151) dX3_tell_151 rfl hm (by first | (exfalso; omega) | exact (if_neg (by omega)).symm | (rw [show telZ T a = (telL (T 0) a).length from if_pos (by omega), e148]; unfold telL tllL; ((first | rw [if_pos (show fA (T 0) a 4 < 0 by omega), if_pos (show fA (T 0) a 4 < 0 by omega)] | rw [if_neg (show ¬ fA (T 0) a 4 < 0 by omega), if_neg (show ¬ fA (T 0) a 4 < 0 by omega)]); (first | rw [if_pos (show fA (T 0) a 3 = 1 by omega)] | rw [if_neg (show ¬ fA (T 0) a 3 = 1 by omega)]); simp))) (by first | (exfalso; omega) | exact (if_neg (by omega)).symm | (rw [show telT T a = wrs (liT T) (telL (T 0) a) from if_pos (by omega)]; unfold telL tllL; ((first | rw [if_pos (show fA (T 0) a 4 < 0 by omega), if_pos (show fA (T 0) a 4 < 0 by omega)] | rw [if_neg (show ¬ fA (T 0) a 4 < 0 by omega), if_neg (show ¬ fA (T 0) a 4 < 0 by omega)]); (first | rw [if_pos (show fA (T 0) a 3 = 1 by omega)] | rw [if_neg (show ¬ fA (T 0) a 3 = 1 by omega)]); rfl)))
        · refine r_aload_n (pc := 141) dX3_tell_141 rfl ?_
          refine r_bipush (pc := 142) dX3_tell_142 (by decide) ?_
          refine r_callV (pc := 144) (kb' := 0) dX3_tell_144 kX3_writes q3174 (t_writes hm (by omega) (wpre hl liT_24 (by decide))) hm.1.1 rfl (Nat.le_refl _) (Nat.le_of_ble_eq_true rfl) rfl rfl (Nat.le_of_ble_eq_true rfl) (fun _ _ q => q.elim) (fun _ _ hq => go_V hq (fun h hm1 => ?_))
          have hm := hm.tr hm1
          obtain ⟨hm, hl⟩ := wst hm hl (Nat.le_refl 1)
          refine r_aload_n (pc := 147) dX3_tell_147 rfl ?_
          refine gX3_84 (pc := 148) dX3_tell_148 hm.1.1 rfl ?_; have r148 := hm.r 24 0
          refine go_nm (fun z148 e148 => ?_)
          have r148 := InR_of e148 r148
          rw [wrs_24 (T := liT T), liT_24] at e148
          exact e_retT (pc := 151) dX3_tell_151 rfl hm (by first | (exfalso; omega) | exact (if_neg (by omega)).symm | (rw [show telZ T a = (telL (T 0) a).length from if_pos (by omega), e148]; unfold telL tllL; ((first | rw [if_pos (show fA (T 0) a 4 < 0 by omega), if_pos (show fA (T 0) a 4 < 0 by omega)] | rw [if_neg (show ¬ fA (T 0) a 4 < 0 by omega), if_neg (show ¬ fA (T 0) a 4 < 0 by omega)]); (first | rw [if_pos (show fA (T 0) a 3 = 1 by omega)] | rw [if_neg (show ¬ fA (T 0) a 3 = 1 by omega)]); simp))) (by first | (exfalso; omega) | exact (if_neg (by omega)).symm | (rw [show telT T a = wrs (liT T) (telL (T 0) a) from if_pos (by omega)]; unfold telL tllL; ((first | rw [if_pos (show fA (T 0) a 4 < 0 by omega), if_pos (show fA (T 0) a 4 < 0 by omega)] | rw [if_neg (show ¬ fA (T 0) a 4 < 0 by omega), if_neg (show ¬ fA (T 0) a 4 < 0 by omega)]); (first | rw [if_pos (show fA (T 0) a 3 = 1 by omega)] | rw [if_neg (show ¬ fA (T 0) a 3 = 1 by omega)]); rfl)))
