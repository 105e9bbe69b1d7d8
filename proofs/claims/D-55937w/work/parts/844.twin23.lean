set_option maxRecDepth 100000
theorem t_cannot {G : Gl} {m : Nat} {ad : Nat → Nat} {h0 h : Hp} {T : TM} (hm : TI m ad h0 T h) {k : Int} {c : Cm} (hI : RI (T 0)) (hk : 0 ≤ k ∧ k ≤ 15) (hc : T 16 k = c.1 ∧ T 17 (2 * k) = c.2.1 ∧ T 17 (2 * k + 1) = c.2.2) (h7 : 0 ≤ c.1 ∧ c.1 ≤ 7) : Ct G 6 0 yX3_cannot (Cond.code yX3_cannot cX3_cannot 5 (some .boolean)) [.ref m, .int (iZ k)] h (RT m ad h (rfB (refC (T 0) c)) (cnT T c)) noX := by
  have hm := hm.nw
  have hb := hI.1
  refine Ct.of (own := eM) (nm := "cannot") (by decide +kernel) rfl rfl (L := [some (.ref m), some (.int (iZ k)), none, none, none]) rfl (Nat.le_of_ble_eq_true rfl) rfl ?_
  refine r_iconst (pc := 0) dX3_cannot_0 ?_
  refine r_istore_n (pc := 1) (L' := [_, _, _, _, _]) dX3_cannot_1 rfl ?_
  refine r_aload_n (pc := 2) dX3_cannot_2 rfl ?_
  refine gX3_63 (pc := 3) dX3_cannot_3 hm.1.1 rfl ?_
  refine r_iconst (pc := 6) dX3_cannot_6 ?_
  refine r_iload_n (pc := 7) dX3_cannot_7 rfl ?_
  refine r_imul (pc := 8) dX3_cannot_8 ?_
  refine t_iald (pc := 9) (lim := 64) 17 dX3_cannot_9 hm (by decide) rfl (by first | omega | exact rfB_in _ | exact nz_in _ | exact hm.r _ _) (fun r9 => ?_)
  refine go_nm (fun z9 e9 => ?_)
  have r9 := InR_of e9 r9
  rw [hc.2.1] at e9
  refine r_istore_n (pc := 10) (L' := [_, _, _, _, _]) dX3_cannot_10 rfl ?_
  refine r_aload_n (pc := 11) dX3_cannot_11 rfl ?_
  refine gX3_63 (pc := 12) dX3_cannot_12 hm.1.1 rfl ?_
  refine r_iconst (pc := 15) dX3_cannot_15 ?_
  refine r_iload_n (pc := 16) dX3_cannot_16 rfl ?_
  refine r_imul (pc := 17) dX3_cannot_17 ?_
  refine r_iconst (pc := 18) dX3_cannot_18 ?_
  refine r_iadd (pc := 19) dX3_cannot_19 ?_
  refine t_iald (pc := 20) (lim := 64) 17 dX3_cannot_20 hm (by decide) rfl (by first | omega | exact rfB_in _ | exact nz_in _ | exact hm.r _ _) (fun r20 => ?_)
  refine go_nm (fun z20 e20 => ?_)
  have r20 := InR_of e20 r20
  rw [hc.2.2] at e20
  refine r_istore (pc := 21) (L' := [_, _, _, _, _]) dX3_cannot_21 rfl ?_
  refine r_aload_n (pc := 23) dX3_cannot_23 rfl ?_
  refine gX3_60 (pc := 24) dX3_cannot_24 hm.1.1 rfl ?_
  refine r_iload_n (pc := 27) dX3_cannot_27 rfl ?_
  refine t_iald (pc := 28) (lim := 32) 16 dX3_cannot_28 hm (by decide) rfl (by first | omega | exact rfB_in _ | exact nz_in _ | exact hm.r _ _) (fun r28 => ?_)
  refine go_nm (fun z28 e28 => ?_)
  have r28 := InR_of e28 r28
  rw [hc.1] at e28
  by_cases w29_0 : z28 = 0
  · refine r_tableIn (pc := 29) (off := 43) (tgt := 72) dX3_cannot_29 (by omega) (by omega) (by omega) (by rw [w29_0]; rfl) (by decide) ?_
    have eC : refC (T 0) c = refClay (T 0) z9 z20 := (by unfold refC; rw [if_pos (by omega), e9, e20])
    have eF : efC (T 0) c = cmR (T 0) z9 z20 := (by unfold efC; rw [if_pos (by omega), e9, e20])
    refine r_aload_n (pc := 72) dX3_cannot_72 rfl ?_
    refine r_iload_n (pc := 73) dX3_cannot_73 rfl ?_
    refine r_iload (pc := 74) dX3_cannot_74 rfl ?_
    refine r_callV (pc := 76) (kb' := 0) dX3_cannot_76 kX3_isRefusedClay q2790 (t_isRefusedClay hm hI (by omega) (by omega)) hm.1.1 rfl (Nat.le_refl _) (Nat.le_of_ble_eq_true rfl) rfl rfl (Nat.le_of_ble_eq_true rfl) (fun _ _ q => q.elim) (fun _ _ hq => go_T hq (fun h hm1 => ?_))
    have hm := hm.tr hm1
    rcases rf_cases (refClay (T 0) z9 z20) with ho | ⟨p, ho⟩
    · have hm := hm.to (bdO_none ho)
      refine go_z (rfB_none ho) ?_
      have hr := refClay_n ho
      refine r_if_eq (pc := 79) (tgt := 84) dX3_cannot_79 (by decide) (by decide) (fun _ => ?_) (fun q => absurd (by decide) q)
      refine r_aload_n (pc := 84) dX3_cannot_84 rfl ?_
      refine r_iload_n (pc := 85) dX3_cannot_85 rfl ?_
      refine r_iload (pc := 86) dX3_cannot_86 rfl ?_
      refine r_callV (pc := 88) (kb' := 0) dX3_cannot_88 kX3_comes q2827 (t_comes hm hI (by omega) (by omega) (by omega)) hm.1.1 rfl (Nat.le_refl _) (Nat.le_of_ble_eq_true rfl) rfl rfl (Nat.le_of_ble_eq_true rfl) (fun _ _ q => q.elim) (fun _ _ hq => go_T hq (fun h hm1 => ?_))
      have hm := hm.tr hm1
      refine r_istore_n (pc := 91) (L' := [_, _, _, _, _]) dX3_cannot_91 rfl ?_
      refine r_iconst (pc := 92) dX3_cannot_92 ?_
      exact e_retTB (pc := 93) dX3_cannot_93 rfl (by first | (left; rfl) | (right; rfl) | exact rfB_01 _ | omega) hm (by rw [eC, ho]; rfl) (by first | exact (cnT_s (eC.trans ho)).symm | exact (cnT_n (eC.trans ho) eF).symm)
    · have hm := hm.to (bdO_some ho)
      refine go_z (rfB_some ho) ?_
      refine r_if_eq (pc := 79) (tgt := 84) dX3_cannot_79 (by decide) (by decide) (fun q => absurd q (by decide)) (fun _ => ?_)
      refine r_iconst (pc := 82) dX3_cannot_82 ?_
      exact e_retTB (pc := 83) dX3_cannot_83 rfl (by first | (left; rfl) | (right; rfl) | exact rfB_01 _ | omega) hm (by rw [eC, ho]; rfl) (by first | exact (cnT_s (eC.trans ho)).symm | exact (cnT_n (eC.trans ho) eF).symm)
  by_cases w29_1 : z28 = 1
  · refine r_tableIn (pc := 29) (off := 65) (tgt := 94) dX3_cannot_29 (by omega) (by omega) (by omega) (by rw [w29_1]; rfl) (by decide) ?_
    have eC : refC (T 0) c = refGlaze (T 0) z9 := (by unfold refC; rw [if_neg (by omega), if_pos (by omega), e9])
    have eF : efC (T 0) c = uA (T 0) z9 1 (fA (T 0) z9 1 + 1) := (by unfold efC; rw [if_neg (by omega), if_pos (by omega), e9])
    refine r_aload_n (pc := 94) dX3_cannot_94 rfl ?_
    refine r_iload_n (pc := 95) dX3_cannot_95 rfl ?_
    refine r_callV (pc := 96) (kb' := 0) dX3_cannot_96 kX3_isRefusedGlaze q2843 (t_isRefusedGlaze hm hI (by omega)) hm.1.1 rfl (Nat.le_refl _) (Nat.le_of_ble_eq_true rfl) rfl rfl (Nat.le_of_ble_eq_true rfl) (fun _ _ q => q.elim) (fun _ _ hq => go_T hq (fun h hm1 => ?_))
    have hm := hm.tr hm1
    rcases rf_cases (refGlaze (T 0) z9) with ho | ⟨p, ho⟩
    · have hm := hm.to (bdO_none ho)
      refine go_z (rfB_none ho) ?_
      have hr := refGlaze_n ho
      refine r_if_eq (pc := 99) (tgt := 104) dX3_cannot_99 (by decide) (by decide) (fun _ => ?_) (fun q => absurd (by decide) q)
      refine r_aload_n (pc := 104) dX3_cannot_104 rfl ?_
      refine r_iload_n (pc := 105) dX3_cannot_105 rfl ?_
      refine r_callV (pc := 106) (kb' := 0) dX3_cannot_106 kX3_glazes q2863 (t_glazes hm hI (by omega)) hm.1.1 rfl (Nat.le_refl _) (Nat.le_of_ble_eq_true rfl) rfl rfl (Nat.le_of_ble_eq_true rfl) (fun _ _ q => q.elim) (fun _ _ hq => go_T hq (fun h hm1 => ?_))
      have hm := hm.tr hm1
      refine r_istore_n (pc := 109) (L' := [_, _, _, _, _]) dX3_cannot_109 rfl ?_
      refine r_iconst (pc := 110) dX3_cannot_110 ?_
      exact e_retTB (pc := 111) dX3_cannot_111 rfl (by first | (left; rfl) | (right; rfl) | exact rfB_01 _ | omega) hm (by rw [eC, ho]; rfl) (by first | exact (cnT_s (eC.trans ho)).symm | exact (cnT_n (eC.trans ho) eF).symm)
    · have hm := hm.to (bdO_some ho)
      refine go_z (rfB_some ho) ?_
      refine r_if_eq (pc := 99) (tgt := 104) dX3_cannot_99 (by decide) (by decide) (fun q => absurd q (by decide)) (fun _ => ?_)
      refine r_iconst (pc := 102) dX3_cannot_102 ?_
      exact e_retTB (pc := 103) dX3_cannot_103 rfl (by first | (left; rfl) | (right; rfl) | exact rfB_01 _ | omega) hm (by rw [eC, ho]; rfl) (by first | exact (cnT_s (eC.trans ho)).symm | exact (cnT_n (eC.trans ho) eF).symm)
  by_cases w29_2 : z28 = 2
  · refine r_tableIn (pc := 29) (off := 83) (tgt := 112) dX3_cannot_29 (by omega) (by omega) (by omega) (by rw [w29_2]; rfl) (by decide) ?_
    have eC : refC (T 0) c = refShelve (T 0) z9 z20 := (by unfold refC; rw [if_neg (by omega), if_neg (by omega), if_pos (by omega), e9, e20])
    have eF : efC (T 0) c = uA (T 0) z9 4 z20 := (by unfold efC; rw [if_neg (by omega), if_neg (by omega), if_pos (by omega), e9, e20])
    refine r_aload_n (pc := 112) dX3_cannot_112 rfl ?_
    refine r_iload_n (pc := 113) dX3_cannot_113 rfl ?_
    refine r_iload (pc := 114) dX3_cannot_114 rfl ?_
    refine r_callV (pc := 116) (kb' := 0) dX3_cannot_116 kX3_isRefusedShelve q2871 (t_isRefusedShelve hm hI (by omega) (by omega)) hm.1.1 rfl (Nat.le_refl _) (Nat.le_of_ble_eq_true rfl) rfl rfl (Nat.le_of_ble_eq_true rfl) (fun _ _ q => q.elim) (fun _ _ hq => go_T hq (fun h hm1 => ?_))
    have hm := hm.tr hm1
    rcases rf_cases (refShelve (T 0) z9 z20) with ho | ⟨p, ho⟩
    · have hm := hm.to (bdO_none ho)
      refine go_z (rfB_none ho) ?_
      have hr := refShelve_n ho
      refine r_if_eq (pc := 119) (tgt := 124) dX3_cannot_119 (by decide) (by decide) (fun _ => ?_) (fun q => absurd (by decide) q)
      refine r_aload_n (pc := 124) dX3_cannot_124 rfl ?_
      refine r_iload_n (pc := 125) dX3_cannot_125 rfl ?_
      refine r_iload (pc := 126) dX3_cannot_126 rfl ?_
      refine r_callV (pc := 128) (kb' := 0) dX3_cannot_128 kX3_shelves q2875 (t_shelves hm hI (by omega) (by omega)) hm.1.1 rfl (Nat.le_refl _) (Nat.le_of_ble_eq_true rfl) rfl rfl (Nat.le_of_ble_eq_true rfl) (fun _ _ q => q.elim) (fun _ _ hq => go_T hq (fun h hm1 => ?_))
      have hm := hm.tr hm1
      refine r_istore_n (pc := 131) (L' := [_, _, _, _, _]) dX3_cannot_131 rfl ?_
      refine r_iconst (pc := 132) dX3_cannot_132 ?_
      exact e_retTB (pc := 133) dX3_cannot_133 rfl (by first | (left; rfl) | (right; rfl) | exact rfB_01 _ | omega) hm (by rw [eC, ho]; rfl) (by first | exact (cnT_s (eC.trans ho)).symm | exact (cnT_n (eC.trans ho) eF).symm)
    · have hm := hm.to (bdO_some ho)
      refine go_z (rfB_some ho) ?_
      refine r_if_eq (pc := 119) (tgt := 124) dX3_cannot_119 (by decide) (by decide) (fun q => absurd q (by decide)) (fun _ => ?_)
      refine r_iconst (pc := 122) dX3_cannot_122 ?_
      exact e_retTB (pc := 123) dX3_cannot_123 rfl (by first | (left; rfl) | (right; rfl) | exact rfB_01 _ | omega) hm (by rw [eC, ho]; rfl) (by first | exact (cnT_s (eC.trans ho)).symm | exact (cnT_n (eC.trans ho) eF).symm)
  by_cases w29_3 : z28 = 3
  · refine r_tableIn (pc := 29) (off := 105) (tgt := 134) dX3_cannot_29 (by omega) (by omega) (by omega) (by rw [w29_3]; rfl) (by decide) ?_
    have eC : refC (T 0) c = refFire (T 0) z9 := (by unfold refC; rw [if_neg (by omega), if_neg (by omega), if_neg (by omega), if_pos (by omega), e9])
    have eF : efC (T 0) c = fiR (T 0) z9 := (by unfold efC; rw [if_neg (by omega), if_neg (by omega), if_neg (by omega), if_pos (by omega), e9])
    refine r_aload_n (pc := 134) dX3_cannot_134 rfl ?_
    refine r_iload_n (pc := 135) dX3_cannot_135 rfl ?_
    refine r_callV (pc := 136) (kb' := 0) dX3_cannot_136 kX3_isRefusedFire q2883 (t_isRefusedFire hm hI (by omega)) hm.1.1 rfl (Nat.le_refl _) (Nat.le_of_ble_eq_true rfl) rfl rfl (Nat.le_of_ble_eq_true rfl) (fun _ _ q => q.elim) (fun _ _ hq => go_T hq (fun h hm1 => ?_))
    have hm := hm.tr hm1
    rcases rf_cases (refFire (T 0) z9) with ho | ⟨p, ho⟩
    · have hm := hm.to (bdO_none ho)
      refine go_z (rfB_none ho) ?_
      have hr := refFire_n ho
      refine r_if_eq (pc := 139) (tgt := 144) dX3_cannot_139 (by decide) (by decide) (fun _ => ?_) (fun q => absurd (by decide) q)
      refine r_aload_n (pc := 144) dX3_cannot_144 rfl ?_
      refine r_iload_n (pc := 145) dX3_cannot_145 rfl ?_
      refine r_callV (pc := 146) (kb' := 0) dX3_cannot_146 kX3_burns q2890 (t_burns hm hI (by omega)) hm.1.1 rfl (Nat.le_refl _) (Nat.le_of_ble_eq_true rfl) rfl rfl (Nat.le_of_ble_eq_true rfl) (fun _ _ q => q.elim) (fun _ _ hq => go_T hq (fun h hm1 => ?_))
      have hm := hm.tr hm1
      refine r_istore_n (pc := 149) (L' := [_, _, _, _, _]) dX3_cannot_149 rfl ?_
      refine r_iconst (pc := 150) dX3_cannot_150 ?_
      exact e_retTB (pc := 151) dX3_cannot_151 rfl (by first | (left; rfl) | (right; rfl) | exact rfB_01 _ | omega) hm (by rw [eC, ho]; rfl) (by first | exact (cnT_s (eC.trans ho)).symm | exact (cnT_n (eC.trans ho) eF).symm)
    · have hm := hm.to (bdO_some ho)
      refine go_z (rfB_some ho) ?_
      refine r_if_eq (pc := 139) (tgt := 144) dX3_cannot_139 (by decide) (by decide) (fun q => absurd q (by decide)) (fun _ => ?_)
      refine r_iconst (pc := 142) dX3_cannot_142 ?_
      exact e_retTB (pc := 143) dX3_cannot_143 rfl (by first | (left; rfl) | (right; rfl) | exact rfB_01 _ | omega) hm (by rw [eC, ho]; rfl) (by first | exact (cnT_s (eC.trans ho)).symm | exact (cnT_n (eC.trans ho) eF).symm)
  by_cases w29_4 : z28 = 4
  · refine r_tableIn (pc := 29) (off := 123) (tgt := 152) dX3_cannot_29 (by omega) (by omega) (by omega) (by rw [w29_4]; rfl) (by decide) ?_
    have eC : refC (T 0) c = refCite (T 0) z9 z20 := (by unfold refC; rw [if_neg (by omega), if_neg (by omega), if_neg (by omega), if_neg (by omega), if_pos (by omega), e9, e20])
    have eF : efC (T 0) c = ciR (T 0) z9 z20 := (by unfold efC; rw [if_neg (by omega), if_neg (by omega), if_neg (by omega), if_neg (by omega), if_pos (by omega), e9, e20])
    refine r_aload_n (pc := 152) dX3_cannot_152 rfl ?_
    refine r_iload_n (pc := 153) dX3_cannot_153 rfl ?_
    refine r_iload (pc := 154) dX3_cannot_154 rfl ?_
    refine r_callV (pc := 156) (kb' := 0) dX3_cannot_156 kX3_isRefusedCite q2929 (t_isRefusedCite hm hI (by omega) (by omega)) hm.1.1 rfl (Nat.le_refl _) (Nat.le_of_ble_eq_true rfl) rfl rfl (Nat.le_of_ble_eq_true rfl) (fun _ _ q => q.elim) (fun _ _ hq => go_T hq (fun h hm1 => ?_))
    have hm := hm.tr hm1
    rcases rf_cases (refCite (T 0) z9 z20) with ho | ⟨p, ho⟩
    · have hm := hm.to (bdO_none ho)
      refine go_z (rfB_none ho) ?_
      have hr := refCite_n ho
      refine r_if_eq (pc := 159) (tgt := 164) dX3_cannot_159 (by decide) (by decide) (fun _ => ?_) (fun q => absurd (by decide) q)
      refine r_aload_n (pc := 164) dX3_cannot_164 rfl ?_
      refine r_iload_n (pc := 165) dX3_cannot_165 rfl ?_
      refine r_iload (pc := 166) dX3_cannot_166 rfl ?_
      refine r_callV (pc := 168) (kb' := 0) dX3_cannot_168 kX3_cites q2945 (t_cites hm hI (by omega) (by omega)) hm.1.1 rfl (Nat.le_refl _) (Nat.le_of_ble_eq_true rfl) rfl rfl (Nat.le_of_ble_eq_true rfl) (fun _ _ q => q.elim) (fun _ _ hq => go_T hq (fun h hm1 => ?_))
      have hm := hm.tr hm1
      refine r_istore_n (pc := 171) (L' := [_, _, _, _, _]) dX3_cannot_171 rfl ?_
      refine r_iconst (pc := 172) dX3_cannot_172 ?_
      exact e_retTB (pc := 173) dX3_cannot_173 rfl (by first | (left; rfl) | (right; rfl) | exact rfB_01 _ | omega) hm (by rw [eC, ho]; rfl) (by first | exact (cnT_s (eC.trans ho)).symm | exact (cnT_n (eC.trans ho) eF).symm)
    · have hm := hm.to (bdO_some ho)
      refine go_z (rfB_some ho) ?_
      refine r_if_eq (pc := 159) (tgt := 164) dX3_cannot_159 (by decide) (by decide) (fun q => absurd q (by decide)) (fun _ => ?_)
      refine r_iconst (pc := 162) dX3_cannot_162 ?_
      exact e_retTB (pc := 163) dX3_cannot_163 rfl (by first | (left; rfl) | (right; rfl) | exact rfB_01 _ | omega) hm (by rw [eC, ho]; rfl) (by first | exact (cnT_s (eC.trans ho)).symm | exact (cnT_n (eC.trans ho) eF).symm)
  by_cases w29_5 : z28 = 5
  · refine r_tableIn (pc := 29) (off := 145) (tgt := 174) dX3_cannot_29 (by omega) (by omega) (by omega) (by rw [w29_5]; rfl) (by decide) ?_
    have eC : refC (T 0) c = refRatify (T 0) z9 := (by unfold refC; rw [if_neg (by omega), if_neg (by omega), if_neg (by omega), if_neg (by omega), if_neg (by omega), if_pos (by omega), e9])
    have eF : efC (T 0) c = raR (T 0) z9 := (by unfold efC; rw [if_neg (by omega), if_neg (by omega), if_neg (by omega), if_neg (by omega), if_neg (by omega), if_pos (by omega), e9])
    refine r_aload_n (pc := 174) dX3_cannot_174 rfl ?_
    refine r_iload_n (pc := 175) dX3_cannot_175 rfl ?_
    refine r_callV (pc := 176) (kb' := 0) dX3_cannot_176 kX3_isRefusedRatify q2956 (t_isRefusedRatify hm hI (by omega)) hm.1.1 rfl (Nat.le_refl _) (Nat.le_of_ble_eq_true rfl) rfl rfl (Nat.le_of_ble_eq_true rfl) (fun _ _ q => q.elim) (fun _ _ hq => go_T hq (fun h hm1 => ?_))
    have hm := hm.tr hm1
    rcases rf_cases (refRatify (T 0) z9) with ho | ⟨p, ho⟩
    · have hm := hm.to (bdO_none ho)
      refine go_z (rfB_none ho) ?_
      have hr := refRatify_n ho
      refine r_if_eq (pc := 179) (tgt := 184) dX3_cannot_179 (by decide) (by decide) (fun _ => ?_) (fun q => absurd (by decide) q)
      refine r_aload_n (pc := 184) dX3_cannot_184 rfl ?_
      refine r_iload_n (pc := 185) dX3_cannot_185 rfl ?_
      refine r_callV (pc := 186) (kb' := 0) dX3_cannot_186 kX3_ratifies q2960 (t_ratifies hm hI (by omega)) hm.1.1 rfl (Nat.le_refl _) (Nat.le_of_ble_eq_true rfl) rfl rfl (Nat.le_of_ble_eq_true rfl) (fun _ _ q => q.elim) (fun _ _ hq => go_T hq (fun h hm1 => ?_))
      have hm := hm.tr hm1
      refine r_istore_n (pc := 189) (L' := [_, _, _, _, _]) dX3_cannot_189 rfl ?_
      refine r_iconst (pc := 190) dX3_cannot_190 ?_
      exact e_retTB (pc := 191) dX3_cannot_191 rfl (by first | (left; rfl) | (right; rfl) | exact rfB_01 _ | omega) hm (by rw [eC, ho]; rfl) (by first | exact (cnT_s (eC.trans ho)).symm | exact (cnT_n (eC.trans ho) eF).symm)
    · have hm := hm.to (bdO_some ho)
      refine go_z (rfB_some ho) ?_
      refine r_if_eq (pc := 179) (tgt := 184) dX3_cannot_179 (by decide) (by decide) (fun q => absurd q (by decide)) (fun _ => ?_)
      refine r_iconst (pc := 182) dX3_cannot_182 ?_
      exact e_retTB (pc := 183) dX3_cannot_183 rfl (by first | (left; rfl) | (right; rfl) | exact rfB_01 _ | omega) hm (by rw [eC, ho]; rfl) (by first | exact (cnT_s (eC.trans ho)).symm | exact (cnT_n (eC.trans ho) eF).symm)
  by_cases w29_6 : z28 = 6
  · refine r_tableIn (pc := 29) (off := 163) (tgt := 192) dX3_cannot_29 (by omega) (by omega) (by omega) (by rw [w29_6]; rfl) (by decide) ?_
    have eC : refC (T 0) c = refRepeal (T 0) z9 z20 := (by unfold refC; rw [if_neg (by omega), if_neg (by omega), if_neg (by omega), if_neg (by omega), if_neg (by omega), if_neg (by omega), if_pos (by omega), e9, e20])
    have eF : efC (T 0) c = reR (T 0) z9 z20 := (by unfold efC; rw [if_neg (by omega), if_neg (by omega), if_neg (by omega), if_neg (by omega), if_neg (by omega), if_neg (by omega), if_pos (by omega), e9, e20])
    refine r_aload_n (pc := 192) dX3_cannot_192 rfl ?_
    refine r_iload_n (pc := 193) dX3_cannot_193 rfl ?_
    refine r_iload (pc := 194) dX3_cannot_194 rfl ?_
    refine r_callV (pc := 196) (kb' := 0) dX3_cannot_196 kX3_isRefusedRepeal q2968 (t_isRefusedRepeal hm hI (by omega) (by omega)) hm.1.1 rfl (Nat.le_refl _) (Nat.le_of_ble_eq_true rfl) rfl rfl (Nat.le_of_ble_eq_true rfl) (fun _ _ q => q.elim) (fun _ _ hq => go_T hq (fun h hm1 => ?_))
    have hm := hm.tr hm1
    rcases rf_cases (refRepeal (T 0) z9 z20) with ho | ⟨p, ho⟩
    · have hm := hm.to (bdO_none ho)
      refine go_z (rfB_none ho) ?_
      have hr := refRepeal_n ho
      have hp := pl_law hI hr.1 hr.2.2.1
      refine r_if_eq (pc := 199) (tgt := 204) dX3_cannot_199 (by decide) (by decide) (fun _ => ?_) (fun q => absurd (by decide) q)
      refine r_aload_n (pc := 204) dX3_cannot_204 rfl ?_
      refine r_iload_n (pc := 205) dX3_cannot_205 rfl ?_
      refine r_iload (pc := 206) dX3_cannot_206 rfl ?_
      refine r_callV (pc := 208) (kb' := 0) dX3_cannot_208 kX3_repeals q2972 (t_repeals hm hI (by omega) (by omega) ⟨hp.1, hp.2.1⟩) hm.1.1 rfl (Nat.le_refl _) (Nat.le_of_ble_eq_true rfl) rfl rfl (Nat.le_of_ble_eq_true rfl) (fun _ _ q => q.elim) (fun _ _ hq => go_T hq (fun h hm1 => ?_))
      have hm := hm.tr hm1
      refine r_istore_n (pc := 211) (L' := [_, _, _, _, _]) dX3_cannot_211 rfl ?_
      refine r_iconst (pc := 212) dX3_cannot_212 ?_
      exact e_retTB (pc := 213) dX3_cannot_213 rfl (by first | (left; rfl) | (right; rfl) | exact rfB_01 _ | omega) hm (by rw [eC, ho]; rfl) (by first | exact (cnT_s (eC.trans ho)).symm | exact (cnT_n (eC.trans ho) eF).symm)
    · have hm := hm.to (bdO_some ho)
      refine go_z (rfB_some ho) ?_
      refine r_if_eq (pc := 199) (tgt := 204) dX3_cannot_199 (by decide) (by decide) (fun q => absurd q (by decide)) (fun _ => ?_)
      refine r_iconst (pc := 202) dX3_cannot_202 ?_
      exact e_retTB (pc := 203) dX3_cannot_203 rfl (by first | (left; rfl) | (right; rfl) | exact rfB_01 _ | omega) hm (by rw [eC, ho]; rfl) (by first | exact (cnT_s (eC.trans ho)).symm | exact (cnT_n (eC.trans ho) eF).symm)
  refine r_tableOut (pc := 29) (tgt := 214) dX3_cannot_29 (by first | omega | exact rfB_in _ | exact nz_in _ | exact hm.r _ _) (by omega) (by decide) ?_
  have eC : refC (T 0) c = refScrap (T 0) z9 := (by unfold refC; rw [if_neg (by omega), if_neg (by omega), if_neg (by omega), if_neg (by omega), if_neg (by omega), if_neg (by omega), if_neg (by omega), e9])
  have eF : efC (T 0) c = goR (T 0) z9 := (by unfold efC; rw [if_neg (by omega), if_neg (by omega), if_neg (by omega), if_neg (by omega), if_neg (by omega), if_neg (by omega), if_neg (by omega), e9])
  refine r_aload_n (pc := 214) dX3_cannot_214 rfl ?_
  refine r_iload_n (pc := 215) dX3_cannot_215 rfl ?_
  refine r_callV (pc := 216) (kb' := 0) dX3_cannot_216 kX3_isRefusedScrap q2980 (t_isRefusedScrap hm hI (by omega)) hm.1.1 rfl (Nat.le_refl _) (Nat.le_of_ble_eq_true rfl) rfl rfl (Nat.le_of_ble_eq_true rfl) (fun _ _ q => q.elim) (fun _ _ hq => go_T hq (fun h hm1 => ?_))
  have hm := hm.tr hm1
  rcases rf_cases (refScrap (T 0) z9) with ho | ⟨p, ho⟩
  · have hm := hm.to (bdO_none ho)
    refine go_z (rfB_none ho) ?_
    have hr := refScrap_n ho
    refine r_if_eq (pc := 219) (tgt := 224) dX3_cannot_219 (by decide) (by decide) (fun _ => ?_) (fun q => absurd (by decide) q)
    refine r_aload_n (pc := 224) dX3_cannot_224 rfl ?_
    refine r_iload_n (pc := 225) dX3_cannot_225 rfl ?_
    refine r_callV (pc := 226) (kb' := 0) dX3_cannot_226 kX3_scraps q2984 (t_scraps hm hI (by omega)) hm.1.1 rfl (Nat.le_refl _) (Nat.le_of_ble_eq_true rfl) rfl rfl (Nat.le_of_ble_eq_true rfl) (fun _ _ q => q.elim) (fun _ _ hq => go_T hq (fun h hm1 => ?_))
    have hm := hm.tr hm1
    refine r_istore_n (pc := 229) (L' := [_, _, _, _, _]) dX3_cannot_229 rfl ?_
    refine r_iconst (pc := 230) dX3_cannot_230 ?_
    exact e_retTB (pc := 231) dX3_cannot_231 rfl (by first | (left; rfl) | (right; rfl) | exact rfB_01 _ | omega) hm (by rw [eC, ho]; rfl) (by first | exact (cnT_s (eC.trans ho)).symm | exact (cnT_n (eC.trans ho) eF).symm)
  · have hm := hm.to (bdO_some ho)
    refine go_z (rfB_some ho) ?_
    refine r_if_eq (pc := 219) (tgt := 224) dX3_cannot_219 (by decide) (by decide) (fun q => absurd q (by decide)) (fun _ => ?_)
    refine r_iconst (pc := 222) dX3_cannot_222 ?_
    exact e_retTB (pc := 223) dX3_cannot_223 rfl (by first | (left; rfl) | (right; rfl) | exact rfB_01 _ | omega) hm (by rw [eC, ho]; rfl) (by first | exact (cnT_s (eC.trans ho)).symm | exact (cnT_n (eC.trans ho) eF).symm)
