set_option maxRecDepth 100000
theorem t_scraps {G : Gl} {m : Nat} {ad : Nat → Nat} {h0 h : Hp} {T : TM} (hm : TI m ad h0 T h) {a : Int} (hI : RI (T 0)) (ha : 0 ≤ a ∧ a < T 0 0) : Ct G 3 0 yX3_scraps (Cond.code yX3_scraps cX3_scraps 2 (some .int)) [.ref m, .int (iZ a)] h (RT m ad h (T 0 0 - 1) (uT T (goR (T 0) a))) noX := by
  have hm := hm.nw
  have hb := hI.1
  refine Ct.of (own := eM) (nm := "scraps") (by decide +kernel) rfl rfl (L := [some (.ref m), some (.int (iZ a))]) rfl (Nat.le_of_ble_eq_true rfl) rfl ?_
  refine r_aload_n (pc := 0) dX3_scraps_0 rfl ?_
  refine r_iload_n (pc := 1) dX3_scraps_1 rfl ?_
  refine r_callV (pc := 2) (kb' := 0) dX3_scraps_2 kX3_goes q2917 (t_goes hm hI (by omega)) hm.1.1 rfl (Nat.le_refl _) (Nat.le_of_ble_eq_true rfl) rfl rfl (Nat.le_of_ble_eq_true rfl) (fun _ _ q => q.elim) (fun _ _ hq => go_V hq (fun h hm1 => ?_))
  have hm := hm.tr hm1
  refine r_aload_n (pc := 5) dX3_scraps_5 rfl ?_
  refine gX3_7 (pc := 6) dX3_scraps_6 hm.1.1 rfl ?_
  refine r_iconst (pc := 9) dX3_scraps_9 ?_
  refine t_iald (pc := 10) (lim := 140) 0 dX3_scraps_10 hm (by decide) rfl (by first | omega | exact rfB_in _ | exact nz_in _ | exact hm.r _ _) (fun r10 => ?_)
  exact e_retT (pc := 11) dX3_scraps_11 rfl hm (by simp [uT, goR]) rfl
theorem t_ratifies {G : Gl} {m : Nat} {ad : Nat → Nat} {h0 h : Hp} {T : TM} (hm : TI m ad h0 T h) {a : Int} (hI : RI (T 0)) (ha : 0 ≤ a ∧ a < T 0 0) : Ct G 2 0 yX3_ratifies (Cond.code yX3_ratifies cX3_ratifies 2 (some .int)) [.ref m, .int (iZ a)] h (RT m ad h (T 0 1 + 1) (uT T (raR (T 0) a))) noX := by
  have hm := hm.nw
  have hb := hI.1
  refine Ct.of (own := eM) (nm := "ratifies") (by decide +kernel) rfl rfl (L := [some (.ref m), some (.int (iZ a))]) rfl (Nat.le_of_ble_eq_true rfl) rfl ?_
  refine r_aload_n (pc := 0) dX3_ratifies_0 rfl ?_
  refine r_iload_n (pc := 1) dX3_ratifies_1 rfl ?_
  refine r_iconst (pc := 2) dX3_ratifies_2 ?_
  refine r_iconst (pc := 3) dX3_ratifies_3 ?_
  refine r_callV (pc := 4) (kb' := 0) dX3_ratifies_4 kX3_la q2831 (t_la hm (by omega) (by omega) (by omega)) hm.1.1 rfl (Nat.le_refl _) (Nat.le_of_ble_eq_true rfl) rfl rfl (Nat.le_of_ble_eq_true rfl) (fun _ _ q => q.elim) (fun _ _ hq => go_V hq (fun h hm1 => ?_))
  have hm := hm.tr hm1
  refine r_aload_n (pc := 7) dX3_ratifies_7 rfl ?_
  refine gX3_7 (pc := 8) dX3_ratifies_8 hm.1.1 rfl ?_
  refine r_bipush (pc := 11) dX3_ratifies_11 (by decide) ?_
  refine r_aload_n (pc := 13) dX3_ratifies_13 rfl ?_
  refine gX3_7 (pc := 14) dX3_ratifies_14 hm.1.1 rfl ?_
  refine r_iconst (pc := 17) dX3_ratifies_17 ?_
  refine t_iald (pc := 18) (lim := 140) 0 dX3_ratifies_18 hm (by decide) rfl (by first | omega | exact rfB_in _ | exact nz_in _ | exact hm.r _ _) (fun r18 => ?_)
  refine go_nm (fun z18 e18 => ?_)
  have r18 := InR_of e18 r18
  have g18 : z18 = T 0 1 := by (rw [e18]; try (simp only [sT, uT]; (repeat' split) <;> first | rfl | omega | (congr 1; omega)))
  refine r_iadd (pc := 19) dX3_ratifies_19 ?_
  refine r_iload_n (pc := 20) dX3_ratifies_20 rfl ?_
  refine t_iast (pc := 21) (lim := 140) 0 dX3_ratifies_21 hm (by decide) rfl (by first | omega | exact rfB_in _ | exact nz_in _ | exact hm.r _ _) (by first | omega | exact rfB_in _ | exact nz_in _ | exact hm.r _ _) (fun h hm => ?_)
  refine r_aload_n (pc := 22) dX3_ratifies_22 rfl ?_
  refine gX3_7 (pc := 23) dX3_ratifies_23 hm.1.1 rfl ?_
  refine r_iconst (pc := 26) dX3_ratifies_26 ?_
  refine r_dup2 (pc := 27) dX3_ratifies_27 rfl rfl ?_
  refine t_iald (pc := 28) (lim := 140) 0 dX3_ratifies_28 hm (by decide) rfl (by first | omega | exact rfB_in _ | exact nz_in _ | exact hm.r _ _) (fun r28 => ?_)
  refine go_nm (fun z28 e28 => ?_)
  have r28 := InR_of e28 r28
  have g28 : z28 = T 0 1 := by (rw [e28]; try (simp only [sT, uT]; (repeat' split) <;> first | rfl | omega | (congr 1; omega)))
  refine r_iconst (pc := 29) dX3_ratifies_29 ?_
  refine r_iadd (pc := 30) dX3_ratifies_30 ?_
  refine t_iast (pc := 31) (lim := 140) 0 dX3_ratifies_31 hm (by decide) rfl (by first | omega | exact rfB_in _ | exact nz_in _ | exact hm.r _ _) (by first | omega | exact rfB_in _ | exact nz_in _ | exact hm.r _ _) (fun h hm => ?_)
  refine r_aload_n (pc := 32) dX3_ratifies_32 rfl ?_
  refine gX3_7 (pc := 33) dX3_ratifies_33 hm.1.1 rfl ?_
  refine r_bipush (pc := 36) dX3_ratifies_36 (by decide) ?_
  refine r_dup2 (pc := 38) dX3_ratifies_38 rfl rfl ?_
  refine t_iald (pc := 39) (lim := 140) 0 dX3_ratifies_39 hm (by decide) rfl (by first | omega | exact rfB_in _ | exact nz_in _ | exact hm.r _ _) (fun r39 => ?_)
  refine go_nm (fun z39 e39 => ?_)
  have r39 := InR_of e39 r39
  have g39 : z39 = T 0 8 := by (rw [e39]; try (simp only [sT, uT]; (repeat' split) <;> first | rfl | omega | (congr 1; omega)))
  refine r_iconst (pc := 40) dX3_ratifies_40 ?_
  refine r_iadd (pc := 41) dX3_ratifies_41 ?_
  refine t_iastN (pc := 42) (lim := 140) 0 dX3_ratifies_42 hm (by decide) rfl (by first | omega | exact rfB_in _ | exact nz_in _ | exact hm.r _ _) (fun h hm => ?_)
  refine r_aload_n (pc := 43) dX3_ratifies_43 rfl ?_
  refine gX3_7 (pc := 44) dX3_ratifies_44 hm.1.1 rfl ?_
  refine r_iconst (pc := 47) dX3_ratifies_47 ?_
  refine t_iald (pc := 48) (lim := 140) 0 dX3_ratifies_48 hm (by decide) rfl (by first | omega | exact rfB_in _ | exact nz_in _ | exact hm.r _ _) (fun r48 => ?_)
  refine go_nm (fun z48 e48 => ?_)
  have r48 := InR_of e48 r48
  have g48 : z48 = T 0 1 + 1 := by rw [e48, sT_i (by omega), sT_s, g28]
  exact e_retT (pc := 49) dX3_ratifies_49 rfl hm g48 (by rw [g18, g28, g39]; exact (by funext k j; simp only [sT, uT, raR]; (repeat' split) <;> (subst_vars; first | rfl | omega | (congr 1; omega) | (simp_all; done) | (simp_all; omega))))
theorem t_repeals {G : Gl} {m : Nat} {ad : Nat → Nat} {h0 h9 : Hp} {T9 : TM} (hm : TI m ad h0 T9 h9) {a s : Int} (hI : RI (T9 0)) (ha : 0 ≤ a ∧ a < T9 0 0) (hs : InR s) (hp : 0 ≤ plOf (T9 0) a ∧ plOf (T9 0) a < T9 0 1) : Ct G 2 0 yX3_repeals (Cond.code yX3_repeals cX3_repeals 5 (some .int)) [.ref m, .int (iZ a), .int (iZ s)] h9 (RT m ad h9 (T9 0 1 - 1) (uT T9 (reR (T9 0) a s))) noX := by
  have hm := hm.nw
  have hb := hI.1
  refine Ct.of (own := eM) (nm := "repeals") (by decide +kernel) rfl rfl (L := [some (.ref m), some (.int (iZ a)), some (.int (iZ s)), none, none]) rfl (Nat.le_of_ble_eq_true rfl) rfl ?_
  refine r_aload_n (pc := 0) dX3_repeals_0 rfl ?_
  refine r_iload_n (pc := 1) dX3_repeals_1 rfl ?_
  refine r_callV (pc := 2) (kb' := 0) dX3_repeals_2 kX3_placeOf q2859 (t_placeOf hm hI (by omega)) hm.1.1 rfl (Nat.le_refl _) (Nat.le_of_ble_eq_true rfl) rfl rfl (Nat.le_of_ble_eq_true rfl) (fun _ _ q => q.elim) (fun _ _ hq => go_E hq ?_)
  refine r_istore_n (pc := 5) (L' := [_, _, _, _, _]) dX3_repeals_5 rfl ?_
  refine r_aload_n (pc := 6) dX3_repeals_6 rfl ?_
  refine gX3_7 (pc := 7) dX3_repeals_7 hm.1.1 rfl ?_
  refine r_iconst (pc := 10) dX3_repeals_10 ?_
  refine r_dup2 (pc := 11) dX3_repeals_11 rfl rfl ?_
  refine t_iald (pc := 12) (lim := 140) 0 dX3_repeals_12 hm (by decide) rfl (by first | omega | exact rfB_in _ | exact nz_in _ | exact hm.r _ _) (fun r12 => ?_)
  refine go_nm (fun z12 e12 => ?_)
  have r12 := InR_of e12 r12
  have g12 : z12 = T9 0 1 := by (rw [e12]; try (simp only [sT, uT]; (repeat' split) <;> first | rfl | omega | (congr 1; omega)))
  refine r_iconst (pc := 13) dX3_repeals_13 ?_
  refine r_isub (pc := 14) dX3_repeals_14 ?_
  refine t_iast (pc := 15) (lim := 140) 0 dX3_repeals_15 hm (by decide) rfl (by first | omega | exact rfB_in _ | exact nz_in _ | exact hm.r _ _) (by first | omega | exact rfB_in _ | exact nz_in _ | exact hm.r _ _) (fun h hm => ?_)
  refine r_iload_n (pc := 16) dX3_repeals_16 rfl ?_
  refine r_istore (pc := 17) (L' := [_, _, _, _, _]) dX3_repeals_17 rfl ?_
  have loop19 : ∀ (n : Nat) (z : Int) (h : Hp) (T : TM), TI m ad h9 T h → (plOf (T9 0) a ≤ z ∧ z ≤ T9 0 1 - 1) → T = rlT T9 (plOf (T9 0) a) z → T 0 1 = T9 0 1 - 1 → T9 0 1 - z < n → Go G eM cX3_repeals (5, some .int, "repeals", []) 2 0 (RT m ad h9 (T9 0 1 - 1) (uT T9 (reR (T9 0) a s))) noX 0 h 19 [some (.ref m), some (.int (iZ a)), some (.int (iZ s)), some (.int (iZ (plOf (T9 0) a))), some (.int (iZ z))] [] := by
    intro n
    induction n with
    | zero => intro z h T hm hz hT h1 hn; omega
    | succ n ih19 =>
      intro z h T hm hz hT h1 hn
      refine r_iload (pc := 19) dX3_repeals_19 rfl ?_
      refine r_aload_n (pc := 21) dX3_repeals_21 rfl ?_
      refine gX3_7 (pc := 22) dX3_repeals_22 hm.1.1 rfl ?_
      refine r_iconst (pc := 25) dX3_repeals_25 ?_
      refine t_iald (pc := 26) (lim := 140) 0 dX3_repeals_26 hm (by decide) rfl (by first | omega | exact rfB_in _ | exact nz_in _ | exact hm.r _ _) (fun r26 => ?_)
      refine r_icmp_ge (pc := 27) (tgt := 58) dX3_repeals_27 (by decide) (by first | omega | exact rfB_in _ | exact nz_in _ | exact hm.r _ _) (by first | omega | exact rfB_in _ | exact nz_in _ | exact hm.r _ _) (fun c27 => ?_) (fun c27 => ?_)
      · refine r_aload_n (pc := 58) dX3_repeals_58 rfl ?_
        refine gX3_7 (pc := 59) dX3_repeals_59 hm.1.1 rfl ?_
        refine r_bipush (pc := 62) dX3_repeals_62 (by decide) ?_
        refine r_aload_n (pc := 64) dX3_repeals_64 rfl ?_
        refine gX3_7 (pc := 65) dX3_repeals_65 hm.1.1 rfl ?_
        refine r_iconst (pc := 68) dX3_repeals_68 ?_
        refine t_iald (pc := 69) (lim := 140) 0 dX3_repeals_69 hm (by decide) rfl (by first | omega | exact rfB_in _ | exact nz_in _ | exact hm.r _ _) (fun r69 => ?_)
        refine go_nm (fun z69 e69 => ?_)
        have r69 := InR_of e69 r69
        have g69 : z69 = T9 0 1 - 1 := by rw [e69, h1]
        refine r_iadd (pc := 70) dX3_repeals_70 ?_
        refine r_iconst (pc := 71) dX3_repeals_71 ?_
        refine t_iast (pc := 72) (lim := 140) 0 dX3_repeals_72 hm (by decide) rfl (by first | omega | exact rfB_in _ | exact nz_in _ | exact hm.r _ _) (by first | omega | exact rfB_in _ | exact nz_in _ | exact hm.r _ _) (fun h hm => ?_)
        refine r_aload_n (pc := 73) dX3_repeals_73 rfl ?_
        refine gX3_7 (pc := 74) dX3_repeals_74 hm.1.1 rfl ?_
        refine r_bipush (pc := 77) dX3_repeals_77 (by decide) ?_
        refine r_dup2 (pc := 79) dX3_repeals_79 rfl rfl ?_
        refine t_iald (pc := 80) (lim := 140) 0 dX3_repeals_80 hm (by decide) rfl (by first | omega | exact rfB_in _ | exact nz_in _ | exact hm.r _ _) (fun r80 => ?_)
        refine go_nm (fun z80 e80 => ?_)
        have r80 := InR_of e80 r80
        have g80 : z80 = T9 0 9 := by (rw [e80, hT]; simp only [sT, rlT]; (repeat' split) <;> first | rfl | omega)
        refine r_iconst (pc := 81) dX3_repeals_81 ?_
        refine r_iadd (pc := 82) dX3_repeals_82 ?_
        refine t_iastN (pc := 83) (lim := 140) 0 dX3_repeals_83 hm (by decide) rfl (by first | omega | exact rfB_in _ | exact nz_in _ | exact hm.r _ _) (fun h hm => ?_)
        refine r_aload_n (pc := 84) dX3_repeals_84 rfl ?_
        refine r_iload_n (pc := 85) dX3_repeals_85 rfl ?_
        refine r_iconst (pc := 86) dX3_repeals_86 ?_
        refine r_iload_n (pc := 87) dX3_repeals_87 rfl ?_
        refine r_callV (pc := 88) (kb' := 0) dX3_repeals_88 kX3_la q2831 (t_la hm (by omega) (by omega) (by omega)) hm.1.1 rfl (Nat.le_refl _) (Nat.le_of_ble_eq_true rfl) rfl rfl (Nat.le_of_ble_eq_true rfl) (fun _ _ q => q.elim) (fun _ _ hq => go_V hq (fun h hm1 => ?_))
        have hm := hm.tr hm1
        refine r_aload_n (pc := 91) dX3_repeals_91 rfl ?_
        refine r_iload_n (pc := 92) dX3_repeals_92 rfl ?_
        refine r_iconst (pc := 93) dX3_repeals_93 ?_
        refine r_iconst (pc := 94) dX3_repeals_94 ?_
        refine r_callV (pc := 95) (kb' := 0) dX3_repeals_95 kX3_la q2831 (t_la hm (by omega) (by omega) (by omega)) hm.1.1 rfl (Nat.le_refl _) (Nat.le_of_ble_eq_true rfl) rfl rfl (Nat.le_of_ble_eq_true rfl) (fun _ _ q => q.elim) (fun _ _ hq => go_V hq (fun h hm1 => ?_))
        have hm := hm.tr hm1
        refine r_aload_n (pc := 98) dX3_repeals_98 rfl ?_
        refine gX3_7 (pc := 99) dX3_repeals_99 hm.1.1 rfl ?_
        refine r_iconst (pc := 102) dX3_repeals_102 ?_
        refine t_iald (pc := 103) (lim := 140) 0 dX3_repeals_103 hm (by decide) rfl (by first | omega | exact rfB_in _ | exact nz_in _ | exact hm.r _ _) (fun r103 => ?_)
        refine go_nm (fun z103 e103 => ?_)
        have r103 := InR_of e103 r103
        have g103 : z103 = T9 0 1 - 1 := by rw [e103, sT_i (by omega), sT_i (by omega), sT_i (by omega), sT_i (by omega), h1]
        exact e_retT (pc := 104) dX3_repeals_104 rfl hm (by first | exact g103 | (simp_all; done)) (by funext k j; simp only [sT, uT, reR, rlT, g69, g80, hT, show z = T9 0 1 - 1 by omega]; (repeat' split) <;> (subst_vars; first | rfl | omega | (simp_all; done)))
      · refine r_aload_n (pc := 30) dX3_repeals_30 rfl ?_
        refine gX3_7 (pc := 31) dX3_repeals_31 hm.1.1 rfl ?_
        refine r_bipush (pc := 34) dX3_repeals_34 (by decide) ?_
        refine r_iload (pc := 36) dX3_repeals_36 rfl ?_
        refine r_iadd (pc := 38) dX3_repeals_38 ?_
        refine r_aload_n (pc := 39) dX3_repeals_39 rfl ?_
        refine gX3_7 (pc := 40) dX3_repeals_40 hm.1.1 rfl ?_
        refine r_bipush (pc := 43) dX3_repeals_43 (by decide) ?_
        refine r_iload (pc := 45) dX3_repeals_45 rfl ?_
        refine r_iadd (pc := 47) dX3_repeals_47 ?_
        refine r_iconst (pc := 48) dX3_repeals_48 ?_
        refine r_iadd (pc := 49) dX3_repeals_49 ?_
        refine t_iald (pc := 50) (lim := 140) 0 dX3_repeals_50 hm (by decide) rfl (by first | omega | exact rfB_in _ | exact nz_in _ | exact hm.r _ _) (fun r50 => ?_)
        refine t_iast (pc := 51) (lim := 140) 0 dX3_repeals_51 hm (by decide) rfl (by first | omega | exact rfB_in _ | exact nz_in _ | exact hm.r _ _) (by first | omega | exact rfB_in _ | exact nz_in _ | exact hm.r _ _) (fun h hm => ?_)
        refine r_iinc (pc := 52) (L' := [_, _, _, _, _]) dX3_repeals_52 rfl rfl ?_
        refine r_goto (pc := 55) (tgt := 19) dX3_repeals_55 (by decide) ?_
        exact ih19 _ _ _ hm (by omega) (by rw [hT]; exact (by funext k j; simp only [rlT, sT]; (repeat' split) <;> (subst_vars; first | rfl | omega | (congr 1; omega) | (simp_all; done) | (simp_all; omega)))) (by rw [← h1]; exact sT_i (by omega)) (by omega)
  exact loop19 13 _ _ _ hm (by omega) (by rw [g12]; exact (by funext k j; simp only [rlT, sT]; (repeat' split) <;> (subst_vars; first | rfl | omega | (congr 1; omega) | (simp_all; done) | (simp_all; omega)))) (by rw [g12]; exact sT_s) (by omega)
