set_option maxRecDepth 100000
theorem t_order {G : Gl} {m : Nat} {ad : Nat → Nat} {h0 h9 : Hp} {T9 : TM} (hm : TI m ad h0 T9 h9) (hs : 0 ≤ T9 20 0 ∧ T9 20 0 ≤ T9 19 0 ∧ T9 19 0 ≤ 60) (hw : T9 22 0 = 0) (ho : 0 ≤ T9 21 0 ∧ T9 21 0 ≤ 15) : Ct G 4 0 yX3_order (Cond.code yX3_order cX3_order 4 (none)) [.ref m] h9 (RV m ad h9 (orT T9)) noX := by
  have hm := hm.nw
  have hor := or_in (tx := T9 15) (n := T9 19 0) (p := T9 20 0) (by omega)
  refine Ct.of (own := eM) (nm := "order") (by decide +kernel) rfl rfl (L := [some (.ref m), none, none, none]) rfl (Nat.le_of_ble_eq_true rfl) rfl ?_
  refine r_aload_n (pc := 0) dX3_order_0 rfl ?_
  refine r_callV (pc := 1) (kb' := 0) dX3_order_1 kX3_kindHere q3132 (t_kindHere hm (by omega) (by omega)) hm.1.1 rfl (Nat.le_refl _) (Nat.le_of_ble_eq_true rfl) rfl rfl (Nat.le_of_ble_eq_true rfl) (fun _ _ q => q.elim) (fun _ _ hq => go_T hq (fun h hm1 => ?_))
  have hm := hm.tr hm1
  refine r_istore_n (pc := 4) (L' := [_, _, _, _]) dX3_order_4 rfl ?_
  have join58 : ∀ (u : Int) (h : Hp) (T : TM), TI m ad h9 T h → u = (orD (T9 15) (T9 19 0) (T9 20 0)).1 → T = bbT T9 (orD (T9 15) (T9 19 0) (T9 20 0)) → Go G eM cX3_order (4, none, "order", []) 4 0 (RV m ad h9 (orT T9)) noX 0 h 58 [some (.ref m), some (.int (iZ (kh (T9 15) (T9 19 0) (T9 20 0)).1)), some (.int (iZ (orK (T9 15) (T9 19 0) (T9 20 0)).1)), some (.int (iZ u))] [] := by
    intro u h T hm hu hT
    refine r_aload_n (pc := 58) dX3_order_58 rfl ?_
    refine gX3_78 (pc := 59) dX3_order_59 hm.1.1 rfl ?_; have r59 := hm.r 22 0
    refine go_nm (fun z59 e59 => ?_)
    have r59 := InR_of e59 r59
    rw [hT, bbT_22] at e59
    refine r_if_eq (pc := 62) (tgt := 66) dX3_order_62 (by decide) (by first | omega | exact rfB_in _ | exact nz_in _ | exact hm.r _ _) (fun c62 => ?_) (fun c62 => ?_)
    · refine r_aload_n (pc := 66) dX3_order_66 rfl ?_
      refine gX3_60 (pc := 67) dX3_order_67 hm.1.1 rfl ?_
      refine r_aload_n (pc := 70) dX3_order_70 rfl ?_
      refine gX3_75 (pc := 71) dX3_order_71 hm.1.1 rfl ?_; have r71 := hm.r 21 0
      refine go_nm (fun z71 e71 => ?_)
      have r71 := InR_of e71 r71
      rw [hT, bbT_21] at e71
      refine r_iload_n (pc := 74) dX3_order_74 rfl ?_
      refine t_iast (pc := 75) (lim := 32) 16 dX3_order_75 hm (by decide) rfl (by first | omega | exact rfB_in _ | exact nz_in _ | exact hm.r _ _) (by first | omega | exact rfB_in _ | exact nz_in _ | exact hm.r _ _) (fun h hm => ?_)
      refine r_aload_n (pc := 76) dX3_order_76 rfl ?_
      refine gX3_63 (pc := 77) dX3_order_77 hm.1.1 rfl ?_
      refine r_iconst (pc := 80) dX3_order_80 ?_
      refine r_aload_n (pc := 81) dX3_order_81 rfl ?_
      refine gX3_75 (pc := 82) dX3_order_82 hm.1.1 rfl ?_; have r82 := hm.r 21 0
      refine go_nm (fun z82 e82 => ?_)
      have r82 := InR_of e82 r82
      simp [sT] at e82; rw [hT, bbT_21] at e82
      refine r_imul (pc := 85) dX3_order_85 ?_
      refine r_iload_n (pc := 86) dX3_order_86 rfl ?_
      refine t_iast (pc := 87) (lim := 64) 17 dX3_order_87 hm (by decide) rfl (by first | omega | exact rfB_in _ | exact nz_in _ | exact hm.r _ _) (by first | omega | exact rfB_in _ | exact nz_in _ | exact hm.r _ _) (fun h hm => ?_)
      refine r_aload_n (pc := 88) dX3_order_88 rfl ?_
      refine gX3_63 (pc := 89) dX3_order_89 hm.1.1 rfl ?_
      refine r_iconst (pc := 92) dX3_order_92 ?_
      refine r_aload_n (pc := 93) dX3_order_93 rfl ?_
      refine gX3_75 (pc := 94) dX3_order_94 hm.1.1 rfl ?_; have r94 := hm.r 21 0
      refine go_nm (fun z94 e94 => ?_)
      have r94 := InR_of e94 r94
      simp [sT] at e94; rw [hT, bbT_21] at e94
      refine r_imul (pc := 97) dX3_order_97 ?_
      refine r_iconst (pc := 98) dX3_order_98 ?_
      refine r_iadd (pc := 99) dX3_order_99 ?_
      refine r_iload_n (pc := 100) dX3_order_100 rfl ?_
      refine t_iast (pc := 101) (lim := 64) 17 dX3_order_101 hm (by decide) rfl (by first | omega | exact rfB_in _ | exact nz_in _ | exact hm.r _ _) (by first | omega | exact rfB_in _ | exact nz_in _ | exact hm.r _ _) (fun h hm => ?_)
      refine r_aload_n (pc := 102) dX3_order_102 rfl ?_
      refine r_dup (pc := 103) dX3_order_103 rfl ?_
      refine gX3_75 (pc := 104) dX3_order_104 hm.1.1 rfl ?_; have r104 := hm.r 21 0
      refine go_nm (fun z104 e104 => ?_)
      have r104 := InR_of e104 r104
      simp [sT] at e104; rw [hT, bbT_21] at e104
      refine r_iconst (pc := 107) dX3_order_107 ?_
      refine r_iadd (pc := 108) dX3_order_108 ?_
      refine pX3_75 (pc := 109) dX3_order_109 hm.1.1 (by decide) (Nat.le_of_ble_eq_true rfl) ?_
      refine t_put 21 rfl hm (by first | omega | exact rfB_in _ | exact nz_in _ | exact hm.r _ _) (fun h hm => ?_)
      exact e_vret (pc := 112) dX3_order_112 rfl hm (by first | (rw [hT]; exact (if_pos (by omega)).symm) | (rw [e71, e82, e94, e104, hu, hT]; exact (if_neg (by omega)).symm))
    · exact e_vret (pc := 65) dX3_order_65 rfl hm (by first | (rw [hT]; exact (if_pos (by omega)).symm) | (rw [e71, e82, e94, e104, hu, hT]; exact (if_neg (by omega)).symm))
  have join24 : ∀  (h : Hp) (T : TM), TI m ad h9 T h → T = bbT T9 (orK (T9 15) (T9 19 0) (T9 20 0)) → Go G eM cX3_order (4, none, "order", []) 4 0 (RV m ad h9 (orT T9)) noX 0 h 24 [some (.ref m), some (.int (iZ (kh (T9 15) (T9 19 0) (T9 20 0)).1)), some (.int (iZ (orK (T9 15) (T9 19 0) (T9 20 0)).1)), none] [] := by
    intro h T hm hT
    refine r_iconst (pc := 24) dX3_order_24 ?_
    refine r_istore_n (pc := 25) (L' := [_, _, _, _]) dX3_order_25 rfl ?_
    refine r_iload_n (pc := 26) dX3_order_26 rfl ?_
    refine r_if_eq (pc := 27) (tgt := 41) dX3_order_27 (by decide) (by first | omega | exact rfB_in _ | exact nz_in _ | exact hm.r _ _) (fun c27 => ?_) (fun c27 => ?_)
    · refine r_aload_n (pc := 41) dX3_order_41 rfl ?_
      refine r_iconst (pc := 42) dX3_order_42 ?_
      refine r_callV (pc := 43) (kb' := 0) dX3_order_43 kX3_behindBlank q3142 (t_behindBlank hm (by rw [hT]; simp only [bbT_20, bbT_19]; omega) (by omega)) hm.1.1 rfl (Nat.le_refl _) (Nat.le_of_ble_eq_true rfl) rfl rfl (Nat.le_of_ble_eq_true rfl) (fun _ _ q => q.elim) (fun _ _ hq => go_T hq (fun h hm1 => ?_))
      have hm := hm.tr hm1
      simp only [hT, bbT_15, bbT_19, bbT_20, bbT_22] at hm ⊢
      have eo : orD (T9 15) (T9 19 0) (T9 20 0) = bb (T9 15) (T9 19 0) 1 (orK (T9 15) (T9 19 0) (T9 20 0)).2.1 (orK (T9 15) (T9 19 0) (T9 20 0)).2.2 := (by unfold orD orC; first | rw [if_pos (by omega)] | rw [if_neg (by omega), if_pos (by omega)])
      have hm := hm.to bbT_bbT
      rw [← eo] at hm ⊢
      refine r_istore_n (pc := 46) (L' := [_, _, _, _]) dX3_order_46 rfl ?_
      refine r_iload_n (pc := 47) dX3_order_47 rfl ?_
      refine r_iconst (pc := 48) dX3_order_48 ?_
      refine r_icmp_ne (pc := 49) (tgt := 58) dX3_order_49 (by decide) (by first | omega | exact rfB_in _ | exact nz_in _ | exact hm.r _ _) (by first | omega | exact rfB_in _ | exact nz_in _ | exact hm.r _ _) (fun c49 => ?_) (fun c49 => ?_)
      · exact join58 _ _ _ hm (by first | rfl | (unfold orD orC; rw [if_neg (by omega), if_neg (by omega)])) (by first | rfl | exact hT.trans (by unfold orD orC; rw [if_neg (by omega), if_neg (by omega)]; rfl))
      · exact absurd c49 (by omega)
    · refine r_iload_n (pc := 30) dX3_order_30 rfl ?_
      refine r_iconst (pc := 31) dX3_order_31 ?_
      refine r_icmp_eq (pc := 32) (tgt := 41) dX3_order_32 (by decide) (by first | omega | exact rfB_in _ | exact nz_in _ | exact hm.r _ _) (by first | omega | exact rfB_in _ | exact nz_in _ | exact hm.r _ _) (fun c32 => ?_) (fun c32 => ?_)
      · refine r_aload_n (pc := 41) dX3_order_41 rfl ?_
        refine r_iconst (pc := 42) dX3_order_42 ?_
        refine r_callV (pc := 43) (kb' := 0) dX3_order_43 kX3_behindBlank q3142 (t_behindBlank hm (by rw [hT]; simp only [bbT_20, bbT_19]; omega) (by omega)) hm.1.1 rfl (Nat.le_refl _) (Nat.le_of_ble_eq_true rfl) rfl rfl (Nat.le_of_ble_eq_true rfl) (fun _ _ q => q.elim) (fun _ _ hq => go_T hq (fun h hm1 => ?_))
        have hm := hm.tr hm1
        simp only [hT, bbT_15, bbT_19, bbT_20, bbT_22] at hm ⊢
        have eo : orD (T9 15) (T9 19 0) (T9 20 0) = bb (T9 15) (T9 19 0) 1 (orK (T9 15) (T9 19 0) (T9 20 0)).2.1 (orK (T9 15) (T9 19 0) (T9 20 0)).2.2 := (by unfold orD orC; first | rw [if_pos (by omega)] | rw [if_neg (by omega), if_pos (by omega)])
        have hm := hm.to bbT_bbT
        rw [← eo] at hm ⊢
        refine r_istore_n (pc := 46) (L' := [_, _, _, _]) dX3_order_46 rfl ?_
        refine r_iload_n (pc := 47) dX3_order_47 rfl ?_
        refine r_iconst (pc := 48) dX3_order_48 ?_
        refine r_icmp_ne (pc := 49) (tgt := 58) dX3_order_49 (by decide) (by first | omega | exact rfB_in _ | exact nz_in _ | exact hm.r _ _) (by first | omega | exact rfB_in _ | exact nz_in _ | exact hm.r _ _) (fun c49 => ?_) (fun c49 => ?_)
        · exact join58 _ _ _ hm (by first | rfl | (unfold orD orC; rw [if_neg (by omega), if_neg (by omega)])) (by first | rfl | exact hT.trans (by unfold orD orC; rw [if_neg (by omega), if_neg (by omega)]; rfl))
        · exact absurd c49 (by omega)
      · refine r_iload_n (pc := 35) dX3_order_35 rfl ?_
        refine r_bipush (pc := 36) dX3_order_36 (by decide) ?_
        refine r_icmp_ne (pc := 38) (tgt := 47) dX3_order_38 (by decide) (by first | omega | exact rfB_in _ | exact nz_in _ | exact hm.r _ _) (by first | omega | exact rfB_in _ | exact nz_in _ | exact hm.r _ _) (fun c38 => ?_) (fun c38 => ?_)
        · refine r_iload_n (pc := 47) dX3_order_47 rfl ?_
          refine r_iconst (pc := 48) dX3_order_48 ?_
          refine r_icmp_ne (pc := 49) (tgt := 58) dX3_order_49 (by decide) (by first | omega | exact rfB_in _ | exact nz_in _ | exact hm.r _ _) (by first | omega | exact rfB_in _ | exact nz_in _ | exact hm.r _ _) (fun c49 => ?_) (fun c49 => ?_)
          · exact join58 _ _ _ hm (by first | rfl | (unfold orD orC; rw [if_neg (by omega), if_neg (by omega)])) (by first | rfl | exact hT.trans (by unfold orD orC; rw [if_neg (by omega), if_neg (by omega)]; rfl))
          · refine r_aload_n (pc := 52) dX3_order_52 rfl ?_
            refine r_iconst (pc := 53) dX3_order_53 ?_
            refine r_callV (pc := 54) (kb' := 0) dX3_order_54 kX3_behindBlank q3142 (t_behindBlank hm (by rw [hT]; simp only [bbT_20, bbT_19]; omega) (by omega)) hm.1.1 rfl (Nat.le_refl _) (Nat.le_of_ble_eq_true rfl) rfl rfl (Nat.le_of_ble_eq_true rfl) (fun _ _ q => q.elim) (fun _ _ hq => go_T hq (fun h hm1 => ?_))
            have hm := hm.tr hm1
            simp only [hT, bbT_15, bbT_19, bbT_20, bbT_22] at hm ⊢
            have eo : orD (T9 15) (T9 19 0) (T9 20 0) = bb (T9 15) (T9 19 0) 2 (orK (T9 15) (T9 19 0) (T9 20 0)).2.1 (orK (T9 15) (T9 19 0) (T9 20 0)).2.2 := (by unfold orD orC; first | rw [if_pos (by omega)] | rw [if_neg (by omega), if_pos (by omega)])
            have hm := hm.to bbT_bbT
            rw [← eo] at hm ⊢
            refine r_istore_n (pc := 57) (L' := [_, _, _, _]) dX3_order_57 rfl ?_
            exact join58 _ _ _ hm (by first | rfl | (unfold orD orC; rw [if_neg (by omega), if_neg (by omega)])) (by first | rfl | exact hT.trans (by unfold orD orC; rw [if_neg (by omega), if_neg (by omega)]; rfl))
        · refine r_aload_n (pc := 41) dX3_order_41 rfl ?_
          refine r_iconst (pc := 42) dX3_order_42 ?_
          refine r_callV (pc := 43) (kb' := 0) dX3_order_43 kX3_behindBlank q3142 (t_behindBlank hm (by rw [hT]; simp only [bbT_20, bbT_19]; omega) (by omega)) hm.1.1 rfl (Nat.le_refl _) (Nat.le_of_ble_eq_true rfl) rfl rfl (Nat.le_of_ble_eq_true rfl) (fun _ _ q => q.elim) (fun _ _ hq => go_T hq (fun h hm1 => ?_))
          have hm := hm.tr hm1
          simp only [hT, bbT_15, bbT_19, bbT_20, bbT_22] at hm ⊢
          have eo : orD (T9 15) (T9 19 0) (T9 20 0) = bb (T9 15) (T9 19 0) 1 (orK (T9 15) (T9 19 0) (T9 20 0)).2.1 (orK (T9 15) (T9 19 0) (T9 20 0)).2.2 := (by unfold orD orC; first | rw [if_pos (by omega)] | rw [if_neg (by omega), if_pos (by omega)])
          have hm := hm.to bbT_bbT
          rw [← eo] at hm ⊢
          refine r_istore_n (pc := 46) (L' := [_, _, _, _]) dX3_order_46 rfl ?_
          refine r_iload_n (pc := 47) dX3_order_47 rfl ?_
          refine r_iconst (pc := 48) dX3_order_48 ?_
          refine r_icmp_ne (pc := 49) (tgt := 58) dX3_order_49 (by decide) (by first | omega | exact rfB_in _ | exact nz_in _ | exact hm.r _ _) (by first | omega | exact rfB_in _ | exact nz_in _ | exact hm.r _ _) (fun c49 => ?_) (fun c49 => ?_)
          · exact join58 _ _ _ hm (by first | rfl | (unfold orD orC; rw [if_neg (by omega), if_neg (by omega)])) (by first | rfl | exact hT.trans (by unfold orD orC; rw [if_neg (by omega), if_neg (by omega)]; rfl))
          · exact absurd c49 (by omega)
  refine r_aload_n (pc := 5) dX3_order_5 rfl ?_
  refine r_iload_n (pc := 6) dX3_order_6 rfl ?_
  refine r_if_eq (pc := 7) (tgt := 15) dX3_order_7 (by decide) (by first | omega | exact rfB_in _ | exact nz_in _ | exact hm.r _ _) (fun c7 => ?_) (fun c7 => ?_)
  · refine r_iconst (pc := 15) dX3_order_15 ?_
    refine r_goto (pc := 16) (tgt := 20) dX3_order_16 (by decide) ?_
    refine r_callV (pc := 20) (kb' := 0) dX3_order_20 kX3_behindBlank q3142 (t_behindBlank hm (by simp only [bbT_20, bbT_19]; omega) (by omega)) hm.1.1 rfl (Nat.le_refl _) (Nat.le_of_ble_eq_true rfl) rfl rfl (Nat.le_of_ble_eq_true rfl) (fun _ _ q => q.elim) (fun _ _ hq => go_T hq (fun h hm1 => ?_))
    have hm := hm.tr hm1
    simp only [bbT_15, bbT_19, bbT_20, bbT_22] at hm ⊢
    have eo : orK (T9 15) (T9 19 0) (T9 20 0) = bb (T9 15) (T9 19 0) 1 (kh (T9 15) (T9 19 0) (T9 20 0)).2.1 (kh (T9 15) (T9 19 0) (T9 20 0)).2.2 := (by unfold orK orB; first | rw [if_pos (by omega)] | rw [if_neg (by omega)])
    have hm := hm.to bbT_bbT
    rw [← eo] at hm ⊢
    refine r_istore_n (pc := 23) (L' := [_, _, _, _]) dX3_order_23 rfl ?_
    exact join24  _ _ hm rfl
  · refine r_iload_n (pc := 10) dX3_order_10 rfl ?_
    refine r_iconst (pc := 11) dX3_order_11 ?_
    refine r_icmp_ne (pc := 12) (tgt := 19) dX3_order_12 (by decide) (by first | omega | exact rfB_in _ | exact nz_in _ | exact hm.r _ _) (by first | omega | exact rfB_in _ | exact nz_in _ | exact hm.r _ _) (fun c12 => ?_) (fun c12 => ?_)
    · refine r_iconst (pc := 19) dX3_order_19 ?_
      refine r_callV (pc := 20) (kb' := 0) dX3_order_20 kX3_behindBlank q3142 (t_behindBlank hm (by simp only [bbT_20, bbT_19]; omega) (by omega)) hm.1.1 rfl (Nat.le_refl _) (Nat.le_of_ble_eq_true rfl) rfl rfl (Nat.le_of_ble_eq_true rfl) (fun _ _ q => q.elim) (fun _ _ hq => go_T hq (fun h hm1 => ?_))
      have hm := hm.tr hm1
      simp only [bbT_15, bbT_19, bbT_20, bbT_22] at hm ⊢
      have eo : orK (T9 15) (T9 19 0) (T9 20 0) = bb (T9 15) (T9 19 0) 2 (kh (T9 15) (T9 19 0) (T9 20 0)).2.1 (kh (T9 15) (T9 19 0) (T9 20 0)).2.2 := (by unfold orK orB; first | rw [if_pos (by omega)] | rw [if_neg (by omega)])
      have hm := hm.to bbT_bbT
      rw [← eo] at hm ⊢
      refine r_istore_n (pc := 23) (L' := [_, _, _, _]) dX3_order_23 rfl ?_
      exact join24  _ _ hm rfl
    · refine r_iconst (pc := 15) dX3_order_15 ?_
      refine r_goto (pc := 16) (tgt := 20) dX3_order_16 (by decide) ?_
      refine r_callV (pc := 20) (kb' := 0) dX3_order_20 kX3_behindBlank q3142 (t_behindBlank hm (by simp only [bbT_20, bbT_19]; omega) (by omega)) hm.1.1 rfl (Nat.le_refl _) (Nat.le_of_ble_eq_true rfl) rfl rfl (Nat.le_of_ble_eq_true rfl) (fun _ _ q => q.elim) (fun _ _ hq => go_T hq (fun h hm1 => ?_))
      have hm := hm.tr hm1
      simp only [bbT_15, bbT_19, bbT_20, bbT_22] at hm ⊢
      have eo : orK (T9 15) (T9 19 0) (T9 20 0) = bb (T9 15) (T9 19 0) 1 (kh (T9 15) (T9 19 0) (T9 20 0)).2.1 (kh (T9 15) (T9 19 0) (T9 20 0)).2.2 := (by unfold orK orB; first | rw [if_pos (by omega)] | rw [if_neg (by omega)])
      have hm := hm.to bbT_bbT
      rw [← eo] at hm ⊢
      refine r_istore_n (pc := 23) (L' := [_, _, _, _]) dX3_order_23 rfl ?_
      exact join24  _ _ hm rfl
