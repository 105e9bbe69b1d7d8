set_option maxRecDepth 100000
theorem t_begins {G : Gl} {m : Nat} {ad : Nat → Nat} {h0 h : Hp} {T : TM} (hm : TI m ad h0 T h)  : Ct G 2 0 yX3_begins (Cond.code yX3_begins cX3_begins 1 (none)) [.ref m] h (RV m ad h (bgT T)) noX := by
  have hm := hm.nw
  refine Ct.of (own := eM) (nm := "begins") (by decide +kernel) rfl rfl (L := [some (.ref m)]) rfl (Nat.le_of_ble_eq_true rfl) rfl ?_
  refine r_aload_n (pc := 0) dX3_begins_0 rfl ?_
  refine r_iconst (pc := 1) dX3_begins_1 ?_
  refine pX3_25 (pc := 2) dX3_begins_2 hm.1.1 (by decide) (Nat.le_of_ble_eq_true rfl) ?_
  refine t_put 5 rfl hm (by first | omega | exact rfB_in _ | exact nz_in _ | exact hm.r _ _) (fun h hm => ?_)
  refine r_aload_n (pc := 5) dX3_begins_5 rfl ?_
  refine gX3_7 (pc := 6) dX3_begins_6 hm.1.1 rfl ?_
  refine r_iconst (pc := 9) dX3_begins_9 ?_
  refine r_aload_n (pc := 10) dX3_begins_10 rfl ?_
  refine gX3_13 (pc := 11) dX3_begins_11 hm.1.1 rfl ?_
  refine r_iconst (pc := 14) dX3_begins_14 ?_
  refine r_callS (pc := 15) (kb' := 0) dX3_begins_15 kX3_copies q2787 (t_copies hm (by decide) (by decide) (by simp only [szF]; omega) (by simp only [szF]; omega) (by omega)) (Nat.le_refl _) (Nat.le_of_ble_eq_true rfl) rfl rfl (Nat.le_of_ble_eq_true rfl) (fun _ _ q => q.elim) (fun _ _ hq => go_V hq (fun h hm1 => ?_))
  have hm := hm.tr hm1
  exact e_vret (pc := 18) dX3_begins_18 rfl hm rfl
theorem t_keeps {G : Gl} {m : Nat} {ad : Nat → Nat} {h0 h9 : Hp} {T9 : TM} (hm : TI m ad h0 T9 h9) {t : Int} (ht : InR t) (hC : 0 ≤ T9 6 0 ∧ T9 6 0 ≤ 8) : Ct G 2 0 yX3_keeps (Cond.code yX3_keeps cX3_keeps 3 (some .int)) [.ref m, .int (iZ t)] h9 (RT m ad h9 (t) (kpT T9)) noX := by
  have hm := hm.nw
  refine Ct.of (own := eM) (nm := "keeps") (by decide +kernel) rfl rfl (L := [some (.ref m), some (.int (iZ t)), none]) rfl (Nat.le_of_ble_eq_true rfl) rfl ?_
  refine r_aload_n (pc := 0) dX3_keeps_0 rfl ?_
  refine gX3_29 (pc := 1) dX3_keeps_1 hm.1.1 rfl ?_; have r1 := hm.r 6 0
  refine r_bipush (pc := 4) dX3_keeps_4 (by decide) ?_
  refine r_icmp_ne (pc := 6) (tgt := 56) dX3_keeps_6 (by decide) (by first | omega | exact rfB_in _ | exact nz_in _ | exact hm.r _ _) (by first | omega | exact rfB_in _ | exact nz_in _ | exact hm.r _ _) (fun c6 => ?_) (fun c6 => ?_)
  · refine r_aload_n (pc := 56) dX3_keeps_56 rfl ?_
    refine gX3_13 (pc := 57) dX3_keeps_57 hm.1.1 rfl ?_
    refine r_iconst (pc := 60) dX3_keeps_60 ?_
    refine r_aload_n (pc := 61) dX3_keeps_61 rfl ?_
    refine gX3_22 (pc := 62) dX3_keeps_62 hm.1.1 rfl ?_
    refine r_sipush (pc := 65) dX3_keeps_65 (by decide) ?_
    refine r_aload_n (pc := 68) dX3_keeps_68 rfl ?_
    refine gX3_29 (pc := 69) dX3_keeps_69 hm.1.1 rfl ?_; have r69 := hm.r 6 0
    refine go_nm (fun z69 e69 => ?_)
    have r69 := InR_of e69 r69
    try simp [sT, cpT, cpN] at e69
    refine r_imul (pc := 72) dX3_keeps_72 ?_
    refine r_callS (pc := 73) (kb' := 0) dX3_keeps_73 kX3_copies q2787 (t_copies hm (by decide) (by decide) (by simp only [szF]; omega) (by simp only [szF]; omega) (by omega)) (Nat.le_refl _) (Nat.le_of_ble_eq_true rfl) rfl rfl (Nat.le_of_ble_eq_true rfl) (fun _ _ q => q.elim) (fun _ _ hq => go_V hq (fun h hm1 => ?_))
    have hm := hm.tr hm1
    refine r_aload_n (pc := 76) dX3_keeps_76 rfl ?_
    refine r_dup (pc := 77) dX3_keeps_77 rfl ?_
    refine gX3_29 (pc := 78) dX3_keeps_78 hm.1.1 rfl ?_; have r78 := hm.r 6 0
    refine go_nm (fun z78 e78 => ?_)
    have r78 := InR_of e78 r78
    try simp [sT, cpT, cpN] at e78
    refine r_iconst (pc := 81) dX3_keeps_81 ?_
    refine r_iadd (pc := 82) dX3_keeps_82 ?_
    refine pX3_29 (pc := 83) dX3_keeps_83 hm.1.1 (by decide) (Nat.le_of_ble_eq_true rfl) ?_
    refine t_put 6 rfl hm (by first | omega | exact rfB_in _ | exact nz_in _ | exact hm.r _ _) (fun h hm => ?_)
    refine r_iload_n (pc := 86) dX3_keeps_86 rfl ?_
    exact e_retT (pc := 87) dX3_keeps_87 rfl hm (by first | rfl | omega | exact bZ_c (by omega) | exact (bZ_t (by omega)).symm | exact (bZ_f (by omega)).symm | exact bZ_t (by omega) | exact bZ_f (by omega)) (by first | (simp only [e69, e78]; unfold kpT kp1; rw [if_neg (by omega)]; done) | (simp only [e48, e69, e78]; subst hT; rw [show z = 8 by omega]; unfold kpT kp1; rw [if_pos (by omega)]; rfl))
  · refine r_iconst (pc := 9) dX3_keeps_9 ?_
    refine r_istore_n (pc := 10) (L' := [_, _, _]) dX3_keeps_10 rfl ?_
    have loop11 : ∀ (n : Nat) (z : Int) (h : Hp) (T : TM), TI m ad h9 T h → (1 ≤ z ∧ z ≤ 8) → T = cpN T9 4 140 4 0 (140 * (z - 1)) → T 6 0 = T9 6 0 → 8 - z < n → Go G eM cX3_keeps (3, some .int, "keeps", []) 2 0 (RT m ad h9 (t) (kpT T9)) noX 0 h 11 [some (.ref m), some (.int (iZ t)), some (.int (iZ z))] [] := by
      intro n
      induction n with
      | zero => intro z h T hm hz hT h6 hn; omega
      | succ n ih11 =>
        intro z h T hm hz hT h6 hn
        refine r_iload_n (pc := 11) dX3_keeps_11 rfl ?_
        refine r_bipush (pc := 12) dX3_keeps_12 (by decide) ?_
        refine r_icmp_ge (pc := 14) (tgt := 46) dX3_keeps_14 (by decide) (by first | omega | exact rfB_in _ | exact nz_in _ | exact hm.r _ _) (by first | omega | exact rfB_in _ | exact nz_in _ | exact hm.r _ _) (fun c14 => ?_) (fun c14 => ?_)
        · refine r_aload_n (pc := 46) dX3_keeps_46 rfl ?_
          refine r_dup (pc := 47) dX3_keeps_47 rfl ?_
          refine gX3_29 (pc := 48) dX3_keeps_48 hm.1.1 rfl ?_; have r48 := hm.r 6 0
          refine go_nm (fun z48 e48 => ?_)
          have r48 := InR_of e48 r48
          rw [h6] at e48
          refine r_iconst (pc := 51) dX3_keeps_51 ?_
          refine r_isub (pc := 52) dX3_keeps_52 ?_
          refine pX3_29 (pc := 53) dX3_keeps_53 hm.1.1 (by decide) (Nat.le_of_ble_eq_true rfl) ?_
          refine t_put 6 rfl hm (by first | omega | exact rfB_in _ | exact nz_in _ | exact hm.r _ _) (fun h hm => ?_)
          refine r_aload_n (pc := 56) dX3_keeps_56 rfl ?_
          refine gX3_13 (pc := 57) dX3_keeps_57 hm.1.1 rfl ?_
          refine r_iconst (pc := 60) dX3_keeps_60 ?_
          refine r_aload_n (pc := 61) dX3_keeps_61 rfl ?_
          refine gX3_22 (pc := 62) dX3_keeps_62 hm.1.1 rfl ?_
          refine r_sipush (pc := 65) dX3_keeps_65 (by decide) ?_
          refine r_aload_n (pc := 68) dX3_keeps_68 rfl ?_
          refine gX3_29 (pc := 69) dX3_keeps_69 hm.1.1 rfl ?_; have r69 := hm.r 6 0
          refine go_nm (fun z69 e69 => ?_)
          have r69 := InR_of e69 r69
          try simp [sT, cpT, cpN] at e69
          refine r_imul (pc := 72) dX3_keeps_72 ?_
          refine r_callS (pc := 73) (kb' := 0) dX3_keeps_73 kX3_copies q2787 (t_copies hm (by decide) (by decide) (by simp only [szF]; omega) (by simp only [szF]; omega) (by omega)) (Nat.le_refl _) (Nat.le_of_ble_eq_true rfl) rfl rfl (Nat.le_of_ble_eq_true rfl) (fun _ _ q => q.elim) (fun _ _ hq => go_V hq (fun h hm1 => ?_))
          have hm := hm.tr hm1
          refine r_aload_n (pc := 76) dX3_keeps_76 rfl ?_
          refine r_dup (pc := 77) dX3_keeps_77 rfl ?_
          refine gX3_29 (pc := 78) dX3_keeps_78 hm.1.1 rfl ?_; have r78 := hm.r 6 0
          refine go_nm (fun z78 e78 => ?_)
          have r78 := InR_of e78 r78
          try simp [sT, cpT, cpN] at e78
          refine r_iconst (pc := 81) dX3_keeps_81 ?_
          refine r_iadd (pc := 82) dX3_keeps_82 ?_
          refine pX3_29 (pc := 83) dX3_keeps_83 hm.1.1 (by decide) (Nat.le_of_ble_eq_true rfl) ?_
          refine t_put 6 rfl hm (by first | omega | exact rfB_in _ | exact nz_in _ | exact hm.r _ _) (fun h hm => ?_)
          refine r_iload_n (pc := 86) dX3_keeps_86 rfl ?_
          exact e_retT (pc := 87) dX3_keeps_87 rfl hm (by first | rfl | omega | exact bZ_c (by omega) | exact (bZ_t (by omega)).symm | exact (bZ_f (by omega)).symm | exact bZ_t (by omega) | exact bZ_f (by omega)) (by first | (simp only [e69, e78]; unfold kpT kp1; rw [if_neg (by omega)]; done) | (simp only [e48, e69, e78]; subst hT; rw [show z = 8 by omega]; unfold kpT kp1; rw [if_pos (by omega)]; rfl))
        · refine r_aload_n (pc := 17) dX3_keeps_17 rfl ?_
          refine gX3_22 (pc := 18) dX3_keeps_18 hm.1.1 rfl ?_
          refine r_sipush (pc := 21) dX3_keeps_21 (by decide) ?_
          refine r_iload_n (pc := 24) dX3_keeps_24 rfl ?_
          refine r_imul (pc := 25) dX3_keeps_25 ?_
          refine r_aload_n (pc := 26) dX3_keeps_26 rfl ?_
          refine gX3_22 (pc := 27) dX3_keeps_27 hm.1.1 rfl ?_
          refine r_sipush (pc := 30) dX3_keeps_30 (by decide) ?_
          refine r_iload_n (pc := 33) dX3_keeps_33 rfl ?_
          refine r_iconst (pc := 34) dX3_keeps_34 ?_
          refine r_isub (pc := 35) dX3_keeps_35 ?_
          refine r_imul (pc := 36) dX3_keeps_36 ?_
          refine r_callS (pc := 37) (kb' := 0) dX3_keeps_37 kX3_copies q2787 (t_copies hm (by decide) (by decide) (by simp only [szF]; omega) (by simp only [szF]; omega) (by omega)) (Nat.le_refl _) (Nat.le_of_ble_eq_true rfl) rfl rfl (Nat.le_of_ble_eq_true rfl) (fun _ _ q => q.elim) (fun _ _ hq => go_V hq (fun h hm1 => ?_))
          have hm := hm.tr hm1
          refine r_iinc (pc := 40) (L' := [_, _, _]) dX3_keeps_40 rfl rfl ?_
          refine r_goto (pc := 43) (tgt := 11) dX3_keeps_43 (by decide) ?_
          exact ih11 _ _ _ hm (by omega) (by rw [hT, show 140 * z = 140 + 140 * (z - 1) by omega, show (140 : Int) * (z - 1) = 0 + 140 * (z - 1) by omega]; unfold cpT; rw [show 0 + 140 * (z - 1) = 140 * (z - 1) by omega]; have := cpN_cat (T := T9) (a := 4) (b := 4) (f := 140) (t := 0) (z := 140 * (z - 1)) (n := 140) (by omega) (by omega) (by omega); rw [show (0 : Int) + 140 * (z - 1) = 140 * (z - 1) by omega] at this; rw [this]; congr 1; omega) (by rw [← h6]; exact cpN_k (by decide)) (by omega)
    exact loop11 9 _ _ _ hm (by omega) (by exact cpN_0.symm) rfl (by omega)
