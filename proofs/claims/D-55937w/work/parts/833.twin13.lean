set_option maxRecDepth 100000
theorem t_measured {G : Gl} {m : Nat} {ad : Nat → Nat} {h0 h : Hp} {T : TM} (hm : TI m ad h0 T h) {a k : Int} (ha : 0 ≤ a ∧ a ≤ 12) (hk : InR k) : Ct G 2 0 yX3_measured (Cond.code yX3_measured cX3_measured 3 (some .int)) [.ref m, .int (iZ a), .int (iZ k)] h (RE (fA (T 0) a (wK k)) h) noX := by
  have hm := hm.nw
  refine Ct.of (own := eM) (nm := "measured") (by decide +kernel) rfl rfl (L := [some (.ref m), some (.int (iZ a)), some (.int (iZ k))]) rfl (Nat.le_of_ble_eq_true rfl) rfl ?_
  refine r_aload_n (pc := 0) dX3_measured_0 rfl ?_
  refine r_iload_n (pc := 1) dX3_measured_1 rfl ?_
  refine r_iload_n (pc := 2) dX3_measured_2 rfl ?_
  refine r_if_ne (pc := 3) (tgt := 10) dX3_measured_3 (by decide) (by first | omega | exact rfB_in _ | exact nz_in _ | exact hm.r _ _) (fun c3 => ?_) (fun c3 => ?_)
  · refine r_iload_n (pc := 10) dX3_measured_10 rfl ?_
    refine r_iconst (pc := 11) dX3_measured_11 ?_
    refine r_icmp_ne (pc := 12) (tgt := 19) dX3_measured_12 (by decide) (by first | omega | exact rfB_in _ | exact nz_in _ | exact hm.r _ _) (by first | omega | exact rfB_in _ | exact nz_in _ | exact hm.r _ _) (fun c12 => ?_) (fun c12 => ?_)
    · refine r_iload_n (pc := 19) dX3_measured_19 rfl ?_
      refine r_iconst (pc := 20) dX3_measured_20 ?_
      refine r_icmp_ne (pc := 21) (tgt := 28) dX3_measured_21 (by decide) (by first | omega | exact rfB_in _ | exact nz_in _ | exact hm.r _ _) (by first | omega | exact rfB_in _ | exact nz_in _ | exact hm.r _ _) (fun c21 => ?_) (fun c21 => ?_)
      · refine r_iconst (pc := 28) dX3_measured_28 ?_
        refine r_callV (pc := 29) (kb' := 0) dX3_measured_29 kX3_av q2815 (t_av hm (by omega) (by decide)) hm.1.1 rfl (Nat.le_refl _) (Nat.le_of_ble_eq_true rfl) rfl rfl (Nat.le_of_ble_eq_true rfl) (fun _ _ q => q.elim) (fun _ _ hq => go_E hq ?_)
        exact e_ret (pc := 32) dX3_measured_32 rfl (by unfold wK; (repeat' split) <;> first | rfl | omega)
      · refine r_iconst (pc := 24) dX3_measured_24 ?_
        refine r_goto (pc := 25) (tgt := 29) dX3_measured_25 (by decide) ?_
        refine r_callV (pc := 29) (kb' := 0) dX3_measured_29 kX3_av q2815 (t_av hm (by omega) (by decide)) hm.1.1 rfl (Nat.le_refl _) (Nat.le_of_ble_eq_true rfl) rfl rfl (Nat.le_of_ble_eq_true rfl) (fun _ _ q => q.elim) (fun _ _ hq => go_E hq ?_)
        exact e_ret (pc := 32) dX3_measured_32 rfl (by unfold wK; (repeat' split) <;> first | rfl | omega)
    · refine r_iconst (pc := 15) dX3_measured_15 ?_
      refine r_goto (pc := 16) (tgt := 29) dX3_measured_16 (by decide) ?_
      refine r_callV (pc := 29) (kb' := 0) dX3_measured_29 kX3_av q2815 (t_av hm (by omega) (by decide)) hm.1.1 rfl (Nat.le_refl _) (Nat.le_of_ble_eq_true rfl) rfl rfl (Nat.le_of_ble_eq_true rfl) (fun _ _ q => q.elim) (fun _ _ hq => go_E hq ?_)
      exact e_ret (pc := 32) dX3_measured_32 rfl (by unfold wK; (repeat' split) <;> first | rfl | omega)
  · refine r_iconst (pc := 6) dX3_measured_6 ?_
    refine r_goto (pc := 7) (tgt := 29) dX3_measured_7 (by decide) ?_
    refine r_callV (pc := 29) (kb' := 0) dX3_measured_29 kX3_av q2815 (t_av hm (by omega) (by decide)) hm.1.1 rfl (Nat.le_refl _) (Nat.le_of_ble_eq_true rfl) rfl rfl (Nat.le_of_ble_eq_true rfl) (fun _ _ q => q.elim) (fun _ _ hq => go_E hq ?_)
    exact e_ret (pc := 32) dX3_measured_32 rfl (by unfold wK; (repeat' split) <;> first | rfl | omega)
theorem t_isFuller {G : Gl} {m : Nat} {ad : Nat → Nat} {h0 h : Hp} {T : TM} (hm : TI m ad h0 T h) {a b : Int} (hI : RI (T 0)) (ha : InR a) (hb2 : InR b) : Ct G 3 0 yX3_isFuller (Cond.code yX3_isFuller cX3_isFuller 3 (some .boolean)) [.ref m, .int (iZ a), .int (iZ b)] h (RE (bZ (flP (T 0) a b)) h) noX := by
  have hm := hm.nw
  have hb := hI.1
  have o9 := fun x => onSh_in (r := T 0) (s := x) (by omega)
  have p9 : ∀ x, InR (plOf (T 0) x) := fun x => (fnd_in (N := T 0 1) (p := fun k => T 0 (12 + k) = x) (by omega)).2.2
  have o7 := fun x => crkSh_in (s := x) hI
  have o6 := fun x => rawSh_in (r := T 0) (s := x) (by omega)
  have x1 := o9 a
  have x2 := o9 b
  have x3 := o7 a
  have x4 := o7 b
  refine Ct.of (own := eM) (nm := "isFuller") (by decide +kernel) rfl rfl (L := [some (.ref m), some (.int (iZ a)), some (.int (iZ b))]) rfl (Nat.le_of_ble_eq_true rfl) rfl ?_
  refine r_aload_n (pc := 0) dX3_isFuller_0 rfl ?_
  refine r_iload_n (pc := 1) dX3_isFuller_1 rfl ?_
  refine r_callV (pc := 2) (kb' := 0) dX3_isFuller_2 kX3_onShelf q2811 (t_onShelf hm hI (by omega)) hm.1.1 rfl (Nat.le_refl _) (Nat.le_of_ble_eq_true rfl) rfl rfl (Nat.le_of_ble_eq_true rfl) (fun _ _ q => q.elim) (fun _ _ hq => go_E hq ?_)
  refine r_aload_n (pc := 5) dX3_isFuller_5 rfl ?_
  refine r_iload_n (pc := 6) dX3_isFuller_6 rfl ?_
  refine r_callV (pc := 7) (kb' := 0) dX3_isFuller_7 kX3_onShelf q2811 (t_onShelf hm hI (by omega)) hm.1.1 rfl (Nat.le_refl _) (Nat.le_of_ble_eq_true rfl) rfl rfl (Nat.le_of_ble_eq_true rfl) (fun _ _ q => q.elim) (fun _ _ hq => go_E hq ?_)
  refine r_icmp_eq (pc := 10) (tgt := 32) dX3_isFuller_10 (by decide) (by first | omega | exact rfB_in _ | exact nz_in _ | exact hm.r _ _) (by first | omega | exact rfB_in _ | exact nz_in _ | exact hm.r _ _) (fun c10 => ?_) (fun c10 => ?_)
  · refine r_aload_n (pc := 32) dX3_isFuller_32 rfl ?_
    refine r_iload_n (pc := 33) dX3_isFuller_33 rfl ?_
    refine r_callV (pc := 34) (kb' := 0) dX3_isFuller_34 kX3_cracksOn q3004 (t_cracksOn hm hI (by omega)) hm.1.1 rfl (Nat.le_refl _) (Nat.le_of_ble_eq_true rfl) rfl rfl (Nat.le_of_ble_eq_true rfl) (fun _ _ q => q.elim) (fun _ _ hq => go_E hq ?_)
    refine r_aload_n (pc := 37) dX3_isFuller_37 rfl ?_
    refine r_iload_n (pc := 38) dX3_isFuller_38 rfl ?_
    refine r_callV (pc := 39) (kb' := 0) dX3_isFuller_39 kX3_cracksOn q3004 (t_cracksOn hm hI (by omega)) hm.1.1 rfl (Nat.le_refl _) (Nat.le_of_ble_eq_true rfl) rfl rfl (Nat.le_of_ble_eq_true rfl) (fun _ _ q => q.elim) (fun _ _ hq => go_E hq ?_)
    refine r_icmp_gt (pc := 42) (tgt := 63) dX3_isFuller_42 (by decide) (by first | omega | exact rfB_in _ | exact nz_in _ | exact hm.r _ _) (by first | omega | exact rfB_in _ | exact nz_in _ | exact hm.r _ _) (fun c42 => ?_) (fun c42 => ?_)
    · refine r_iconst (pc := 63) dX3_isFuller_63 ?_
      refine r_goto (pc := 64) (tgt := 68) dX3_isFuller_64 (by decide) ?_
      exact e_retB (pc := 68) dX3_isFuller_68 rfl (by first | (left; rfl) | (right; rfl) | exact bZ_01 _ | omega) (by first | rfl | omega | exact bZ_c (by omega) | exact (bZ_t (by omega)).symm | exact (bZ_f (by omega)).symm | exact bZ_t (by omega) | exact bZ_f (by omega))
    · refine r_aload_n (pc := 45) dX3_isFuller_45 rfl ?_
      refine r_iload_n (pc := 46) dX3_isFuller_46 rfl ?_
      refine r_callV (pc := 47) (kb' := 0) dX3_isFuller_47 kX3_cracksOn q3004 (t_cracksOn hm hI (by omega)) hm.1.1 rfl (Nat.le_refl _) (Nat.le_of_ble_eq_true rfl) rfl rfl (Nat.le_of_ble_eq_true rfl) (fun _ _ q => q.elim) (fun _ _ hq => go_E hq ?_)
      refine r_aload_n (pc := 50) dX3_isFuller_50 rfl ?_
      refine r_iload_n (pc := 51) dX3_isFuller_51 rfl ?_
      refine r_callV (pc := 52) (kb' := 0) dX3_isFuller_52 kX3_cracksOn q3004 (t_cracksOn hm hI (by omega)) hm.1.1 rfl (Nat.le_refl _) (Nat.le_of_ble_eq_true rfl) rfl rfl (Nat.le_of_ble_eq_true rfl) (fun _ _ q => q.elim) (fun _ _ hq => go_E hq ?_)
      refine r_icmp_ne (pc := 55) (tgt := 67) dX3_isFuller_55 (by decide) (by first | omega | exact rfB_in _ | exact nz_in _ | exact hm.r _ _) (by first | omega | exact rfB_in _ | exact nz_in _ | exact hm.r _ _) (fun c55 => ?_) (fun c55 => ?_)
      · refine r_iconst (pc := 67) dX3_isFuller_67 ?_
        exact e_retB (pc := 68) dX3_isFuller_68 rfl (by first | (left; rfl) | (right; rfl) | exact bZ_01 _ | omega) (by first | rfl | omega | exact bZ_c (by omega) | exact (bZ_t (by omega)).symm | exact (bZ_f (by omega)).symm | exact bZ_t (by omega) | exact bZ_f (by omega))
      · refine r_iload_n (pc := 58) dX3_isFuller_58 rfl ?_
        refine r_iload_n (pc := 59) dX3_isFuller_59 rfl ?_
        refine r_icmp_ge (pc := 60) (tgt := 67) dX3_isFuller_60 (by decide) (by first | omega | exact rfB_in _ | exact nz_in _ | exact hm.r _ _) (by first | omega | exact rfB_in _ | exact nz_in _ | exact hm.r _ _) (fun c60 => ?_) (fun c60 => ?_)
        · refine r_iconst (pc := 67) dX3_isFuller_67 ?_
          exact e_retB (pc := 68) dX3_isFuller_68 rfl (by first | (left; rfl) | (right; rfl) | exact bZ_01 _ | omega) (by first | rfl | omega | exact bZ_c (by omega) | exact (bZ_t (by omega)).symm | exact (bZ_f (by omega)).symm | exact bZ_t (by omega) | exact bZ_f (by omega))
        · refine r_iconst (pc := 63) dX3_isFuller_63 ?_
          refine r_goto (pc := 64) (tgt := 68) dX3_isFuller_64 (by decide) ?_
          exact e_retB (pc := 68) dX3_isFuller_68 rfl (by first | (left; rfl) | (right; rfl) | exact bZ_01 _ | omega) (by first | rfl | omega | exact bZ_c (by omega) | exact (bZ_t (by omega)).symm | exact (bZ_f (by omega)).symm | exact bZ_t (by omega) | exact bZ_f (by omega))
  · refine r_aload_n (pc := 13) dX3_isFuller_13 rfl ?_
    refine r_iload_n (pc := 14) dX3_isFuller_14 rfl ?_
    refine r_callV (pc := 15) (kb' := 0) dX3_isFuller_15 kX3_onShelf q2811 (t_onShelf hm hI (by omega)) hm.1.1 rfl (Nat.le_refl _) (Nat.le_of_ble_eq_true rfl) rfl rfl (Nat.le_of_ble_eq_true rfl) (fun _ _ q => q.elim) (fun _ _ hq => go_E hq ?_)
    refine r_aload_n (pc := 18) dX3_isFuller_18 rfl ?_
    refine r_iload_n (pc := 19) dX3_isFuller_19 rfl ?_
    refine r_callV (pc := 20) (kb' := 0) dX3_isFuller_20 kX3_onShelf q2811 (t_onShelf hm hI (by omega)) hm.1.1 rfl (Nat.le_refl _) (Nat.le_of_ble_eq_true rfl) rfl rfl (Nat.le_of_ble_eq_true rfl) (fun _ _ q => q.elim) (fun _ _ hq => go_E hq ?_)
    refine r_icmp_le (pc := 23) (tgt := 30) dX3_isFuller_23 (by decide) (by first | omega | exact rfB_in _ | exact nz_in _ | exact hm.r _ _) (by first | omega | exact rfB_in _ | exact nz_in _ | exact hm.r _ _) (fun c23 => ?_) (fun c23 => ?_)
    · refine r_iconst (pc := 30) dX3_isFuller_30 ?_
      exact e_retB (pc := 31) dX3_isFuller_31 rfl (by first | (left; rfl) | (right; rfl) | exact bZ_01 _ | omega) (by first | rfl | omega | exact bZ_c (by omega) | exact (bZ_t (by omega)).symm | exact (bZ_f (by omega)).symm | exact bZ_t (by omega) | exact bZ_f (by omega))
    · refine r_iconst (pc := 26) dX3_isFuller_26 ?_
      refine r_goto (pc := 27) (tgt := 31) dX3_isFuller_27 (by decide) ?_
      exact e_retB (pc := 31) dX3_isFuller_31 rfl (by first | (left; rfl) | (right; rfl) | exact bZ_01 _ | omega) (by first | rfl | omega | exact bZ_c (by omega) | exact (bZ_t (by omega)).symm | exact (bZ_f (by omega)).symm | exact bZ_t (by omega) | exact bZ_f (by omega))
theorem t_sumOf {G : Gl} {m : Nat} {ad : Nat → Nat} {h0 h : Hp} {T : TM} (hm : TI m ad h0 T h) {w : Int} (hI : RI (T 0)) (hw : 0 ≤ w ∧ w ≤ 5) : Ct G 2 0 yX3_sumOf (Cond.code yX3_sumOf cX3_sumOf 4 (some .int)) [.ref m, .int (iZ w)] h (RE (smA (T 0) w) h) noX := by
  have hm := hm.nw
  have hb := hI.1
  refine Ct.of (own := eM) (nm := "sumOf") (by decide +kernel) rfl rfl (L := [some (.ref m), some (.int (iZ w)), none, none]) rfl (Nat.le_of_ble_eq_true rfl) rfl ?_
  refine r_iconst (pc := 0) dX3_sumOf_0 ?_
  refine r_istore_n (pc := 1) (L' := [_, _, _, _]) dX3_sumOf_1 rfl ?_
  refine r_iconst (pc := 2) dX3_sumOf_2 ?_
  refine r_istore_n (pc := 3) (L' := [_, _, _, _]) dX3_sumOf_3 rfl ?_
  have loop4 : ∀ (n : Nat) (k z : Int) , (0 ≤ z ∧ z ≤ T 0 0) → k = sumI z (fun a => fA (T 0) a w) → T 0 0 - z < n → Go G eM cX3_sumOf (4, some .int, "sumOf", []) 2 0 (RE (smA (T 0) w) h) noX 0 h 4 [some (.ref m), some (.int (iZ w)), some (.int (iZ k)), some (.int (iZ z))] [] := by
    intro n
    induction n with
    | zero => intro k z hz hk hn; omega
    | succ n ih4 =>
      intro k z hz hk hn
      refine r_iload_n (pc := 4) dX3_sumOf_4 rfl ?_
      refine r_aload_n (pc := 5) dX3_sumOf_5 rfl ?_
      refine gX3_7 (pc := 6) dX3_sumOf_6 hm.1.1 rfl ?_
      refine r_iconst (pc := 9) dX3_sumOf_9 ?_
      refine t_iald (pc := 10) (lim := 140) 0 dX3_sumOf_10 hm (by decide) rfl (by first | omega | exact rfB_in _ | exact nz_in _ | exact hm.r _ _) (fun r10 => ?_)
      refine r_icmp_ge (pc := 11) (tgt := 29) dX3_sumOf_11 (by decide) (by first | omega | exact rfB_in _ | exact nz_in _ | exact hm.r _ _) (by first | omega | exact rfB_in _ | exact nz_in _ | exact hm.r _ _) (fun c11 => ?_) (fun c11 => ?_)
      · refine r_iload_n (pc := 29) dX3_sumOf_29 rfl ?_
        exact e_ret (pc := 30) dX3_sumOf_30 rfl (by rw [hk, show z = T 0 0 by omega]; rfl)
      · refine r_iload_n (pc := 14) dX3_sumOf_14 rfl ?_
        refine r_aload_n (pc := 15) dX3_sumOf_15 rfl ?_
        refine r_iload_n (pc := 16) dX3_sumOf_16 rfl ?_
        refine r_iload_n (pc := 17) dX3_sumOf_17 rfl ?_
        refine r_callV (pc := 18) (kb' := 0) dX3_sumOf_18 kX3_av q2815 (t_av hm (by omega) (by omega)) hm.1.1 rfl (Nat.le_refl _) (Nat.le_of_ble_eq_true rfl) rfl rfl (Nat.le_of_ble_eq_true rfl) (fun _ _ q => q.elim) (fun _ _ hq => go_E hq ?_)
        refine r_iadd (pc := 21) dX3_sumOf_21 ?_
        refine r_istore_n (pc := 22) (L' := [_, _, _, _]) dX3_sumOf_22 rfl ?_
        refine r_iinc (pc := 23) (L' := [_, _, _, _]) dX3_sumOf_23 rfl rfl ?_
        refine r_goto (pc := 26) (tgt := 4) dX3_sumOf_26 (by decide) ?_
        exact ih4 _ _ (by omega) (by rw [sumI_s hz.1, hk]) (by omega)
  exact loop4 ((T 0 0).toNat + 1) _ _ (by omega) sumI_0.symm (by omega)
theorem t_account {G : Gl} {m : Nat} {ad : Nat → Nat} {h0 h9 : Hp} {T : TM} (hm : TI m ad h0 T h9) {w : Int} (hI : RI (T 0)) (hw : InR w) : Ct G 3 0 yX3_account (Cond.code yX3_account cX3_account 2 (some .int)) [.ref m, .int (iZ w)] h9 (RT m ad h9 (zAcc T w) (sT T 5 0 (kAcc w))) noX := by
  have hm := hm.nw
  have hb := hI.1
  have o9 := fun x => onSh_in (r := T 0) (s := x) (by omega)
  have p9 : ∀ x, InR (plOf (T 0) x) := fun x => (fnd_in (N := T 0 1) (p := fun k => T 0 (12 + k) = x) (by omega)).2.2
  refine Ct.of (own := eM) (nm := "account") (by decide +kernel) rfl rfl (L := [some (.ref m), some (.int (iZ w))]) rfl (Nat.le_of_ble_eq_true rfl) rfl ?_
  refine r_aload_n (pc := 0) dX3_account_0 rfl ?_
  refine r_iconst (pc := 1) dX3_account_1 ?_
  refine pX3_25 (pc := 2) dX3_account_2 hm.1.1 (by decide) (Nat.le_of_ble_eq_true rfl) ?_
  refine t_put 5 rfl hm (by first | omega | exact rfB_in _ | exact nz_in _ | exact hm.r _ _) (fun h hm => ?_)
  refine r_iload_n (pc := 5) dX3_account_5 rfl ?_
  by_cases w6_0 : w = 0
  · refine r_tableIn (pc := 6) (off := 70) (tgt := 76) dX3_account_6 (by omega) (by omega) (by omega) (by rw [w6_0]; rfl) (by decide) ?_
    refine r_aload_n (pc := 76) dX3_account_76 rfl ?_
    refine gX3_7 (pc := 77) dX3_account_77 hm.1.1 rfl ?_
    refine r_iconst (pc := 80) dX3_account_80 ?_
    refine t_iald (pc := 81) (lim := 140) 0 dX3_account_81 hm (by decide) rfl (by first | omega | exact rfB_in _ | exact nz_in _ | exact hm.r _ _) (fun r81 => ?_)
    refine go_nm (fun z81 e81 => ?_)
    have r81 := InR_of e81 r81
    try simp [sT, cpT, cpN] at e81
    exact e_retT (pc := 82) dX3_account_82 rfl hm (by unfold zAcc; (repeat' split) <;> first | rfl | omega) (by first | (rw [sT_sT]; congr 1; unfold kAcc; (repeat' split) <;> first | rfl | omega) | (congr 1; unfold kAcc; (repeat' split) <;> first | rfl | omega))
  by_cases w6_1 : w = 1
  · refine r_tableIn (pc := 6) (off := 77) (tgt := 83) dX3_account_6 (by omega) (by omega) (by omega) (by rw [w6_1]; rfl) (by decide) ?_
    refine r_aload_n (pc := 83) dX3_account_83 rfl ?_
    refine gX3_7 (pc := 84) dX3_account_84 hm.1.1 rfl ?_
    refine r_iconst (pc := 87) dX3_account_87 ?_
    refine t_iald (pc := 88) (lim := 140) 0 dX3_account_88 hm (by decide) rfl (by first | omega | exact rfB_in _ | exact nz_in _ | exact hm.r _ _) (fun r88 => ?_)
    refine go_nm (fun z88 e88 => ?_)
    have r88 := InR_of e88 r88
    try simp [sT, cpT, cpN] at e88
    exact e_retT (pc := 89) dX3_account_89 rfl hm (by unfold zAcc; (repeat' split) <;> first | rfl | omega) (by first | (rw [sT_sT]; congr 1; unfold kAcc; (repeat' split) <;> first | rfl | omega) | (congr 1; unfold kAcc; (repeat' split) <;> first | rfl | omega))
  by_cases w6_2 : w = 2
  · refine r_tableIn (pc := 6) (off := 84) (tgt := 90) dX3_account_6 (by omega) (by omega) (by omega) (by rw [w6_2]; rfl) (by decide) ?_
    refine r_aload_n (pc := 90) dX3_account_90 rfl ?_
    refine r_iconst (pc := 91) dX3_account_91 ?_
    refine r_callV (pc := 92) (kb' := 0) dX3_account_92 kX3_sumOf q3194 (t_sumOf hm (by first | exact hI | (rw [th0]; exact hI)) (by first | omega | (simp only [th0]; omega))) hm.1.1 rfl (Nat.le_refl _) (Nat.le_of_ble_eq_true rfl) rfl rfl (Nat.le_of_ble_eq_true rfl) (fun _ _ q => q.elim) (fun _ _ hq => go_E hq ?_)
    try simp only [th0]
    exact e_retT (pc := 95) dX3_account_95 rfl hm (by unfold zAcc; (repeat' split) <;> first | rfl | omega) (by first | (rw [sT_sT]; congr 1; unfold kAcc; (repeat' split) <;> first | rfl | omega) | (congr 1; unfold kAcc; (repeat' split) <;> first | rfl | omega))
  by_cases w6_3 : w = 3
  · refine r_tableIn (pc := 6) (off := 90) (tgt := 96) dX3_account_6 (by omega) (by omega) (by omega) (by rw [w6_3]; rfl) (by decide) ?_
    refine r_aload_n (pc := 96) dX3_account_96 rfl ?_
    refine r_iconst (pc := 97) dX3_account_97 ?_
    refine r_callV (pc := 98) (kb' := 0) dX3_account_98 kX3_sumOf q3194 (t_sumOf hm (by first | exact hI | (rw [th0]; exact hI)) (by first | omega | (simp only [th0]; omega))) hm.1.1 rfl (Nat.le_refl _) (Nat.le_of_ble_eq_true rfl) rfl rfl (Nat.le_of_ble_eq_true rfl) (fun _ _ q => q.elim) (fun _ _ hq => go_E hq ?_)
    try simp only [th0]
    exact e_retT (pc := 101) dX3_account_101 rfl hm (by unfold zAcc; (repeat' split) <;> first | rfl | omega) (by first | (rw [sT_sT]; congr 1; unfold kAcc; (repeat' split) <;> first | rfl | omega) | (congr 1; unfold kAcc; (repeat' split) <;> first | rfl | omega))
  by_cases w6_4 : w = 4
  · refine r_tableIn (pc := 6) (off := 96) (tgt := 102) dX3_account_6 (by omega) (by omega) (by omega) (by rw [w6_4]; rfl) (by decide) ?_
    refine r_aload_n (pc := 102) dX3_account_102 rfl ?_
    refine gX3_7 (pc := 103) dX3_account_103 hm.1.1 rfl ?_
    refine r_iconst (pc := 106) dX3_account_106 ?_
    refine t_iald (pc := 107) (lim := 140) 0 dX3_account_107 hm (by decide) rfl (by first | omega | exact rfB_in _ | exact nz_in _ | exact hm.r _ _) (fun r107 => ?_)
    refine go_nm (fun z107 e107 => ?_)
    have r107 := InR_of e107 r107
    try simp [sT, cpT, cpN] at e107
    exact e_retT (pc := 108) dX3_account_108 rfl hm (by unfold zAcc; (repeat' split) <;> first | rfl | omega) (by first | (rw [sT_sT]; congr 1; unfold kAcc; (repeat' split) <;> first | rfl | omega) | (congr 1; unfold kAcc; (repeat' split) <;> first | rfl | omega))
  by_cases w6_5 : w = 5
  · refine r_tableIn (pc := 6) (off := 103) (tgt := 109) dX3_account_6 (by omega) (by omega) (by omega) (by rw [w6_5]; rfl) (by decide) ?_
    refine r_aload_n (pc := 109) dX3_account_109 rfl ?_
    refine gX3_7 (pc := 110) dX3_account_110 hm.1.1 rfl ?_
    refine r_iconst (pc := 113) dX3_account_113 ?_
    refine t_iald (pc := 114) (lim := 140) 0 dX3_account_114 hm (by decide) rfl (by first | omega | exact rfB_in _ | exact nz_in _ | exact hm.r _ _) (fun r114 => ?_)
    refine go_nm (fun z114 e114 => ?_)
    have r114 := InR_of e114 r114
    try simp [sT, cpT, cpN] at e114
    exact e_retT (pc := 115) dX3_account_115 rfl hm (by unfold zAcc; (repeat' split) <;> first | rfl | omega) (by first | (rw [sT_sT]; congr 1; unfold kAcc; (repeat' split) <;> first | rfl | omega) | (congr 1; unfold kAcc; (repeat' split) <;> first | rfl | omega))
  by_cases w6_6 : w = 6
  · refine r_tableIn (pc := 6) (off := 110) (tgt := 116) dX3_account_6 (by omega) (by omega) (by omega) (by rw [w6_6]; rfl) (by decide) ?_
    refine r_aload_n (pc := 116) dX3_account_116 rfl ?_
    refine gX3_7 (pc := 117) dX3_account_117 hm.1.1 rfl ?_
    refine r_iconst (pc := 120) dX3_account_120 ?_
    refine t_iald (pc := 121) (lim := 140) 0 dX3_account_121 hm (by decide) rfl (by first | omega | exact rfB_in _ | exact nz_in _ | exact hm.r _ _) (fun r121 => ?_)
    refine go_nm (fun z121 e121 => ?_)
    have r121 := InR_of e121 r121
    try simp [sT, cpT, cpN] at e121
    exact e_retT (pc := 122) dX3_account_122 rfl hm (by unfold zAcc; (repeat' split) <;> first | rfl | omega) (by first | (rw [sT_sT]; congr 1; unfold kAcc; (repeat' split) <;> first | rfl | omega) | (congr 1; unfold kAcc; (repeat' split) <;> first | rfl | omega))
  by_cases w6_7 : w = 7
  · refine r_tableIn (pc := 6) (off := 117) (tgt := 123) dX3_account_6 (by omega) (by omega) (by omega) (by rw [w6_7]; rfl) (by decide) ?_
    refine r_aload_n (pc := 123) dX3_account_123 rfl ?_
    refine gX3_7 (pc := 124) dX3_account_124 hm.1.1 rfl ?_
    refine r_iconst (pc := 127) dX3_account_127 ?_
    refine t_iald (pc := 128) (lim := 140) 0 dX3_account_128 hm (by decide) rfl (by first | omega | exact rfB_in _ | exact nz_in _ | exact hm.r _ _) (fun r128 => ?_)
    refine go_nm (fun z128 e128 => ?_)
    have r128 := InR_of e128 r128
    try simp [sT, cpT, cpN] at e128
    exact e_retT (pc := 129) dX3_account_129 rfl hm (by unfold zAcc; (repeat' split) <;> first | rfl | omega) (by first | (rw [sT_sT]; congr 1; unfold kAcc; (repeat' split) <;> first | rfl | omega) | (congr 1; unfold kAcc; (repeat' split) <;> first | rfl | omega))
  by_cases w6_8 : w = 8
  · refine r_tableIn (pc := 6) (off := 124) (tgt := 130) dX3_account_6 (by omega) (by omega) (by omega) (by rw [w6_8]; rfl) (by decide) ?_
    refine r_aload_n (pc := 130) dX3_account_130 rfl ?_
    refine gX3_7 (pc := 131) dX3_account_131 hm.1.1 rfl ?_
    refine r_bipush (pc := 134) dX3_account_134 (by decide) ?_
    refine t_iald (pc := 136) (lim := 140) 0 dX3_account_136 hm (by decide) rfl (by first | omega | exact rfB_in _ | exact nz_in _ | exact hm.r _ _) (fun r136 => ?_)
    refine go_nm (fun z136 e136 => ?_)
    have r136 := InR_of e136 r136
    try simp [sT, cpT, cpN] at e136
    exact e_retT (pc := 137) dX3_account_137 rfl hm (by unfold zAcc; (repeat' split) <;> first | rfl | omega) (by first | (rw [sT_sT]; congr 1; unfold kAcc; (repeat' split) <;> first | rfl | omega) | (congr 1; unfold kAcc; (repeat' split) <;> first | rfl | omega))
  by_cases w6_9 : w = 9
  · refine r_tableIn (pc := 6) (off := 132) (tgt := 138) dX3_account_6 (by omega) (by omega) (by omega) (by rw [w6_9]; rfl) (by decide) ?_
    refine r_aload_n (pc := 138) dX3_account_138 rfl ?_
    refine gX3_7 (pc := 139) dX3_account_139 hm.1.1 rfl ?_
    refine r_bipush (pc := 142) dX3_account_142 (by decide) ?_
    refine t_iald (pc := 144) (lim := 140) 0 dX3_account_144 hm (by decide) rfl (by first | omega | exact rfB_in _ | exact nz_in _ | exact hm.r _ _) (fun r144 => ?_)
    refine go_nm (fun z144 e144 => ?_)
    have r144 := InR_of e144 r144
    try simp [sT, cpT, cpN] at e144
    exact e_retT (pc := 145) dX3_account_145 rfl hm (by unfold zAcc; (repeat' split) <;> first | rfl | omega) (by first | (rw [sT_sT]; congr 1; unfold kAcc; (repeat' split) <;> first | rfl | omega) | (congr 1; unfold kAcc; (repeat' split) <;> first | rfl | omega))
  by_cases w6_10 : w = 10
  · refine r_tableIn (pc := 6) (off := 140) (tgt := 146) dX3_account_6 (by omega) (by omega) (by omega) (by rw [w6_10]; rfl) (by decide) ?_
    refine r_aload_n (pc := 146) dX3_account_146 rfl ?_
    refine gX3_7 (pc := 147) dX3_account_147 hm.1.1 rfl ?_
    refine r_bipush (pc := 150) dX3_account_150 (by decide) ?_
    refine t_iald (pc := 152) (lim := 140) 0 dX3_account_152 hm (by decide) rfl (by first | omega | exact rfB_in _ | exact nz_in _ | exact hm.r _ _) (fun r152 => ?_)
    refine go_nm (fun z152 e152 => ?_)
    have r152 := InR_of e152 r152
    try simp [sT, cpT, cpN] at e152
    exact e_retT (pc := 153) dX3_account_153 rfl hm (by unfold zAcc; (repeat' split) <;> first | rfl | omega) (by first | (rw [sT_sT]; congr 1; unfold kAcc; (repeat' split) <;> first | rfl | omega) | (congr 1; unfold kAcc; (repeat' split) <;> first | rfl | omega))
  by_cases w6_11 : w = 11
  · refine r_tableIn (pc := 6) (off := 148) (tgt := 154) dX3_account_6 (by omega) (by omega) (by omega) (by rw [w6_11]; rfl) (by decide) ?_
    refine r_aload_n (pc := 154) dX3_account_154 rfl ?_
    refine gX3_7 (pc := 155) dX3_account_155 hm.1.1 rfl ?_
    refine r_bipush (pc := 158) dX3_account_158 (by decide) ?_
    refine t_iald (pc := 160) (lim := 140) 0 dX3_account_160 hm (by decide) rfl (by first | omega | exact rfB_in _ | exact nz_in _ | exact hm.r _ _) (fun r160 => ?_)
    refine go_nm (fun z160 e160 => ?_)
    have r160 := InR_of e160 r160
    try simp [sT, cpT, cpN] at e160
    exact e_retT (pc := 161) dX3_account_161 rfl hm (by unfold zAcc; (repeat' split) <;> first | rfl | omega) (by first | (rw [sT_sT]; congr 1; unfold kAcc; (repeat' split) <;> first | rfl | omega) | (congr 1; unfold kAcc; (repeat' split) <;> first | rfl | omega))
  by_cases w6_12 : w = 12
  · refine r_tableIn (pc := 6) (off := 156) (tgt := 162) dX3_account_6 (by omega) (by omega) (by omega) (by rw [w6_12]; rfl) (by decide) ?_
    refine r_aload_n (pc := 162) dX3_account_162 rfl ?_
    refine gX3_66 (pc := 163) dX3_account_163 hm.1.1 rfl ?_; have r163 := hm.r 18 0
    refine go_nm (fun z163 e163 => ?_)
    have r163 := InR_of e163 r163
    try simp [sT, cpT, cpN] at e163
    exact e_retT (pc := 166) dX3_account_166 rfl hm (by unfold zAcc; (repeat' split) <;> first | rfl | omega) (by first | (rw [sT_sT]; congr 1; unfold kAcc; (repeat' split) <;> first | rfl | omega) | (congr 1; unfold kAcc; (repeat' split) <;> first | rfl | omega))
  by_cases w6_13 : w = 13
  · refine r_tableIn (pc := 6) (off := 161) (tgt := 167) dX3_account_6 (by omega) (by omega) (by omega) (by rw [w6_13]; rfl) (by decide) ?_
    refine r_aload_n (pc := 167) dX3_account_167 rfl ?_
    refine gX3_29 (pc := 168) dX3_account_168 hm.1.1 rfl ?_; have r168 := hm.r 6 0
    refine go_nm (fun z168 e168 => ?_)
    have r168 := InR_of e168 r168
    try simp [sT, cpT, cpN] at e168
    exact e_retT (pc := 171) dX3_account_171 rfl hm (by unfold zAcc; (repeat' split) <;> first | rfl | omega) (by first | (rw [sT_sT]; congr 1; unfold kAcc; (repeat' split) <;> first | rfl | omega) | (congr 1; unfold kAcc; (repeat' split) <;> first | rfl | omega))
  refine r_tableOut (pc := 6) (tgt := 172) dX3_account_6 (by first | omega | exact rfB_in _ | exact nz_in _ | exact hm.r _ _) (by omega) (by decide) ?_
  refine r_aload_n (pc := 172) dX3_account_172 rfl ?_
  refine r_iconst (pc := 173) dX3_account_173 ?_
  refine r_callV (pc := 174) (kb' := 0) dX3_account_174 kX3_no q2823 (t_no hm (by first | omega | (simp only [th0]; omega))) hm.1.1 rfl (Nat.le_refl _) (Nat.le_of_ble_eq_true rfl) rfl rfl (Nat.le_of_ble_eq_true rfl) (fun _ _ q => q.elim) (fun _ _ hq => go_T hq (fun h hm1 => ?_))
  have hm := hm.tr hm1
  try simp only [th0]
  exact e_retT (pc := 177) dX3_account_177 rfl hm (by unfold zAcc; (repeat' split) <;> first | rfl | omega) (by first | (rw [sT_sT]; congr 1; unfold kAcc; (repeat' split) <;> first | rfl | omega) | (congr 1; unfold kAcc; (repeat' split) <;> first | rfl | omega))
theorem t_faultPosition {G : Gl} {m : Nat} {ad : Nat → Nat} {h0 h : Hp} {T : TM} (hm : TI m ad h0 T h)  : Ct G 1 0 yX3_faultPosition (Cond.code yX3_faultPosition cX3_faultPosition 1 (some .int)) [.ref m] h (RT m ad h (T 13 0) (sT T 5 0 0)) noX := by
  have hm := hm.nw
  refine Ct.of (own := eM) (nm := "faultPosition") (by decide +kernel) rfl rfl (L := [some (.ref m)]) rfl (Nat.le_of_ble_eq_true rfl) rfl ?_
  refine r_aload_n (pc := 0) dX3_faultPosition_0 rfl ?_
  refine r_iconst (pc := 1) dX3_faultPosition_1 ?_
  refine pX3_25 (pc := 2) dX3_faultPosition_2 hm.1.1 (by decide) (Nat.le_of_ble_eq_true rfl) ?_
  refine t_put 5 rfl hm (by first | omega | exact rfB_in _ | exact nz_in _ | exact hm.r _ _) (fun h hm => ?_)
  refine r_aload_n (pc := 5) dX3_faultPosition_5 rfl ?_
  refine gX3_50 (pc := 6) dX3_faultPosition_6 hm.1.1 rfl ?_; have r6 := hm.r 13 0
  exact e_retT (pc := 9) dX3_faultPosition_9 rfl hm (by rw [sT_k (by decide)]) rfl
theorem t_isTold {G : Gl} {m : Nat} {ad : Nat → Nat} {h0 h : Hp} {T : TM} (hm : TI m ad h0 T h)  : Ct G 1 0 yX3_isTold (Cond.code yX3_isTold cX3_isTold 1 (some .boolean)) [.ref m] h (RT m ad h (1) (sT T 5 0 0)) noX := by
  have hm := hm.nw
  refine Ct.of (own := eM) (nm := "isTold") (by decide +kernel) rfl rfl (L := [some (.ref m)]) rfl (Nat.le_of_ble_eq_true rfl) rfl ?_
  refine r_aload_n (pc := 0) dX3_isTold_0 rfl ?_
  refine r_iconst (pc := 1) dX3_isTold_1 ?_
  refine pX3_25 (pc := 2) dX3_isTold_2 hm.1.1 (by decide) (Nat.le_of_ble_eq_true rfl) ?_
  refine t_put 5 rfl hm (by first | omega | exact rfB_in _ | exact nz_in _ | exact hm.r _ _) (fun h hm => ?_)
  refine r_iconst (pc := 5) dX3_isTold_5 ?_
  exact e_retTB (pc := 6) dX3_isTold_6 rfl (by first | (left; rfl) | (right; rfl) | exact rfB_01 _ | omega) hm (by first | rfl | omega | exact bZ_c (by omega) | exact (bZ_t (by omega)).symm | exact (bZ_f (by omega)).symm | exact bZ_t (by omega) | exact bZ_f (by omega)) rfl
theorem t_reason {G : Gl} {m : Nat} {ad : Nat → Nat} {h0 h9 : Hp} {T : TM} (hm : TI m ad h0 T h9) {d b : Int} (hd : InR d) (hb : b = 0 ∨ b = 1) : Ct G 2 0 yX3_reason (Cond.code yX3_reason cX3_reason 4 (some .int)) [.ref m, .int (iZ d), .int (iZ b)] h9 (RT m ad h9 (zRea T d b) (sT T 5 0 (kRea T d))) noX := by
  have hm := hm.nw
  refine Ct.of (own := eM) (nm := "reason") (by decide +kernel) rfl rfl (L := [some (.ref m), some (.int (iZ d)), some (.int (iZ b)), none]) rfl (Nat.le_of_ble_eq_true rfl) rfl ?_
  refine r_aload_n (pc := 0) dX3_reason_0 rfl ?_
  refine r_iconst (pc := 1) dX3_reason_1 ?_
  refine pX3_25 (pc := 2) dX3_reason_2 hm.1.1 (by decide) (Nat.le_of_ble_eq_true rfl) ?_
  refine t_put 5 rfl hm (by first | omega | exact rfB_in _ | exact nz_in _ | exact hm.r _ _) (fun h hm => ?_)
  refine r_iload_n (pc := 5) dX3_reason_5 rfl ?_
  refine r_iconst (pc := 6) dX3_reason_6 ?_
  refine r_iconst (pc := 7) dX3_reason_7 ?_
  refine r_callS (pc := 8) (kb' := 0) dX3_reason_8 kX3_in q2794 (t_in (by first | omega | (simp only [th0]; omega)) (by first | omega | (simp only [th0]; omega)) (by first | omega | (simp only [th0]; omega))) (Nat.le_refl _) (Nat.le_of_ble_eq_true rfl) rfl rfl (Nat.le_of_ble_eq_true rfl) (fun _ _ q => q.elim) (fun _ _ hq => go_E hq ?_)
  try simp only [th0]
  refine r_ifB_ne (pc := 11) (tgt := 20) dX3_reason_11 (by decide) (fun c11 => ?_) (fun c11 => ?_)
  · refine r_iload_n (pc := 20) dX3_reason_20 rfl ?_
    refine r_iconst (pc := 21) dX3_reason_21 ?_
    refine r_icmp_ne (pc := 22) (tgt := 32) dX3_reason_22 (by decide) (by first | omega | exact rfB_in _ | exact nz_in _ | exact hm.r _ _) (by first | omega | exact rfB_in _ | exact nz_in _ | exact hm.r _ _) (fun c22 => ?_) (fun c22 => ?_)
    · refine r_aload_n (pc := 32) dX3_reason_32 rfl ?_
      refine gX3_38 (pc := 33) dX3_reason_33 hm.1.1 rfl ?_; have r33 := hm.r 9 0
      refine go_nm (fun z33 e33 => ?_)
      have r33 := InR_of e33 r33
      try simp [sT, cpT, cpN] at e33
      refine r_istore_n (pc := 36) (L' := [_, _, _, _]) dX3_reason_36 rfl ?_
      refine r_iload_n (pc := 37) dX3_reason_37 rfl ?_
      refine r_if_ne (pc := 38) (tgt := 47) dX3_reason_38 (by decide) (by first | omega | exact rfB_in _ | exact nz_in _ | exact hm.r _ _) (fun c38 => ?_) (fun c38 => ?_)
      · refine r_iload_n (pc := 47) dX3_reason_47 rfl ?_
        refine r_if_ne (pc := 48) (tgt := 55) dX3_reason_48 (by decide) (by first | omega | exact rfB_in _ | exact nz_in _ | exact hm.r _ _) (fun c48 => ?_) (fun c48 => ?_)
        · refine r_iload_n (pc := 55) dX3_reason_55 rfl ?_
          refine r_iconst (pc := 56) dX3_reason_56 ?_
          refine r_icmp_ne (pc := 57) (tgt := 67) dX3_reason_57 (by decide) (by first | omega | exact rfB_in _ | exact nz_in _ | exact hm.r _ _) (by first | omega | exact rfB_in _ | exact nz_in _ | exact hm.r _ _) (fun c57 => ?_) (fun c57 => ?_)
          · refine r_aload_n (pc := 67) dX3_reason_67 rfl ?_
            refine gX3_41 (pc := 68) dX3_reason_68 hm.1.1 rfl ?_; have r68 := hm.r 10 0
            refine go_nm (fun z68 e68 => ?_)
            have r68 := InR_of e68 r68
            try simp [sT, cpT, cpN] at e68
            exact e_retT (pc := 71) dX3_reason_71 rfl hm (by unfold zRea kRea; (repeat' split) <;> first | rfl | omega) (by first | (rw [sT_sT]; congr 1; unfold kRea; (repeat' split) <;> first | rfl | omega) | (congr 1; unfold kRea; (repeat' split) <;> first | rfl | omega))
          · refine r_aload_n (pc := 60) dX3_reason_60 rfl ?_
            refine gX3_47 (pc := 61) dX3_reason_61 hm.1.1 rfl ?_; have r61 := hm.r 12 0
            refine go_nm (fun z61 e61 => ?_)
            have r61 := InR_of e61 r61
            try simp [sT, cpT, cpN] at e61
            refine r_goto (pc := 64) (tgt := 71) dX3_reason_64 (by decide) ?_
            exact e_retT (pc := 71) dX3_reason_71 rfl hm (by unfold zRea kRea; (repeat' split) <;> first | rfl | omega) (by first | (rw [sT_sT]; congr 1; unfold kRea; (repeat' split) <;> first | rfl | omega) | (congr 1; unfold kRea; (repeat' split) <;> first | rfl | omega))
        · refine r_iload_n (pc := 51) dX3_reason_51 rfl ?_
          refine r_goto (pc := 52) (tgt := 71) dX3_reason_52 (by decide) ?_
          exact e_retT (pc := 71) dX3_reason_71 rfl hm (by unfold zRea kRea; (repeat' split) <;> first | rfl | omega) (by first | (rw [sT_sT]; congr 1; unfold kRea; (repeat' split) <;> first | rfl | omega) | (congr 1; unfold kRea; (repeat' split) <;> first | rfl | omega))
      · refine r_aload_n (pc := 41) dX3_reason_41 rfl ?_
        refine r_iconst (pc := 42) dX3_reason_42 ?_
        refine r_callV (pc := 43) (kb' := 0) dX3_reason_43 kX3_no q2823 (t_no hm (by first | omega | (simp only [th0]; omega))) hm.1.1 rfl (Nat.le_refl _) (Nat.le_of_ble_eq_true rfl) rfl rfl (Nat.le_of_ble_eq_true rfl) (fun _ _ q => q.elim) (fun _ _ hq => go_T hq (fun h hm1 => ?_))
        have hm := hm.tr hm1
        try simp only [th0]
        exact e_retT (pc := 46) dX3_reason_46 rfl hm (by unfold zRea kRea; (repeat' split) <;> first | rfl | omega) (by first | (rw [sT_sT]; congr 1; unfold kRea; (repeat' split) <;> first | rfl | omega) | (congr 1; unfold kRea; (repeat' split) <;> first | rfl | omega))
    · refine r_aload_n (pc := 25) dX3_reason_25 rfl ?_
      refine gX3_44 (pc := 26) dX3_reason_26 hm.1.1 rfl ?_; have r26 := hm.r 11 0
      refine go_nm (fun z26 e26 => ?_)
      have r26 := InR_of e26 r26
      try simp [sT, cpT, cpN] at e26
      refine r_goto (pc := 29) (tgt := 36) dX3_reason_29 (by decide) ?_
      refine r_istore_n (pc := 36) (L' := [_, _, _, _]) dX3_reason_36 rfl ?_
      refine r_iload_n (pc := 37) dX3_reason_37 rfl ?_
      refine r_if_ne (pc := 38) (tgt := 47) dX3_reason_38 (by decide) (by first | omega | exact rfB_in _ | exact nz_in _ | exact hm.r _ _) (fun c38 => ?_) (fun c38 => ?_)
      · refine r_iload_n (pc := 47) dX3_reason_47 rfl ?_
        refine r_if_ne (pc := 48) (tgt := 55) dX3_reason_48 (by decide) (by first | omega | exact rfB_in _ | exact nz_in _ | exact hm.r _ _) (fun c48 => ?_) (fun c48 => ?_)
        · refine r_iload_n (pc := 55) dX3_reason_55 rfl ?_
          refine r_iconst (pc := 56) dX3_reason_56 ?_
          refine r_icmp_ne (pc := 57) (tgt := 67) dX3_reason_57 (by decide) (by first | omega | exact rfB_in _ | exact nz_in _ | exact hm.r _ _) (by first | omega | exact rfB_in _ | exact nz_in _ | exact hm.r _ _) (fun c57 => ?_) (fun c57 => ?_)
          · refine r_aload_n (pc := 67) dX3_reason_67 rfl ?_
            refine gX3_41 (pc := 68) dX3_reason_68 hm.1.1 rfl ?_; have r68 := hm.r 10 0
            refine go_nm (fun z68 e68 => ?_)
            have r68 := InR_of e68 r68
            try simp [sT, cpT, cpN] at e68
            exact e_retT (pc := 71) dX3_reason_71 rfl hm (by unfold zRea kRea; (repeat' split) <;> first | rfl | omega) (by first | (rw [sT_sT]; congr 1; unfold kRea; (repeat' split) <;> first | rfl | omega) | (congr 1; unfold kRea; (repeat' split) <;> first | rfl | omega))
          · refine r_aload_n (pc := 60) dX3_reason_60 rfl ?_
            refine gX3_47 (pc := 61) dX3_reason_61 hm.1.1 rfl ?_; have r61 := hm.r 12 0
            refine go_nm (fun z61 e61 => ?_)
            have r61 := InR_of e61 r61
            try simp [sT, cpT, cpN] at e61
            refine r_goto (pc := 64) (tgt := 71) dX3_reason_64 (by decide) ?_
            exact e_retT (pc := 71) dX3_reason_71 rfl hm (by unfold zRea kRea; (repeat' split) <;> first | rfl | omega) (by first | (rw [sT_sT]; congr 1; unfold kRea; (repeat' split) <;> first | rfl | omega) | (congr 1; unfold kRea; (repeat' split) <;> first | rfl | omega))
        · refine r_iload_n (pc := 51) dX3_reason_51 rfl ?_
          refine r_goto (pc := 52) (tgt := 71) dX3_reason_52 (by decide) ?_
          exact e_retT (pc := 71) dX3_reason_71 rfl hm (by unfold zRea kRea; (repeat' split) <;> first | rfl | omega) (by first | (rw [sT_sT]; congr 1; unfold kRea; (repeat' split) <;> first | rfl | omega) | (congr 1; unfold kRea; (repeat' split) <;> first | rfl | omega))
      · refine r_aload_n (pc := 41) dX3_reason_41 rfl ?_
        refine r_iconst (pc := 42) dX3_reason_42 ?_
        refine r_callV (pc := 43) (kb' := 0) dX3_reason_43 kX3_no q2823 (t_no hm (by first | omega | (simp only [th0]; omega))) hm.1.1 rfl (Nat.le_refl _) (Nat.le_of_ble_eq_true rfl) rfl rfl (Nat.le_of_ble_eq_true rfl) (fun _ _ q => q.elim) (fun _ _ hq => go_T hq (fun h hm1 => ?_))
        have hm := hm.tr hm1
        try simp only [th0]
        exact e_retT (pc := 46) dX3_reason_46 rfl hm (by unfold zRea kRea; (repeat' split) <;> first | rfl | omega) (by first | (rw [sT_sT]; congr 1; unfold kRea; (repeat' split) <;> first | rfl | omega) | (congr 1; unfold kRea; (repeat' split) <;> first | rfl | omega))
  · refine r_aload_n (pc := 14) dX3_reason_14 rfl ?_
    refine r_iconst (pc := 15) dX3_reason_15 ?_
    refine r_callV (pc := 16) (kb' := 0) dX3_reason_16 kX3_no q2823 (t_no hm (by first | omega | (simp only [th0]; omega))) hm.1.1 rfl (Nat.le_refl _) (Nat.le_of_ble_eq_true rfl) rfl rfl (Nat.le_of_ble_eq_true rfl) (fun _ _ q => q.elim) (fun _ _ hq => go_T hq (fun h hm1 => ?_))
    have hm := hm.tr hm1
    try simp only [th0]
    exact e_retT (pc := 19) dX3_reason_19 rfl hm (by unfold zRea kRea; (repeat' split) <;> first | rfl | omega) (by first | (rw [sT_sT]; congr 1; unfold kRea; (repeat' split) <;> first | rfl | omega) | (congr 1; unfold kRea; (repeat' split) <;> first | rfl | omega))
theorem t_undo {G : Gl} {m : Nat} {ad : Nat → Nat} {h0 h9 : Hp} {T : TM} (hm : TI m ad h0 T h9) (hC : 0 ≤ T 6 0 ∧ T 6 0 ≤ 8) : Ct G 2 0 yX3_undo (Cond.code yX3_undo cX3_undo 1 (some .int)) [.ref m] h9 (RT m ad h9 (udZ T) (udT T)) noX := by
  have hm := hm.nw
  refine Ct.of (own := eM) (nm := "undo") (by decide +kernel) rfl rfl (L := [some (.ref m)]) rfl (Nat.le_of_ble_eq_true rfl) rfl ?_
  refine r_aload_n (pc := 0) dX3_undo_0 rfl ?_
  refine r_iconst (pc := 1) dX3_undo_1 ?_
  refine pX3_25 (pc := 2) dX3_undo_2 hm.1.1 (by decide) (Nat.le_of_ble_eq_true rfl) ?_
  refine t_put 5 rfl hm (by first | omega | exact rfB_in _ | exact nz_in _ | exact hm.r _ _) (fun h hm => ?_)
  refine r_aload_n (pc := 5) dX3_undo_5 rfl ?_
  refine gX3_29 (pc := 6) dX3_undo_6 hm.1.1 rfl ?_; have r6 := hm.r 6 0
  refine go_nm (fun z6 e6 => ?_)
  have r6 := InR_of e6 r6
  try simp [sT, cpT, cpN] at e6
  refine r_if_ne (pc := 9) (tgt := 18) dX3_undo_9 (by decide) (by first | omega | exact rfB_in _ | exact nz_in _ | exact hm.r _ _) (fun c9 => ?_) (fun c9 => ?_)
  · refine r_aload_n (pc := 18) dX3_undo_18 rfl ?_
    refine r_dup (pc := 19) dX3_undo_19 rfl ?_
    refine gX3_29 (pc := 20) dX3_undo_20 hm.1.1 rfl ?_; have r20 := hm.r 6 0
    refine go_nm (fun z20 e20 => ?_)
    have r20 := InR_of e20 r20
    try simp [sT, cpT, cpN] at e20
    refine r_iconst (pc := 23) dX3_undo_23 ?_
    refine r_isub (pc := 24) dX3_undo_24 ?_
    refine pX3_29 (pc := 25) dX3_undo_25 hm.1.1 (by decide) (Nat.le_of_ble_eq_true rfl) ?_
    refine t_put 6 rfl hm (by first | omega | exact rfB_in _ | exact nz_in _ | exact hm.r _ _) (fun h hm => ?_)
    refine r_aload_n (pc := 28) dX3_undo_28 rfl ?_
    refine gX3_22 (pc := 29) dX3_undo_29 hm.1.1 rfl ?_
    refine r_sipush (pc := 32) dX3_undo_32 (by decide) ?_
    refine r_aload_n (pc := 35) dX3_undo_35 rfl ?_
    refine gX3_29 (pc := 36) dX3_undo_36 hm.1.1 rfl ?_; have r36 := hm.r 6 0
    refine go_nm (fun z36 e36 => ?_)
    have r36 := InR_of e36 r36
    try simp [sT, cpT, cpN] at e36
    refine r_imul (pc := 39) dX3_undo_39 ?_
    refine r_aload_n (pc := 40) dX3_undo_40 rfl ?_
    refine gX3_7 (pc := 41) dX3_undo_41 hm.1.1 rfl ?_
    refine r_iconst (pc := 44) dX3_undo_44 ?_
    refine r_callS (pc := 45) (kb' := 0) dX3_undo_45 kX3_copies q2787 (t_copies hm (by decide) (by decide) (by simp only [szF]; omega) (by simp only [szF]; omega) (by omega)) (Nat.le_refl _) (Nat.le_of_ble_eq_true rfl) rfl rfl (Nat.le_of_ble_eq_true rfl) (fun _ _ q => q.elim) (fun _ _ hq => go_V hq (fun h hm1 => ?_))
    have hm := hm.tr hm1
    refine r_aload_n (pc := 48) dX3_undo_48 rfl ?_
    refine gX3_29 (pc := 49) dX3_undo_49 hm.1.1 rfl ?_; have r49 := hm.r 6 0
    refine go_nm (fun z49 e49 => ?_)
    have r49 := InR_of e49 r49
    try simp [sT, cpT, cpN] at e49
    exact e_retT (pc := 52) dX3_undo_52 rfl hm (by unfold udZ; (repeat' split) <;> omega) (by first | (unfold udT; rw [if_pos (by omega), sT_sT]; done) | (unfold udT; rw [if_neg (by omega), e36, e20]; done))
  · refine r_aload_n (pc := 12) dX3_undo_12 rfl ?_
    refine r_iconst (pc := 13) dX3_undo_13 ?_
    refine r_callV (pc := 14) (kb' := 0) dX3_undo_14 kX3_no q2823 (t_no hm (by omega)) hm.1.1 rfl (Nat.le_refl _) (Nat.le_of_ble_eq_true rfl) rfl rfl (Nat.le_of_ble_eq_true rfl) (fun _ _ q => q.elim) (fun _ _ hq => go_T hq (fun h hm1 => ?_))
    have hm := hm.tr hm1
    exact e_retT (pc := 17) dX3_undo_17 rfl hm (by unfold udZ; (repeat' split) <;> omega) (by first | (unfold udT; rw [if_pos (by omega), sT_sT]; done) | (unfold udT; rw [if_neg (by omega), e36, e20]; done))
theorem t_save {G : Gl} {m : Nat} {ad : Nat → Nat} {h0 h : Hp} {T : TM} (hm : TI m ad h0 T h)  : Ct G 2 0 yX3_save (Cond.code yX3_save cX3_save 1 (some .int)) [.ref m] h (RT m ad h (T 0 0) (svT T)) noX := by
  have hm := hm.nw
  refine Ct.of (own := eM) (nm := "save") (by decide +kernel) rfl rfl (L := [some (.ref m)]) rfl (Nat.le_of_ble_eq_true rfl) rfl ?_
  refine r_aload_n (pc := 0) dX3_save_0 rfl ?_
  refine r_iconst (pc := 1) dX3_save_1 ?_
  refine pX3_25 (pc := 2) dX3_save_2 hm.1.1 (by decide) (Nat.le_of_ble_eq_true rfl) ?_
  refine t_put 5 rfl hm (by first | omega | exact rfB_in _ | exact nz_in _ | exact hm.r _ _) (fun h hm => ?_)
  refine r_aload_n (pc := 5) dX3_save_5 rfl ?_
  refine gX3_7 (pc := 6) dX3_save_6 hm.1.1 rfl ?_
  refine r_iconst (pc := 9) dX3_save_9 ?_
  refine r_aload_n (pc := 10) dX3_save_10 rfl ?_
  refine gX3_19 (pc := 11) dX3_save_11 hm.1.1 rfl ?_
  refine r_iconst (pc := 14) dX3_save_14 ?_
  refine r_callS (pc := 15) (kb' := 0) dX3_save_15 kX3_copies q2787 (t_copies hm (by decide) (by decide) (by simp only [szF]; omega) (by simp only [szF]; omega) (by omega)) (Nat.le_refl _) (Nat.le_of_ble_eq_true rfl) rfl rfl (Nat.le_of_ble_eq_true rfl) (fun _ _ q => q.elim) (fun _ _ hq => go_V hq (fun h hm1 => ?_))
  have hm := hm.tr hm1
  refine r_aload_n (pc := 18) dX3_save_18 rfl ?_
  refine r_iconst (pc := 19) dX3_save_19 ?_
  refine pX3_53 (pc := 20) dX3_save_20 (iZ01 (by first | (left; rfl) | (right; rfl) | exact bZ_01 _ | omega)) hm.1.1 (by decide) (Nat.le_of_ble_eq_true rfl) ?_
  refine t_putB 14 (by decide) hm (by first | (left; rfl) | (right; rfl) | exact bZ_01 _ | omega) (fun h hm => ?_)
  refine r_aload_n (pc := 23) dX3_save_23 rfl ?_
  refine gX3_7 (pc := 24) dX3_save_24 hm.1.1 rfl ?_
  refine r_iconst (pc := 27) dX3_save_27 ?_
  refine t_iald (pc := 28) (lim := 140) 0 dX3_save_28 hm (by decide) rfl (by first | omega | exact rfB_in _ | exact nz_in _ | exact hm.r _ _) (fun r28 => ?_)
  exact e_retT (pc := 29) dX3_save_29 rfl hm (by simp [sT, cpT, cpN]) rfl
theorem t_restore {G : Gl} {m : Nat} {ad : Nat → Nat} {h0 h9 : Hp} {T : TM} (hm : TI m ad h0 T h9)  : Ct G 2 0 yX3_restore (Cond.code yX3_restore cX3_restore 1 (some .int)) [.ref m] h9 (RT m ad h9 (rsZ T) (rsT T)) noX := by
  have hm := hm.nw
  refine Ct.of (own := eM) (nm := "restore") (by decide +kernel) rfl rfl (L := [some (.ref m)]) rfl (Nat.le_of_ble_eq_true rfl) rfl ?_
  refine r_aload_n (pc := 0) dX3_restore_0 rfl ?_
  refine r_iconst (pc := 1) dX3_restore_1 ?_
  refine pX3_25 (pc := 2) dX3_restore_2 hm.1.1 (by decide) (Nat.le_of_ble_eq_true rfl) ?_
  refine t_put 5 rfl hm (by first | omega | exact rfB_in _ | exact nz_in _ | exact hm.r _ _) (fun h hm => ?_)
  refine r_aload_n (pc := 5) dX3_restore_5 rfl ?_
  refine gX3_53 (pc := 6) dX3_restore_6 hm.1.1 rfl ?_; have r6 := hm.r 14 0
  refine go_nm (fun z6 e6 => ?_)
  have r6 := InR_of e6 r6
  try simp [sT, cpT, cpN] at e6
  refine r_if_ne (pc := 9) (tgt := 18) dX3_restore_9 (by decide) (by first | omega | exact rfB_in _ | exact nz_in _ | exact hm.r _ _) (fun c9 => ?_) (fun c9 => ?_)
  · refine r_aload_n (pc := 18) dX3_restore_18 rfl ?_
    refine gX3_19 (pc := 19) dX3_restore_19 hm.1.1 rfl ?_
    refine r_iconst (pc := 22) dX3_restore_22 ?_
    refine r_aload_n (pc := 23) dX3_restore_23 rfl ?_
    refine gX3_7 (pc := 24) dX3_restore_24 hm.1.1 rfl ?_
    refine r_iconst (pc := 27) dX3_restore_27 ?_
    refine r_callS (pc := 28) (kb' := 0) dX3_restore_28 kX3_copies q2787 (t_copies hm (by decide) (by decide) (by simp only [szF]; omega) (by simp only [szF]; omega) (by omega)) (Nat.le_refl _) (Nat.le_of_ble_eq_true rfl) rfl rfl (Nat.le_of_ble_eq_true rfl) (fun _ _ q => q.elim) (fun _ _ hq => go_V hq (fun h hm1 => ?_))
    have hm := hm.tr hm1
    refine r_aload_n (pc := 31) dX3_restore_31 rfl ?_
    refine r_iconst (pc := 32) dX3_restore_32 ?_
    refine pX3_29 (pc := 33) dX3_restore_33 hm.1.1 (by decide) (Nat.le_of_ble_eq_true rfl) ?_
    refine t_put 6 rfl hm (by first | omega | exact rfB_in _ | exact nz_in _ | exact hm.r _ _) (fun h hm => ?_)
    refine r_aload_n (pc := 36) dX3_restore_36 rfl ?_
    refine gX3_7 (pc := 37) dX3_restore_37 hm.1.1 rfl ?_
    refine r_iconst (pc := 40) dX3_restore_40 ?_
    refine t_iald (pc := 41) (lim := 140) 0 dX3_restore_41 hm (by decide) rfl (by first | omega | exact rfB_in _ | exact nz_in _ | exact hm.r _ _) (fun r41 => ?_)
    exact e_retT (pc := 42) dX3_restore_42 rfl hm (by unfold rsZ; (repeat' split) <;> first | omega | (simp [sT, cpT, cpN]; done)) (by first | (unfold rsT; rw [if_pos (by omega), sT_sT]; done) | (unfold rsT; rw [if_neg (by omega)]; done))
  · refine r_aload_n (pc := 12) dX3_restore_12 rfl ?_
    refine r_iconst (pc := 13) dX3_restore_13 ?_
    refine r_callV (pc := 14) (kb' := 0) dX3_restore_14 kX3_no q2823 (t_no hm (by omega)) hm.1.1 rfl (Nat.le_refl _) (Nat.le_of_ble_eq_true rfl) rfl rfl (Nat.le_of_ble_eq_true rfl) (fun _ _ q => q.elim) (fun _ _ hq => go_T hq (fun h hm1 => ?_))
    have hm := hm.tr hm1
    exact e_retT (pc := 17) dX3_restore_17 rfl hm (by unfold rsZ; (repeat' split) <;> first | omega | (simp [sT, cpT, cpN]; done)) (by first | (unfold rsT; rw [if_pos (by omega), sT_sT]; done) | (unfold rsT; rw [if_neg (by omega)]; done))
theorem t_append {G : Gl} {m : Nat} {ad : Nat → Nat} {h0 h9 : Hp} {T : TM} (hm : TI m ad h0 T h9) {c : Int} (hc : InR c) (hf : 0 ≤ T 18 0 ∧ T 18 0 ≤ 60) : Ct G 2 0 yX3_append (Cond.code yX3_append cX3_append 2 (some .int)) [.ref m, .int (iZ c)] h9 (RT m ad h9 (zApp T c) (apT T c)) noX := by
  have hm := hm.nw
  refine Ct.of (own := eM) (nm := "append") (by decide +kernel) rfl rfl (L := [some (.ref m), some (.int (iZ c))]) rfl (Nat.le_of_ble_eq_true rfl) rfl ?_
  refine r_aload_n (pc := 0) dX3_append_0 rfl ?_
  refine r_iconst (pc := 1) dX3_append_1 ?_
  refine pX3_25 (pc := 2) dX3_append_2 hm.1.1 (by decide) (Nat.le_of_ble_eq_true rfl) ?_
  refine t_put 5 rfl hm (by first | omega | exact rfB_in _ | exact nz_in _ | exact hm.r _ _) (fun h hm => ?_)
  refine r_iload_n (pc := 5) dX3_append_5 rfl ?_
  refine r_bipush (pc := 6) dX3_append_6 (by decide) ?_
  refine r_bipush (pc := 8) dX3_append_8 (by decide) ?_
  refine r_callS (pc := 10) (kb' := 0) dX3_append_10 kX3_in q2794 (t_in (by omega) (by omega) (by omega)) (Nat.le_refl _) (Nat.le_of_ble_eq_true rfl) rfl rfl (Nat.le_of_ble_eq_true rfl) (fun _ _ q => q.elim) (fun _ _ hq => go_E hq ?_)
  refine r_ifB_ne (pc := 13) (tgt := 22) dX3_append_13 (by decide) (fun c13 => ?_) (fun c13 => ?_)
  · refine r_aload_n (pc := 22) dX3_append_22 rfl ?_
    refine gX3_66 (pc := 23) dX3_append_23 hm.1.1 rfl ?_; have r23 := hm.r 18 0
    refine go_nm (fun z23 e23 => ?_)
    have r23 := InR_of e23 r23
    try simp [sT, cpT, cpN] at e23
    refine r_bipush (pc := 26) dX3_append_26 (by decide) ?_
    refine r_icmp_ne (pc := 28) (tgt := 37) dX3_append_28 (by decide) (by first | omega | exact rfB_in _ | exact nz_in _ | exact hm.r _ _) (by first | omega | exact rfB_in _ | exact nz_in _ | exact hm.r _ _) (fun c28 => ?_) (fun c28 => ?_)
    · refine r_aload_n (pc := 37) dX3_append_37 rfl ?_
      refine gX3_57 (pc := 38) dX3_append_38 hm.1.1 rfl ?_
      refine r_aload_n (pc := 41) dX3_append_41 rfl ?_
      refine gX3_66 (pc := 42) dX3_append_42 hm.1.1 rfl ?_; have r42 := hm.r 18 0
      refine go_nm (fun z42 e42 => ?_)
      have r42 := InR_of e42 r42
      try simp [sT, cpT, cpN] at e42
      refine r_iload_n (pc := 45) dX3_append_45 rfl ?_
      refine t_iast (pc := 46) (lim := 60) 15 dX3_append_46 hm (by decide) rfl (by first | omega | exact rfB_in _ | exact nz_in _ | exact hm.r _ _) (by first | omega | exact rfB_in _ | exact nz_in _ | exact hm.r _ _) (fun h hm => ?_)
      refine r_aload_n (pc := 47) dX3_append_47 rfl ?_
      refine r_dup (pc := 48) dX3_append_48 rfl ?_
      refine gX3_66 (pc := 49) dX3_append_49 hm.1.1 rfl ?_; have r49 := hm.r 18 0
      refine go_nm (fun z49 e49 => ?_)
      have r49 := InR_of e49 r49
      try simp [sT, cpT, cpN] at e49
      refine r_iconst (pc := 52) dX3_append_52 ?_
      refine r_iadd (pc := 53) dX3_append_53 ?_
      refine pX3_66 (pc := 54) dX3_append_54 hm.1.1 (by decide) (Nat.le_of_ble_eq_true rfl) ?_
      refine t_put 18 rfl hm (by first | omega | exact rfB_in _ | exact nz_in _ | exact hm.r _ _) (fun h hm => ?_)
      refine r_aload_n (pc := 57) dX3_append_57 rfl ?_
      refine gX3_66 (pc := 58) dX3_append_58 hm.1.1 rfl ?_; have r58 := hm.r 18 0
      refine go_nm (fun z58 e58 => ?_)
      have r58 := InR_of e58 r58
      try simp [sT, cpT, cpN] at e58
      exact e_retT (pc := 61) dX3_append_61 rfl hm (by unfold zApp kApp; (repeat' split) <;> omega) (by unfold apT kApp; (repeat' split) <;> first | omega | (rw [sT_sT]; done) | (rw [e42, e49]; done))
    · refine r_aload_n (pc := 31) dX3_append_31 rfl ?_
      refine r_iconst (pc := 32) dX3_append_32 ?_
      refine r_callV (pc := 33) (kb' := 0) dX3_append_33 kX3_no q2823 (t_no hm (by omega)) hm.1.1 rfl (Nat.le_refl _) (Nat.le_of_ble_eq_true rfl) rfl rfl (Nat.le_of_ble_eq_true rfl) (fun _ _ q => q.elim) (fun _ _ hq => go_T hq (fun h hm1 => ?_))
      have hm := hm.tr hm1
      exact e_retT (pc := 36) dX3_append_36 rfl hm (by unfold zApp kApp; (repeat' split) <;> omega) (by unfold apT kApp; (repeat' split) <;> first | omega | (rw [sT_sT]; done) | (rw [e42, e49]; done))
  · refine r_aload_n (pc := 16) dX3_append_16 rfl ?_
    refine r_iconst (pc := 17) dX3_append_17 ?_
    refine r_callV (pc := 18) (kb' := 0) dX3_append_18 kX3_no q2823 (t_no hm (by omega)) hm.1.1 rfl (Nat.le_refl _) (Nat.le_of_ble_eq_true rfl) rfl rfl (Nat.le_of_ble_eq_true rfl) (fun _ _ q => q.elim) (fun _ _ hq => go_T hq (fun h hm1 => ?_))
    have hm := hm.tr hm1
    exact e_retT (pc := 21) dX3_append_21 rfl hm (by unfold zApp kApp; (repeat' split) <;> omega) (by unfold apT kApp; (repeat' split) <;> first | omega | (rw [sT_sT]; done) | (rw [e42, e49]; done))
