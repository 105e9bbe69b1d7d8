set_option maxRecDepth 100000
theorem t_isHeat {G : Gl} {h : Hp} {x : Int} (hx : InR x) : Ct G 2 0 yX3_isHeat (Cond.code yX3_isHeat cX3_isHeat 1 (some .boolean)) [.int (iZ x)] h (RE (bZ (10 ≤ x ∧ x ≤ 99)) h) noX := by
  refine Ct.of (own := eM) (nm := "isHeat") (by decide +kernel) rfl rfl (L := [some (.int (iZ x))]) rfl (Nat.le_of_ble_eq_true rfl) rfl ?_
  refine r_iload_n (pc := 0) dX3_isHeat_0 rfl ?_
  refine r_bipush (pc := 1) dX3_isHeat_1 (by decide) ?_
  refine r_bipush (pc := 3) dX3_isHeat_3 (by decide) ?_
  refine r_callS (pc := 5) (kb' := 0) dX3_isHeat_5 kX3_in q2794 (t_in (by omega) (by omega) (by omega)) (Nat.le_refl _) (Nat.le_of_ble_eq_true rfl) rfl rfl (Nat.le_of_ble_eq_true rfl) (fun _ _ q => q.elim) (fun _ _ hq => go_E hq ?_)
  exact e_retB (pc := 8) dX3_isHeat_8 rfl (by first | (left; rfl) | (right; rfl) | exact bZ_01 _ | omega) (by first | rfl | omega | exact bZ_c (by omega) | exact (bZ_t (by omega)).symm | exact (bZ_f (by omega)).symm | exact bZ_t (by omega) | exact bZ_f (by omega))
theorem t_heatOn {G : Gl} {h : Hp} {s x : Int} (hs : -1 ≤ s ∧ s ≤ 2) (hx : 10 ≤ x ∧ x ≤ 99) : Ct G 1 0 yX3_heatOn (Cond.code yX3_heatOn cX3_heatOn 2 (some .int)) [.int (iZ s), .int (iZ x)] h (RE (heatZ s x) h) noX := by
  refine Ct.of (own := eM) (nm := "heatOn") (by decide +kernel) rfl rfl (L := [some (.int (iZ s)), some (.int (iZ x))]) rfl (Nat.le_of_ble_eq_true rfl) rfl ?_
  refine r_iload_n (pc := 0) dX3_heatOn_0 rfl ?_
  refine r_bipush (pc := 1) dX3_heatOn_1 (by decide) ?_
  refine r_iload_n (pc := 3) dX3_heatOn_3 rfl ?_
  refine r_imul (pc := 4) dX3_heatOn_4 ?_
  refine r_icmp_le (pc := 5) (tgt := 17) dX3_heatOn_5 (by decide) (by first | omega | exact rfB_in _ | exact nz_in _ | exact hm.r _ _) (by first | omega | exact rfB_in _ | exact nz_in _ | exact hm.r _ _) (fun c5 => ?_) (fun c5 => ?_)
  · refine r_iconst (pc := 17) dX3_heatOn_17 ?_
    exact e_ret (pc := 18) dX3_heatOn_18 rfl (by unfold heatZ; (repeat' split) <;> first | rfl | omega)
  · refine r_iload_n (pc := 8) dX3_heatOn_8 rfl ?_
    refine r_bipush (pc := 9) dX3_heatOn_9 (by decide) ?_
    refine r_iload_n (pc := 11) dX3_heatOn_11 rfl ?_
    refine r_imul (pc := 12) dX3_heatOn_12 ?_
    refine r_isub (pc := 13) dX3_heatOn_13 ?_
    refine r_goto (pc := 14) (tgt := 18) dX3_heatOn_14 (by decide) ?_
    exact e_ret (pc := 18) dX3_heatOn_18 rfl (by unfold heatZ; (repeat' split) <;> first | rfl | omega)
theorem t_limitOf {G : Gl} {m : Nat} {ad : Nat → Nat} {h0 h : Hp} {T : TM} (hm : TI m ad h0 T h) {a : Int} (hI : RI (T 0)) (ha : 0 ≤ a ∧ a < T 0 0) : Ct G 2 0 yX3_limitOf (Cond.code yX3_limitOf cX3_limitOf 2 (some .int)) [.ref m, .int (iZ a)] h (RE (limZ (T 0) a) h) noX := by
  have hm := hm.nw
  have hb := hI.1
  have ho := hI.2.1 a ha.1 ha.2
  have ho2 := ho
  unfold artOk at ho
  refine Ct.of (own := eM) (nm := "limitOf") (by decide +kernel) rfl rfl (L := [some (.ref m), some (.int (iZ a))]) rfl (Nat.le_of_ble_eq_true rfl) rfl ?_
  refine r_bipush (pc := 0) dX3_limitOf_0 (by decide) ?_
  refine r_aload_n (pc := 2) dX3_limitOf_2 rfl ?_
  refine r_iload_n (pc := 3) dX3_limitOf_3 rfl ?_
  refine r_iconst (pc := 4) dX3_limitOf_4 ?_
  refine r_callV (pc := 5) (kb' := 0) dX3_limitOf_5 kX3_av q2815 (t_av hm (by omega) (by omega)) hm.1.1 rfl (Nat.le_refl _) (Nat.le_of_ble_eq_true rfl) rfl rfl (Nat.le_of_ble_eq_true rfl) (fun _ _ q => q.elim) (fun _ _ hq => go_E hq ?_)
  refine r_imul (pc := 8) dX3_limitOf_8 ?_
  refine r_bipush (pc := 9) dX3_limitOf_9 (by decide) ?_
  refine r_iadd (pc := 11) dX3_limitOf_11 ?_
  refine r_bipush (pc := 12) dX3_limitOf_12 (by decide) ?_
  refine r_aload_n (pc := 14) dX3_limitOf_14 rfl ?_
  refine r_iload_n (pc := 15) dX3_limitOf_15 rfl ?_
  refine r_iconst (pc := 16) dX3_limitOf_16 ?_
  refine r_callV (pc := 17) (kb' := 0) dX3_limitOf_17 kX3_av q2815 (t_av hm (by omega) (by omega)) hm.1.1 rfl (Nat.le_refl _) (Nat.le_of_ble_eq_true rfl) rfl rfl (Nat.le_of_ble_eq_true rfl) (fun _ _ q => q.elim) (fun _ _ hq => go_E hq ?_)
  refine r_imul (pc := 20) dX3_limitOf_20 ?_
  refine r_iadd (pc := 21) dX3_limitOf_21 ?_
  exact e_ret (pc := 22) dX3_limitOf_22 rfl rfl
theorem t_crackedBy {G : Gl} {m : Nat} {ad : Nat → Nat} {h0 h : Hp} {T : TM} (hm : TI m ad h0 T h) {a x : Int} (hI : RI (T 0)) (ha : 0 ≤ a ∧ a < T 0 0) (hx : 10 ≤ x ∧ x ≤ 99) : Ct G 3 0 yX3_crackedBy (Cond.code yX3_crackedBy cX3_crackedBy 4 (some .int)) [.ref m, .int (iZ a), .int (iZ x)] h (RE (crZ (T 0) a x) h) noX := by
  have hm := hm.nw
  have hb := hI.1
  have ho := hI.2.1 a ha.1 ha.2
  have ho2 := ho
  unfold artOk at ho
  have h7 := heat_in (s := fA (T 0) a 4) (x := x) (by omega) hx
  have h8 := lim_in ho2
  refine Ct.of (own := eM) (nm := "crackedBy") (by decide +kernel) rfl rfl (L := [some (.ref m), some (.int (iZ a)), some (.int (iZ x)), none]) rfl (Nat.le_of_ble_eq_true rfl) rfl ?_
  refine r_aload_n (pc := 0) dX3_crackedBy_0 rfl ?_
  refine r_iload_n (pc := 1) dX3_crackedBy_1 rfl ?_
  refine r_iconst (pc := 2) dX3_crackedBy_2 ?_
  refine r_callV (pc := 3) (kb' := 0) dX3_crackedBy_3 kX3_av q2815 (t_av hm (by omega) (by omega)) hm.1.1 rfl (Nat.le_refl _) (Nat.le_of_ble_eq_true rfl) rfl rfl (Nat.le_of_ble_eq_true rfl) (fun _ _ q => q.elim) (fun _ _ hq => go_E hq ?_)
  refine r_if_ge (pc := 6) (tgt := 11) dX3_crackedBy_6 (by decide) (by first | omega | exact rfB_in _ | exact nz_in _ | exact hm.r _ _) (fun c6 => ?_) (fun c6 => ?_)
  · refine r_aload_n (pc := 11) dX3_crackedBy_11 rfl ?_
    refine r_iload_n (pc := 12) dX3_crackedBy_12 rfl ?_
    refine r_iconst (pc := 13) dX3_crackedBy_13 ?_
    refine r_callV (pc := 14) (kb' := 0) dX3_crackedBy_14 kX3_av q2815 (t_av hm (by omega) (by omega)) hm.1.1 rfl (Nat.le_refl _) (Nat.le_of_ble_eq_true rfl) rfl rfl (Nat.le_of_ble_eq_true rfl) (fun _ _ q => q.elim) (fun _ _ hq => go_E hq ?_)
    refine r_iload_n (pc := 17) dX3_crackedBy_17 rfl ?_
    refine r_callS (pc := 18) (kb' := 0) dX3_crackedBy_18 kX3_heatOn q2902 (t_heatOn (by omega) (by omega)) (Nat.le_refl _) (Nat.le_of_ble_eq_true rfl) rfl rfl (Nat.le_of_ble_eq_true rfl) (fun _ _ q => q.elim) (fun _ _ hq => go_E hq ?_)
    refine r_aload_n (pc := 21) dX3_crackedBy_21 rfl ?_
    refine r_iload_n (pc := 22) dX3_crackedBy_22 rfl ?_
    refine r_callV (pc := 23) (kb' := 0) dX3_crackedBy_23 kX3_limitOf q2905 (t_limitOf hm hI (by omega)) hm.1.1 rfl (Nat.le_refl _) (Nat.le_of_ble_eq_true rfl) rfl rfl (Nat.le_of_ble_eq_true rfl) (fun _ _ q => q.elim) (fun _ _ hq => go_E hq ?_)
    refine r_isub (pc := 26) dX3_crackedBy_26 ?_
    refine r_istore_n (pc := 27) (L' := [_, _, _, _]) dX3_crackedBy_27 rfl ?_
    refine r_iload_n (pc := 28) dX3_crackedBy_28 rfl ?_
    refine r_if_le (pc := 29) (tgt := 40) dX3_crackedBy_29 (by decide) (by first | omega | exact rfB_in _ | exact nz_in _ | exact hm.r _ _) (fun c29 => ?_) (fun c29 => ?_)
    · refine r_iconst (pc := 40) dX3_crackedBy_40 ?_
      exact e_ret (pc := 41) dX3_crackedBy_41 rfl (by unfold crZ; (repeat' split) <;> first | rfl | omega)
    · refine r_iconst (pc := 32) dX3_crackedBy_32 ?_
      refine r_iload_n (pc := 33) dX3_crackedBy_33 rfl ?_
      refine r_iconst (pc := 34) dX3_crackedBy_34 ?_
      refine r_idiv (pc := 35) dX3_crackedBy_35 (by first | omega | exact rfB_in _ | exact nz_in _ | exact hm.r _ _) (by first | omega | exact rfB_in _ | exact nz_in _ | exact hm.r _ _) (by first | omega | exact rfB_in _ | exact nz_in _ | exact hm.r _ _) ?_
      refine r_iadd (pc := 36) dX3_crackedBy_36 ?_
      refine r_goto (pc := 37) (tgt := 41) dX3_crackedBy_37 (by decide) ?_
      exact e_ret (pc := 41) dX3_crackedBy_41 rfl (by unfold crZ; (repeat' split) <;> first | rfl | omega)
  · refine r_iconst (pc := 9) dX3_crackedBy_9 ?_
    exact e_ret (pc := 10) dX3_crackedBy_10 rfl (by unfold crZ; (repeat' split) <;> first | rfl | omega)
theorem t_bursts {G : Gl} {m : Nat} {ad : Nat → Nat} {h0 h : Hp} {T : TM} (hm : TI m ad h0 T h) {a x : Int} (hI : RI (T 0)) (ha : 0 ≤ a ∧ a < T 0 0) (hx : 10 ≤ x ∧ x ≤ 99) : Ct G 4 0 yX3_bursts (Cond.code yX3_bursts cX3_bursts 3 (some .boolean)) [.ref m, .int (iZ a), .int (iZ x)] h (RE (bZ (burP (T 0) a x)) h) noX := by
  have hm := hm.nw
  have hb := hI.1
  have ho := hI.2.1 a ha.1 ha.2
  have ho2 := ho
  unfold artOk at ho
  have h9 := cr_in ho2 hx
  refine Ct.of (own := eM) (nm := "bursts") (by decide +kernel) rfl rfl (L := [some (.ref m), some (.int (iZ a)), some (.int (iZ x))]) rfl (Nat.le_of_ble_eq_true rfl) rfl ?_
  refine r_aload_n (pc := 0) dX3_bursts_0 rfl ?_
  refine r_iload_n (pc := 1) dX3_bursts_1 rfl ?_
  refine r_iconst (pc := 2) dX3_bursts_2 ?_
  refine r_callV (pc := 3) (kb' := 0) dX3_bursts_3 kX3_av q2815 (t_av hm (by omega) (by omega)) hm.1.1 rfl (Nat.le_refl _) (Nat.le_of_ble_eq_true rfl) rfl rfl (Nat.le_of_ble_eq_true rfl) (fun _ _ q => q.elim) (fun _ _ hq => go_E hq ?_)
  refine r_aload_n (pc := 6) dX3_bursts_6 rfl ?_
  refine r_iload_n (pc := 7) dX3_bursts_7 rfl ?_
  refine r_iload_n (pc := 8) dX3_bursts_8 rfl ?_
  refine r_callV (pc := 9) (kb' := 0) dX3_bursts_9 kX3_crackedBy q2898 (t_crackedBy hm hI (by omega) (by omega)) hm.1.1 rfl (Nat.le_refl _) (Nat.le_of_ble_eq_true rfl) rfl rfl (Nat.le_of_ble_eq_true rfl) (fun _ _ q => q.elim) (fun _ _ hq => go_E hq ?_)
  refine r_iadd (pc := 12) dX3_bursts_12 ?_
  refine r_bipush (pc := 13) dX3_bursts_13 (by decide) ?_
  refine r_icmp_le (pc := 15) (tgt := 22) dX3_bursts_15 (by decide) (by first | omega | exact rfB_in _ | exact nz_in _ | exact hm.r _ _) (by first | omega | exact rfB_in _ | exact nz_in _ | exact hm.r _ _) (fun c15 => ?_) (fun c15 => ?_)
  · refine r_iconst (pc := 22) dX3_bursts_22 ?_
    exact e_retB (pc := 23) dX3_bursts_23 rfl (by first | (left; rfl) | (right; rfl) | exact bZ_01 _ | omega) (by first | rfl | omega | exact bZ_c (by omega) | exact (bZ_t (by omega)).symm | exact (bZ_f (by omega)).symm | exact bZ_t (by omega) | exact bZ_f (by omega))
  · refine r_iconst (pc := 18) dX3_bursts_18 ?_
    refine r_goto (pc := 19) (tgt := 23) dX3_bursts_19 (by decide) ?_
    exact e_retB (pc := 23) dX3_bursts_23 rfl (by first | (left; rfl) | (right; rfl) | exact bZ_01 _ | omega) (by first | rfl | omega | exact bZ_c (by omega) | exact (bZ_t (by omega)).symm | exact (bZ_f (by omega)).symm | exact bZ_t (by omega) | exact bZ_f (by omega))
theorem t_firesAt {G : Gl} {m : Nat} {ad : Nat → Nat} {h0 h : Hp} {T : TM} (hm : TI m ad h0 T h) {a x : Int} (hI : RI (T 0)) (ha : 0 ≤ a ∧ a < T 0 0) (hx : 10 ≤ x ∧ x ≤ 99) : Ct G 2 0 yX3_firesAt (Cond.code yX3_firesAt cX3_firesAt 3 (some .boolean)) [.ref m, .int (iZ a), .int (iZ x)] h (RE (bZ (firP (T 0) a x)) h) noX := by
  have hm := hm.nw
  have hb := hI.1
  have ho := hI.2.1 a ha.1 ha.2
  have ho2 := ho
  unfold artOk at ho
  have h7 := heat_in (s := fA (T 0) a 4) (x := x) (by omega) hx
  refine Ct.of (own := eM) (nm := "firesAt") (by decide +kernel) rfl rfl (L := [some (.ref m), some (.int (iZ a)), some (.int (iZ x))]) rfl (Nat.le_of_ble_eq_true rfl) rfl ?_
  refine r_aload_n (pc := 0) dX3_firesAt_0 rfl ?_
  refine r_iload_n (pc := 1) dX3_firesAt_1 rfl ?_
  refine r_iconst (pc := 2) dX3_firesAt_2 ?_
  refine r_callV (pc := 3) (kb' := 0) dX3_firesAt_3 kX3_av q2815 (t_av hm (by omega) (by omega)) hm.1.1 rfl (Nat.le_refl _) (Nat.le_of_ble_eq_true rfl) rfl rfl (Nat.le_of_ble_eq_true rfl) (fun _ _ q => q.elim) (fun _ _ hq => go_E hq ?_)
  refine r_if_lt (pc := 6) (tgt := 35) dX3_firesAt_6 (by decide) (by first | omega | exact rfB_in _ | exact nz_in _ | exact hm.r _ _) (fun c6 => ?_) (fun c6 => ?_)
  · refine r_iconst (pc := 35) dX3_firesAt_35 ?_
    exact e_retB (pc := 36) dX3_firesAt_36 rfl (by first | (left; rfl) | (right; rfl) | exact bZ_01 _ | omega) (by first | rfl | omega | exact bZ_c (by omega) | exact (bZ_t (by omega)).symm | exact (bZ_f (by omega)).symm | exact bZ_t (by omega) | exact bZ_f (by omega))
  · refine r_aload_n (pc := 9) dX3_firesAt_9 rfl ?_
    refine r_iload_n (pc := 10) dX3_firesAt_10 rfl ?_
    refine r_iconst (pc := 11) dX3_firesAt_11 ?_
    refine r_callV (pc := 12) (kb' := 0) dX3_firesAt_12 kX3_av q2815 (t_av hm (by omega) (by omega)) hm.1.1 rfl (Nat.le_refl _) (Nat.le_of_ble_eq_true rfl) rfl rfl (Nat.le_of_ble_eq_true rfl) (fun _ _ q => q.elim) (fun _ _ hq => go_E hq ?_)
    refine r_iload_n (pc := 15) dX3_firesAt_15 rfl ?_
    refine r_callS (pc := 16) (kb' := 0) dX3_firesAt_16 kX3_heatOn q2902 (t_heatOn (by omega) (by omega)) (Nat.le_refl _) (Nat.le_of_ble_eq_true rfl) rfl rfl (Nat.le_of_ble_eq_true rfl) (fun _ _ q => q.elim) (fun _ _ hq => go_E hq ?_)
    refine r_bipush (pc := 19) dX3_firesAt_19 (by decide) ?_
    refine r_aload_n (pc := 21) dX3_firesAt_21 rfl ?_
    refine r_iload_n (pc := 22) dX3_firesAt_22 rfl ?_
    refine r_iconst (pc := 23) dX3_firesAt_23 ?_
    refine r_callV (pc := 24) (kb' := 0) dX3_firesAt_24 kX3_av q2815 (t_av hm (by omega) (by omega)) hm.1.1 rfl (Nat.le_refl _) (Nat.le_of_ble_eq_true rfl) rfl rfl (Nat.le_of_ble_eq_true rfl) (fun _ _ q => q.elim) (fun _ _ hq => go_E hq ?_)
    refine r_imul (pc := 27) dX3_firesAt_27 ?_
    refine r_icmp_lt (pc := 28) (tgt := 35) dX3_firesAt_28 (by decide) (by first | omega | exact rfB_in _ | exact nz_in _ | exact hm.r _ _) (by first | omega | exact rfB_in _ | exact nz_in _ | exact hm.r _ _) (fun c28 => ?_) (fun c28 => ?_)
    · refine r_iconst (pc := 35) dX3_firesAt_35 ?_
      exact e_retB (pc := 36) dX3_firesAt_36 rfl (by first | (left; rfl) | (right; rfl) | exact bZ_01 _ | omega) (by first | rfl | omega | exact bZ_c (by omega) | exact (bZ_t (by omega)).symm | exact (bZ_f (by omega)).symm | exact bZ_t (by omega) | exact bZ_f (by omega))
    · refine r_iconst (pc := 31) dX3_firesAt_31 ?_
      refine r_goto (pc := 32) (tgt := 36) dX3_firesAt_32 (by decide) ?_
      exact e_retB (pc := 36) dX3_firesAt_36 rfl (by first | (left; rfl) | (right; rfl) | exact bZ_01 _ | omega) (by first | rfl | omega | exact bZ_c (by omega) | exact (bZ_t (by omega)).symm | exact (bZ_f (by omega)).symm | exact bZ_t (by omega) | exact bZ_f (by omega))
theorem t_isRefusedFire {G : Gl} {m : Nat} {ad : Nat → Nat} {h0 h : Hp} {T : TM} (hm : TI m ad h0 T h) {x : Int} (hI : RI (T 0)) (hx : InR x) : Ct G 3 0 yX3_isRefusedFire (Cond.code yX3_isRefusedFire cX3_isRefusedFire 2 (some .boolean)) [.ref m, .int (iZ x)] h (RT m ad h (rfB (refFire (T 0) x)) (bdO T (refFire (T 0) x))) noX := by
  have hm := hm.nw
  have hb := hI.1
  have o9 := fun x => onSh_in (r := T 0) (s := x) (by omega)
  have p9 : ∀ x, InR (plOf (T 0) x) := fun x => (fnd_in (N := T 0 1) (p := fun k => T 0 (12 + k) = x) (by omega)).2.2
  refine Ct.of (own := eM) (nm := "isRefusedFire") (by decide +kernel) rfl rfl (L := [some (.ref m), some (.int (iZ x))]) rfl (Nat.le_of_ble_eq_true rfl) rfl ?_
  refine r_iload_n (pc := 0) dX3_isRefusedFire_0 rfl ?_
  refine r_callS (pc := 1) (kb' := 0) dX3_isRefusedFire_1 kX3_isHeat q2887 (t_isHeat (by omega)) (Nat.le_refl _) (Nat.le_of_ble_eq_true rfl) rfl rfl (Nat.le_of_ble_eq_true rfl) (fun _ _ q => q.elim) (fun _ _ hq => go_E hq ?_)
  refine r_ifB_ne (pc := 4) (tgt := 14) dX3_isRefusedFire_4 (by decide) (fun c4 => ?_) (fun c4 => ?_)
  · refine r_aload_n (pc := 14) dX3_isRefusedFire_14 rfl ?_
    refine gX3_7 (pc := 15) dX3_isRefusedFire_15 hm.1.1 rfl ?_
    refine r_iconst (pc := 18) dX3_isRefusedFire_18 ?_
    refine t_iald (pc := 19) (lim := 140) 0 dX3_isRefusedFire_19 hm (by decide) rfl (by first | omega | exact rfB_in _ | exact nz_in _ | exact hm.r _ _) (fun r19 => ?_)
    refine r_aload_n (pc := 20) dX3_isRefusedFire_20 rfl ?_
    refine gX3_7 (pc := 21) dX3_isRefusedFire_21 hm.1.1 rfl ?_
    refine r_iconst (pc := 24) dX3_isRefusedFire_24 ?_
    refine t_iald (pc := 25) (lim := 140) 0 dX3_isRefusedFire_25 hm (by decide) rfl (by first | omega | exact rfB_in _ | exact nz_in _ | exact hm.r _ _) (fun r25 => ?_)
    refine r_icmp_ne (pc := 26) (tgt := 48) dX3_isRefusedFire_26 (by decide) (by first | omega | exact rfB_in _ | exact nz_in _ | exact hm.r _ _) (by first | omega | exact rfB_in _ | exact nz_in _ | exact hm.r _ _) (fun c26 => ?_) (fun c26 => ?_)
    · refine r_iconst (pc := 48) dX3_isRefusedFire_48 ?_
      exact e_retTB (pc := 49) dX3_isRefusedFire_49 rfl (by first | (left; rfl) | (right; rfl) | exact rfB_01 _ | omega) hm (by unfold refFire; (repeat' split) <;> first | rfl | omega) (by unfold refFire; (repeat' split) <;> first | rfl | omega)
    · refine r_aload_n (pc := 29) dX3_isRefusedFire_29 rfl ?_
      refine r_bipush (pc := 30) dX3_isRefusedFire_30 (by decide) ?_
      refine r_aload_n (pc := 32) dX3_isRefusedFire_32 rfl ?_
      refine gX3_7 (pc := 33) dX3_isRefusedFire_33 hm.1.1 rfl ?_
      refine r_iconst (pc := 36) dX3_isRefusedFire_36 ?_
      refine t_iald (pc := 37) (lim := 140) 0 dX3_isRefusedFire_37 hm (by decide) rfl (by first | omega | exact rfB_in _ | exact nz_in _ | exact hm.r _ _) (fun r37 => ?_)
      refine r_callV (pc := 38) (kb' := 0) dX3_isRefusedFire_38 kX3_isBad q2797 (t_isBad hm (by omega) (by omega)) hm.1.1 rfl (Nat.le_refl _) (Nat.le_of_ble_eq_true rfl) rfl rfl (Nat.le_of_ble_eq_true rfl) (fun _ _ q => q.elim) (fun _ _ hq => go_T hq (fun h hm1 => ?_))
      have hm := hm.tr hm1
      refine r_if_eq (pc := 41) (tgt := 48) dX3_isRefusedFire_41 (by decide) (by decide) (fun q => absurd q (by decide)) (fun _ => ?_)
      refine r_iconst (pc := 44) dX3_isRefusedFire_44 ?_
      refine r_goto (pc := 45) (tgt := 49) dX3_isRefusedFire_45 (by decide) ?_
      exact e_retTB (pc := 49) dX3_isRefusedFire_49 rfl (by first | (left; rfl) | (right; rfl) | exact rfB_01 _ | omega) hm (by unfold refFire; (repeat' split) <;> first | rfl | omega) (by unfold refFire; (repeat' split) <;> first | rfl | omega)
  · refine r_aload_n (pc := 7) dX3_isRefusedFire_7 rfl ?_
    refine r_iconst (pc := 8) dX3_isRefusedFire_8 ?_
    refine r_iload_n (pc := 9) dX3_isRefusedFire_9 rfl ?_
    refine r_callV (pc := 10) (kb' := 0) dX3_isRefusedFire_10 kX3_isBad q2797 (t_isBad hm (by omega) (by omega)) hm.1.1 rfl (Nat.le_refl _) (Nat.le_of_ble_eq_true rfl) rfl rfl (Nat.le_of_ble_eq_true rfl) (fun _ _ q => q.elim) (fun _ _ hq => go_T hq (fun h hm1 => ?_))
    have hm := hm.tr hm1
    exact e_retTB (pc := 13) dX3_isRefusedFire_13 rfl (by first | (left; rfl) | (right; rfl) | exact rfB_01 _ | omega) hm (by unfold refFire; (repeat' split) <;> first | rfl | omega) (by unfold refFire; (repeat' split) <;> first | rfl | omega)
theorem t_apart {G : Gl} {m : Nat} {ad : Nat → Nat} {h0 h : Hp} {T : TM} (hm : TI m ad h0 T h) {s a : Int} (hI : RI (T 0)) (hs : 0 ≤ s ∧ s < T 0 2) (ha : 0 ≤ a ∧ a < T 0 0) : Ct G 2 0 yX3_apart (Cond.code yX3_apart cX3_apart 4 (some .int)) [.ref m, .int (iZ s), .int (iZ a)] h (RE (apt (T 0) s a) h) noX := by
  have hm := hm.nw
  have hb := hI.1
  have ho := hI.2.1 a ha.1 ha.2
  have ho2 := ho
  unfold artOk at ho
  have hs2 := hI.2.2.1 s hs.1 hs.2
  unfold shOk at hs2
  refine Ct.of (own := eM) (nm := "apart") (by decide +kernel) rfl rfl (L := [some (.ref m), some (.int (iZ s)), some (.int (iZ a)), none]) rfl (Nat.le_of_ble_eq_true rfl) rfl ?_
  refine r_aload_n (pc := 0) dX3_apart_0 rfl ?_
  refine r_iload_n (pc := 1) dX3_apart_1 rfl ?_
  refine r_iconst (pc := 2) dX3_apart_2 ?_
  refine r_callV (pc := 3) (kb' := 0) dX3_apart_3 kX3_hv q2941 (t_hv hm (by omega) (by omega)) hm.1.1 rfl (Nat.le_refl _) (Nat.le_of_ble_eq_true rfl) rfl rfl (Nat.le_of_ble_eq_true rfl) (fun _ _ q => q.elim) (fun _ _ hq => go_E hq ?_)
  refine r_aload_n (pc := 6) dX3_apart_6 rfl ?_
  refine r_iload_n (pc := 7) dX3_apart_7 rfl ?_
  refine r_iconst (pc := 8) dX3_apart_8 ?_
  refine r_callV (pc := 9) (kb' := 0) dX3_apart_9 kX3_av q2815 (t_av hm (by omega) (by omega)) hm.1.1 rfl (Nat.le_refl _) (Nat.le_of_ble_eq_true rfl) rfl rfl (Nat.le_of_ble_eq_true rfl) (fun _ _ q => q.elim) (fun _ _ hq => go_E hq ?_)
  refine r_isub (pc := 12) dX3_apart_12 ?_
  refine r_istore_n (pc := 13) (L' := [_, _, _, _]) dX3_apart_13 rfl ?_
  refine r_iload_n (pc := 14) dX3_apart_14 rfl ?_
  refine r_if_ge (pc := 15) (tgt := 23) dX3_apart_15 (by decide) (by first | omega | exact rfB_in _ | exact nz_in _ | exact hm.r _ _) (fun c15 => ?_) (fun c15 => ?_)
  · refine r_iload_n (pc := 23) dX3_apart_23 rfl ?_
    exact e_ret (pc := 24) dX3_apart_24 rfl (by unfold apt apZ; (repeat' split) <;> first | rfl | omega)
  · refine r_iload_n (pc := 18) dX3_apart_18 rfl ?_
    refine r_ineg (pc := 19) dX3_apart_19 ?_
    refine r_goto (pc := 20) (tgt := 24) dX3_apart_20 (by decide) ?_
    exact e_ret (pc := 24) dX3_apart_24 rfl (by unfold apt apZ; (repeat' split) <;> first | rfl | omega)
theorem t_least {G : Gl} {h : Hp} {x y : Int} (hx : InR x) (hy : InR y) : Ct G 1 0 yX3_least (Cond.code yX3_least cX3_least 2 (some .int)) [.int (iZ x), .int (iZ y)] h (RE (leZ x y) h) noX := by
  refine Ct.of (own := eM) (nm := "least") (by decide +kernel) rfl rfl (L := [some (.int (iZ x)), some (.int (iZ y))]) rfl (Nat.le_of_ble_eq_true rfl) rfl ?_
  refine r_iload_n (pc := 0) dX3_least_0 rfl ?_
  refine r_iload_n (pc := 1) dX3_least_1 rfl ?_
  refine r_icmp_ge (pc := 2) (tgt := 9) dX3_least_2 (by decide) (by first | omega | exact rfB_in _ | exact nz_in _ | exact hm.r _ _) (by first | omega | exact rfB_in _ | exact nz_in _ | exact hm.r _ _) (fun c2 => ?_) (fun c2 => ?_)
  · refine r_iload_n (pc := 9) dX3_least_9 rfl ?_
    exact e_ret (pc := 10) dX3_least_10 rfl (by unfold leZ; (repeat' split) <;> first | rfl | omega)
  · refine r_iload_n (pc := 5) dX3_least_5 rfl ?_
    refine r_goto (pc := 6) (tgt := 10) dX3_least_6 (by decide) ?_
    exact e_ret (pc := 10) dX3_least_10 rfl (by unfold leZ; (repeat' split) <;> first | rfl | omega)
theorem t_isRefusedCite {G : Gl} {m : Nat} {ad : Nat → Nat} {h0 h : Hp} {T : TM} (hm : TI m ad h0 T h) {s a : Int} (hI : RI (T 0)) (hs : InR s) (ha : InR a) : Ct G 4 0 yX3_isRefusedCite (Cond.code yX3_isRefusedCite cX3_isRefusedCite 3 (some .boolean)) [.ref m, .int (iZ s), .int (iZ a)] h (RT m ad h (rfB (refCite (T 0) s a)) (bdO T (refCite (T 0) s a))) noX := by
  have hm := hm.nw
  have hb := hI.1
  have o9 := fun x => onSh_in (r := T 0) (s := x) (by omega)
  have p9 : ∀ x, InR (plOf (T 0) x) := fun x => (fnd_in (N := T 0 1) (p := fun k => T 0 (12 + k) = x) (by omega)).2.2
  refine Ct.of (own := eM) (nm := "isRefusedCite") (by decide +kernel) rfl rfl (L := [some (.ref m), some (.int (iZ s)), some (.int (iZ a))]) rfl (Nat.le_of_ble_eq_true rfl) rfl ?_
  refine r_aload_n (pc := 0) dX3_isRefusedCite_0 rfl ?_
  refine r_iload_n (pc := 1) dX3_isRefusedCite_1 rfl ?_
  refine r_callV (pc := 2) (kb' := 0) dX3_isRefusedCite_2 kX3_isShard q2933 (t_isShard hm hI (by omega)) hm.1.1 rfl (Nat.le_refl _) (Nat.le_of_ble_eq_true rfl) rfl rfl (Nat.le_of_ble_eq_true rfl) (fun _ _ q => q.elim) (fun _ _ hq => go_E hq ?_)
  refine r_ifB_ne (pc := 5) (tgt := 15) dX3_isRefusedCite_5 (by decide) (fun c5 => ?_) (fun c5 => ?_)
  · refine r_aload_n (pc := 15) dX3_isRefusedCite_15 rfl ?_
    refine r_iload_n (pc := 16) dX3_isRefusedCite_16 rfl ?_
    refine r_callV (pc := 17) (kb' := 0) dX3_isRefusedCite_17 kX3_isNoArticle q2847 (t_isNoArticle hm hI (by omega)) hm.1.1 rfl (Nat.le_refl _) (Nat.le_of_ble_eq_true rfl) rfl rfl (Nat.le_of_ble_eq_true rfl) (fun _ _ q => q.elim) (fun _ _ hq => go_T hq (fun h hm1 => ?_))
    have hm := hm.tr hm1
    by_cases f17 : ¬ (0 ≤ a ∧ a ≤ T 0 0 - 1)
    · have hm := hm.to (bdO_some (if_pos f17))
      refine go_z (rfB_some (if_pos f17)) ?_
      refine r_if_ne (pc := 20) (tgt := 31) dX3_isRefusedCite_20 (by decide) (by decide) (fun _ => ?_) (fun q => absurd (by decide) q)
      refine r_iconst (pc := 31) dX3_isRefusedCite_31 ?_
      exact e_retTB (pc := 32) dX3_isRefusedCite_32 rfl (by first | (left; rfl) | (right; rfl) | exact rfB_01 _ | omega) hm (by unfold refCite; (repeat' split) <;> first | rfl | omega) (by unfold refCite; (repeat' split) <;> first | rfl | omega)
    · have hm := hm.to (bdO_none (if_neg f17))
      refine go_z (rfB_none (if_neg f17)) ?_
      refine r_if_ne (pc := 20) (tgt := 31) dX3_isRefusedCite_20 (by decide) (by decide) (fun q => absurd q (by decide)) (fun _ => ?_)
      have ho := hI.2.1 a (by omega) (by omega)
      unfold artOk at ho
      refine r_aload_n (pc := 23) dX3_isRefusedCite_23 rfl ?_
      refine r_iload_n (pc := 24) dX3_isRefusedCite_24 rfl ?_
      refine r_callV (pc := 25) (kb' := 0) dX3_isRefusedCite_25 kX3_isLaw q2855 (t_isLaw hm hI (by omega)) hm.1.1 rfl (Nat.le_refl _) (Nat.le_of_ble_eq_true rfl) rfl rfl (Nat.le_of_ble_eq_true rfl) (fun _ _ q => q.elim) (fun _ _ hq => go_T hq (fun h hm1 => ?_))
      have hm := hm.tr hm1
      by_cases f25 : fA (T 0) a 4 < 0
      · have hm := hm.to (bdO_some (if_pos f25))
        refine go_z (rfB_some (if_pos f25)) ?_
        refine r_if_eq (pc := 28) (tgt := 33) dX3_isRefusedCite_28 (by decide) (by decide) (fun q => absurd q (by decide)) (fun _ => ?_)
        refine r_iconst (pc := 31) dX3_isRefusedCite_31 ?_
        exact e_retTB (pc := 32) dX3_isRefusedCite_32 rfl (by first | (left; rfl) | (right; rfl) | exact rfB_01 _ | omega) hm (by unfold refCite; (repeat' split) <;> first | rfl | omega) (by unfold refCite; (repeat' split) <;> first | rfl | omega)
      · have hm := hm.to (bdO_none (if_neg f25))
        refine go_z (rfB_none (if_neg f25)) ?_
        refine r_if_eq (pc := 28) (tgt := 33) dX3_isRefusedCite_28 (by decide) (by decide) (fun _ => ?_) (fun q => absurd (by decide) q)
        refine r_aload_n (pc := 33) dX3_isRefusedCite_33 rfl ?_
        refine r_iload_n (pc := 34) dX3_isRefusedCite_34 rfl ?_
        refine r_iconst (pc := 35) dX3_isRefusedCite_35 ?_
        refine r_callV (pc := 36) (kb' := 0) dX3_isRefusedCite_36 kX3_av q2815 (t_av hm (by omega) (by omega)) hm.1.1 rfl (Nat.le_refl _) (Nat.le_of_ble_eq_true rfl) rfl rfl (Nat.le_of_ble_eq_true rfl) (fun _ _ q => q.elim) (fun _ _ hq => go_E hq ?_)
        refine r_if_ne (pc := 39) (tgt := 55) dX3_isRefusedCite_39 (by decide) (by first | omega | exact rfB_in _ | exact nz_in _ | exact hm.r _ _) (fun c39 => ?_) (fun c39 => ?_)
        · have hs2 := hI.2.2.1 s (by omega) (by omega)
          unfold shOk at hs2
          have h6 : 0 ≤ apt (T 0) s a ∧ apt (T 0) s a ≤ 8 := ap_in (by omega) (by omega)
          refine r_aload_n (pc := 55) dX3_isRefusedCite_55 rfl ?_
          refine r_iload_n (pc := 56) dX3_isRefusedCite_56 rfl ?_
          refine r_iload_n (pc := 57) dX3_isRefusedCite_57 rfl ?_
          refine r_callV (pc := 58) (kb' := 0) dX3_isRefusedCite_58 kX3_apart q2937 (t_apart hm hI (by omega) (by omega)) hm.1.1 rfl (Nat.le_refl _) (Nat.le_of_ble_eq_true rfl) rfl rfl (Nat.le_of_ble_eq_true rfl) (fun _ _ q => q.elim) (fun _ _ hq => go_E hq ?_)
          refine r_iconst (pc := 61) dX3_isRefusedCite_61 ?_
          refine r_icmp_le (pc := 62) (tgt := 84) dX3_isRefusedCite_62 (by decide) (by first | omega | exact rfB_in _ | exact nz_in _ | exact hm.r _ _) (by first | omega | exact rfB_in _ | exact nz_in _ | exact hm.r _ _) (fun c62 => ?_) (fun c62 => ?_)
          · refine r_iconst (pc := 84) dX3_isRefusedCite_84 ?_
            exact e_retTB (pc := 85) dX3_isRefusedCite_85 rfl (by first | (left; rfl) | (right; rfl) | exact rfB_01 _ | omega) hm (by unfold refCite; (repeat' split) <;> first | rfl | omega) (by unfold refCite; (repeat' split) <;> first | rfl | omega)
          · refine r_aload_n (pc := 65) dX3_isRefusedCite_65 rfl ?_
            refine r_bipush (pc := 66) dX3_isRefusedCite_66 (by decide) ?_
            refine r_aload_n (pc := 68) dX3_isRefusedCite_68 rfl ?_
            refine r_iload_n (pc := 69) dX3_isRefusedCite_69 rfl ?_
            refine r_iload_n (pc := 70) dX3_isRefusedCite_70 rfl ?_
            refine r_callV (pc := 71) (kb' := 0) dX3_isRefusedCite_71 kX3_apart q2937 (t_apart hm hI (by omega) (by omega)) hm.1.1 rfl (Nat.le_refl _) (Nat.le_of_ble_eq_true rfl) rfl rfl (Nat.le_of_ble_eq_true rfl) (fun _ _ q => q.elim) (fun _ _ hq => go_E hq ?_)
            refine r_callV (pc := 74) (kb' := 0) dX3_isRefusedCite_74 kX3_isBad q2797 (t_isBad hm (by omega) (by omega)) hm.1.1 rfl (Nat.le_refl _) (Nat.le_of_ble_eq_true rfl) rfl rfl (Nat.le_of_ble_eq_true rfl) (fun _ _ q => q.elim) (fun _ _ hq => go_T hq (fun h hm1 => ?_))
            have hm := hm.tr hm1
            refine r_if_eq (pc := 77) (tgt := 84) dX3_isRefusedCite_77 (by decide) (by decide) (fun q => absurd q (by decide)) (fun _ => ?_)
            refine r_iconst (pc := 80) dX3_isRefusedCite_80 ?_
            refine r_goto (pc := 81) (tgt := 85) dX3_isRefusedCite_81 (by decide) ?_
            exact e_retTB (pc := 85) dX3_isRefusedCite_85 rfl (by first | (left; rfl) | (right; rfl) | exact rfB_01 _ | omega) hm (by unfold refCite; (repeat' split) <;> first | rfl | omega) (by unfold refCite; (repeat' split) <;> first | rfl | omega)
        · refine r_aload_n (pc := 42) dX3_isRefusedCite_42 rfl ?_
          refine r_bipush (pc := 43) dX3_isRefusedCite_43 (by decide) ?_
          refine r_aload_n (pc := 45) dX3_isRefusedCite_45 rfl ?_
          refine r_iload_n (pc := 46) dX3_isRefusedCite_46 rfl ?_
          refine r_iconst (pc := 47) dX3_isRefusedCite_47 ?_
          refine r_callV (pc := 48) (kb' := 0) dX3_isRefusedCite_48 kX3_av q2815 (t_av hm (by omega) (by omega)) hm.1.1 rfl (Nat.le_refl _) (Nat.le_of_ble_eq_true rfl) rfl rfl (Nat.le_of_ble_eq_true rfl) (fun _ _ q => q.elim) (fun _ _ hq => go_E hq ?_)
          refine r_callV (pc := 51) (kb' := 0) dX3_isRefusedCite_51 kX3_isBad q2797 (t_isBad hm (by omega) (by omega)) hm.1.1 rfl (Nat.le_refl _) (Nat.le_of_ble_eq_true rfl) rfl rfl (Nat.le_of_ble_eq_true rfl) (fun _ _ q => q.elim) (fun _ _ hq => go_T hq (fun h hm1 => ?_))
          have hm := hm.tr hm1
          exact e_retTB (pc := 54) dX3_isRefusedCite_54 rfl (by first | (left; rfl) | (right; rfl) | exact rfB_01 _ | omega) hm (by unfold refCite; (repeat' split) <;> first | rfl | omega) (by unfold refCite; (repeat' split) <;> first | rfl | omega)
  · refine r_aload_n (pc := 8) dX3_isRefusedCite_8 rfl ?_
    refine r_iconst (pc := 9) dX3_isRefusedCite_9 ?_
    refine r_iload_n (pc := 10) dX3_isRefusedCite_10 rfl ?_
    refine r_callV (pc := 11) (kb' := 0) dX3_isRefusedCite_11 kX3_isBad q2797 (t_isBad hm (by omega) (by omega)) hm.1.1 rfl (Nat.le_refl _) (Nat.le_of_ble_eq_true rfl) rfl rfl (Nat.le_of_ble_eq_true rfl) (fun _ _ q => q.elim) (fun _ _ hq => go_T hq (fun h hm1 => ?_))
    have hm := hm.tr hm1
    exact e_retTB (pc := 14) dX3_isRefusedCite_14 rfl (by first | (left; rfl) | (right; rfl) | exact rfB_01 _ | omega) hm (by unfold refCite; (repeat' split) <;> first | rfl | omega) (by unfold refCite; (repeat' split) <;> first | rfl | omega)
theorem t_isRefusedRatify {G : Gl} {m : Nat} {ad : Nat → Nat} {h0 h : Hp} {T : TM} (hm : TI m ad h0 T h) {a : Int} (hI : RI (T 0)) (ha : InR a) : Ct G 4 0 yX3_isRefusedRatify (Cond.code yX3_isRefusedRatify cX3_isRefusedRatify 2 (some .boolean)) [.ref m, .int (iZ a)] h (RT m ad h (rfB (refRatify (T 0) a)) (bdO T (refRatify (T 0) a))) noX := by
  have hm := hm.nw
  have hb := hI.1
  have o9 := fun x => onSh_in (r := T 0) (s := x) (by omega)
  have p9 : ∀ x, InR (plOf (T 0) x) := fun x => (fnd_in (N := T 0 1) (p := fun k => T 0 (12 + k) = x) (by omega)).2.2
  refine Ct.of (own := eM) (nm := "isRefusedRatify") (by decide +kernel) rfl rfl (L := [some (.ref m), some (.int (iZ a))]) rfl (Nat.le_of_ble_eq_true rfl) rfl ?_
  refine r_aload_n (pc := 0) dX3_isRefusedRatify_0 rfl ?_
  refine r_iload_n (pc := 1) dX3_isRefusedRatify_1 rfl ?_
  refine r_callV (pc := 2) (kb' := 0) dX3_isRefusedRatify_2 kX3_isNoArticle q2847 (t_isNoArticle hm hI (by omega)) hm.1.1 rfl (Nat.le_refl _) (Nat.le_of_ble_eq_true rfl) rfl rfl (Nat.le_of_ble_eq_true rfl) (fun _ _ q => q.elim) (fun _ _ hq => go_T hq (fun h hm1 => ?_))
  have hm := hm.tr hm1
  by_cases f2 : ¬ (0 ≤ a ∧ a ≤ T 0 0 - 1)
  · have hm := hm.to (bdO_some (if_pos f2))
    refine go_z (rfB_some (if_pos f2)) ?_
    refine r_if_ne (pc := 5) (tgt := 16) dX3_isRefusedRatify_5 (by decide) (by decide) (fun _ => ?_) (fun q => absurd (by decide) q)
    refine r_iconst (pc := 16) dX3_isRefusedRatify_16 ?_
    exact e_retTB (pc := 17) dX3_isRefusedRatify_17 rfl (by first | (left; rfl) | (right; rfl) | exact rfB_01 _ | omega) hm (by unfold refRatify; (repeat' split) <;> first | rfl | omega) (by unfold refRatify; (repeat' split) <;> first | rfl | omega)
  · have hm := hm.to (bdO_none (if_neg f2))
    refine go_z (rfB_none (if_neg f2)) ?_
    refine r_if_ne (pc := 5) (tgt := 16) dX3_isRefusedRatify_5 (by decide) (by decide) (fun q => absurd q (by decide)) (fun _ => ?_)
    have ho := hI.2.1 a (by omega) (by omega)
    unfold artOk at ho
    refine r_aload_n (pc := 8) dX3_isRefusedRatify_8 rfl ?_
    refine r_iload_n (pc := 9) dX3_isRefusedRatify_9 rfl ?_
    refine r_callV (pc := 10) (kb' := 0) dX3_isRefusedRatify_10 kX3_isLaw q2855 (t_isLaw hm hI (by omega)) hm.1.1 rfl (Nat.le_refl _) (Nat.le_of_ble_eq_true rfl) rfl rfl (Nat.le_of_ble_eq_true rfl) (fun _ _ q => q.elim) (fun _ _ hq => go_T hq (fun h hm1 => ?_))
    have hm := hm.tr hm1
    by_cases f10 : fA (T 0) a 4 < 0
    · have hm := hm.to (bdO_some (if_pos f10))
      refine go_z (rfB_some (if_pos f10)) ?_
      refine r_if_eq (pc := 13) (tgt := 18) dX3_isRefusedRatify_13 (by decide) (by decide) (fun q => absurd q (by decide)) (fun _ => ?_)
      refine r_iconst (pc := 16) dX3_isRefusedRatify_16 ?_
      exact e_retTB (pc := 17) dX3_isRefusedRatify_17 rfl (by first | (left; rfl) | (right; rfl) | exact rfB_01 _ | omega) hm (by unfold refRatify; (repeat' split) <;> first | rfl | omega) (by unfold refRatify; (repeat' split) <;> first | rfl | omega)
    · have hm := hm.to (bdO_none (if_neg f10))
      refine go_z (rfB_none (if_neg f10)) ?_
      refine r_if_eq (pc := 13) (tgt := 18) dX3_isRefusedRatify_13 (by decide) (by decide) (fun _ => ?_) (fun q => absurd (by decide) q)
      refine r_aload_n (pc := 18) dX3_isRefusedRatify_18 rfl ?_
      refine r_iload_n (pc := 19) dX3_isRefusedRatify_19 rfl ?_
      refine r_iconst (pc := 20) dX3_isRefusedRatify_20 ?_
      refine r_callV (pc := 21) (kb' := 0) dX3_isRefusedRatify_21 kX3_av q2815 (t_av hm (by omega) (by omega)) hm.1.1 rfl (Nat.le_refl _) (Nat.le_of_ble_eq_true rfl) rfl rfl (Nat.le_of_ble_eq_true rfl) (fun _ _ q => q.elim) (fun _ _ hq => go_E hq ?_)
      refine r_if_ne (pc := 24) (tgt := 40) dX3_isRefusedRatify_24 (by decide) (by first | omega | exact rfB_in _ | exact nz_in _ | exact hm.r _ _) (fun c24 => ?_) (fun c24 => ?_)
      · refine r_aload_n (pc := 40) dX3_isRefusedRatify_40 rfl ?_
        refine r_iload_n (pc := 41) dX3_isRefusedRatify_41 rfl ?_
        refine r_iconst (pc := 42) dX3_isRefusedRatify_42 ?_
        refine r_callV (pc := 43) (kb' := 0) dX3_isRefusedRatify_43 kX3_av q2815 (t_av hm (by omega) (by omega)) hm.1.1 rfl (Nat.le_refl _) (Nat.le_of_ble_eq_true rfl) rfl rfl (Nat.le_of_ble_eq_true rfl) (fun _ _ q => q.elim) (fun _ _ hq => go_E hq ?_)
        refine r_if_le (pc := 46) (tgt := 68) dX3_isRefusedRatify_46 (by decide) (by first | omega | exact rfB_in _ | exact nz_in _ | exact hm.r _ _) (fun c46 => ?_) (fun c46 => ?_)
        · refine r_iconst (pc := 68) dX3_isRefusedRatify_68 ?_
          exact e_retTB (pc := 69) dX3_isRefusedRatify_69 rfl (by first | (left; rfl) | (right; rfl) | exact rfB_01 _ | omega) hm (by unfold refRatify; (repeat' split) <;> first | rfl | omega) (by unfold refRatify; (repeat' split) <;> first | rfl | omega)
        · refine r_aload_n (pc := 49) dX3_isRefusedRatify_49 rfl ?_
          refine r_bipush (pc := 50) dX3_isRefusedRatify_50 (by decide) ?_
          refine r_aload_n (pc := 52) dX3_isRefusedRatify_52 rfl ?_
          refine r_iload_n (pc := 53) dX3_isRefusedRatify_53 rfl ?_
          refine r_iconst (pc := 54) dX3_isRefusedRatify_54 ?_
          refine r_callV (pc := 55) (kb' := 0) dX3_isRefusedRatify_55 kX3_av q2815 (t_av hm (by omega) (by omega)) hm.1.1 rfl (Nat.le_refl _) (Nat.le_of_ble_eq_true rfl) rfl rfl (Nat.le_of_ble_eq_true rfl) (fun _ _ q => q.elim) (fun _ _ hq => go_E hq ?_)
          refine r_callV (pc := 58) (kb' := 0) dX3_isRefusedRatify_58 kX3_isBad q2797 (t_isBad hm (by omega) (by omega)) hm.1.1 rfl (Nat.le_refl _) (Nat.le_of_ble_eq_true rfl) rfl rfl (Nat.le_of_ble_eq_true rfl) (fun _ _ q => q.elim) (fun _ _ hq => go_T hq (fun h hm1 => ?_))
          have hm := hm.tr hm1
          refine r_if_eq (pc := 61) (tgt := 68) dX3_isRefusedRatify_61 (by decide) (by decide) (fun q => absurd q (by decide)) (fun _ => ?_)
          refine r_iconst (pc := 64) dX3_isRefusedRatify_64 ?_
          refine r_goto (pc := 65) (tgt := 69) dX3_isRefusedRatify_65 (by decide) ?_
          exact e_retTB (pc := 69) dX3_isRefusedRatify_69 rfl (by first | (left; rfl) | (right; rfl) | exact rfB_01 _ | omega) hm (by unfold refRatify; (repeat' split) <;> first | rfl | omega) (by unfold refRatify; (repeat' split) <;> first | rfl | omega)
      · refine r_aload_n (pc := 27) dX3_isRefusedRatify_27 rfl ?_
        refine r_bipush (pc := 28) dX3_isRefusedRatify_28 (by decide) ?_
        refine r_aload_n (pc := 30) dX3_isRefusedRatify_30 rfl ?_
        refine r_iload_n (pc := 31) dX3_isRefusedRatify_31 rfl ?_
        refine r_iconst (pc := 32) dX3_isRefusedRatify_32 ?_
        refine r_callV (pc := 33) (kb' := 0) dX3_isRefusedRatify_33 kX3_av q2815 (t_av hm (by omega) (by omega)) hm.1.1 rfl (Nat.le_refl _) (Nat.le_of_ble_eq_true rfl) rfl rfl (Nat.le_of_ble_eq_true rfl) (fun _ _ q => q.elim) (fun _ _ hq => go_E hq ?_)
        refine r_callV (pc := 36) (kb' := 0) dX3_isRefusedRatify_36 kX3_isBad q2797 (t_isBad hm (by omega) (by omega)) hm.1.1 rfl (Nat.le_refl _) (Nat.le_of_ble_eq_true rfl) rfl rfl (Nat.le_of_ble_eq_true rfl) (fun _ _ q => q.elim) (fun _ _ hq => go_T hq (fun h hm1 => ?_))
        have hm := hm.tr hm1
        exact e_retTB (pc := 39) dX3_isRefusedRatify_39 rfl (by first | (left; rfl) | (right; rfl) | exact rfB_01 _ | omega) hm (by unfold refRatify; (repeat' split) <;> first | rfl | omega) (by unfold refRatify; (repeat' split) <;> first | rfl | omega)
