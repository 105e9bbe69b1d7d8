set_option maxRecDepth 100000
theorem t_isRefusedClay {G : Gl} {m : Nat} {ad : Nat → Nat} {h0 h : Hp} {T : TM} (hm : TI m ad h0 T h) {c s : Int} (hI : RI (T 0)) (hc : InR c) (hs : InR s) : Ct G 4 0 yX3_isRefusedClay (Cond.code yX3_isRefusedClay cX3_isRefusedClay 3 (some .boolean)) [.ref m, .int (iZ c), .int (iZ s)] h (RT m ad h (rfB (refClay (T 0) c s)) (bdO T (refClay (T 0) c s))) noX := by
  have hm := hm.nw
  have hb := hI.1
  have o9 := fun x => onSh_in (r := T 0) (s := x) (by omega)
  have p9 : ∀ x, InR (plOf (T 0) x) := fun x => (fnd_in (N := T 0 1) (p := fun k => T 0 (12 + k) = x) (by omega)).2.2
  refine Ct.of (own := eM) (nm := "isRefusedClay") (by decide +kernel) rfl rfl (L := [some (.ref m), some (.int (iZ c)), some (.int (iZ s))]) rfl (Nat.le_of_ble_eq_true rfl) rfl ?_
  refine r_iload_n (pc := 0) dX3_isRefusedClay_0 rfl ?_
  refine r_iconst (pc := 1) dX3_isRefusedClay_1 ?_
  refine r_bipush (pc := 2) dX3_isRefusedClay_2 (by decide) ?_
  refine r_callS (pc := 4) (kb' := 0) dX3_isRefusedClay_4 kX3_in q2794 (t_in (by omega) (by omega) (by omega)) (Nat.le_refl _) (Nat.le_of_ble_eq_true rfl) rfl rfl (Nat.le_of_ble_eq_true rfl) (fun _ _ q => q.elim) (fun _ _ hq => go_E hq ?_)
  refine r_ifB_ne (pc := 7) (tgt := 17) dX3_isRefusedClay_7 (by decide) (fun c7 => ?_) (fun c7 => ?_)
  · refine r_iload_n (pc := 17) dX3_isRefusedClay_17 rfl ?_
    refine r_callS (pc := 18) (kb' := 0) dX3_isRefusedClay_18 kX3_isNoShelf q2801 (t_isNoShelf (by omega)) (Nat.le_refl _) (Nat.le_of_ble_eq_true rfl) rfl rfl (Nat.le_of_ble_eq_true rfl) (fun _ _ q => q.elim) (fun _ _ hq => go_E hq ?_)
    refine r_ifB_eq (pc := 21) (tgt := 31) dX3_isRefusedClay_21 (by decide) (fun c21 => ?_) (fun c21 => ?_)
    · refine r_aload_n (pc := 31) dX3_isRefusedClay_31 rfl ?_
      refine r_iload_n (pc := 32) dX3_isRefusedClay_32 rfl ?_
      have o8 := o9 s
      refine r_callV (pc := 33) (kb' := 0) dX3_isRefusedClay_33 kX3_isFull q2807 (t_isFull hm hI (by omega)) hm.1.1 rfl (Nat.le_refl _) (Nat.le_of_ble_eq_true rfl) rfl rfl (Nat.le_of_ble_eq_true rfl) (fun _ _ q => q.elim) (fun _ _ hq => go_T hq (fun h hm1 => ?_))
      have hm := hm.tr hm1
      by_cases f33 : onSh (T 0) s = 4
      · have hm := hm.to (bdO_some (if_pos f33))
        refine go_z (rfB_some (if_pos f33)) ?_
        refine r_if_ne (pc := 36) (tgt := 60) dX3_isRefusedClay_36 (by decide) (by decide) (fun _ => ?_) (fun q => absurd (by decide) q)
        refine r_iconst (pc := 60) dX3_isRefusedClay_60 ?_
        refine r_goto (pc := 61) (tgt := 65) dX3_isRefusedClay_61 (by decide) ?_
        exact e_retTB (pc := 65) dX3_isRefusedClay_65 rfl (by first | (left; rfl) | (right; rfl) | exact rfB_01 _ | omega) hm (by unfold refClay; (repeat' split) <;> first | rfl | omega) (by unfold refClay; (repeat' split) <;> first | rfl | omega)
      · have hm := hm.to (bdO_none (if_neg f33))
        refine go_z (rfB_none (if_neg f33)) ?_
        refine r_if_ne (pc := 36) (tgt := 60) dX3_isRefusedClay_36 (by decide) (by decide) (fun q => absurd q (by decide)) (fun _ => ?_)
        refine r_aload_n (pc := 39) dX3_isRefusedClay_39 rfl ?_
        refine gX3_7 (pc := 40) dX3_isRefusedClay_40 hm.1.1 rfl ?_
        refine r_iconst (pc := 43) dX3_isRefusedClay_43 ?_
        refine t_iald (pc := 44) (lim := 140) 0 dX3_isRefusedClay_44 hm (by decide) rfl (by first | omega | exact rfB_in _ | exact nz_in _ | exact hm.r _ _) (fun r44 => ?_)
        refine r_bipush (pc := 45) dX3_isRefusedClay_45 (by decide) ?_
        refine r_icmp_ne (pc := 47) (tgt := 64) dX3_isRefusedClay_47 (by decide) (by first | omega | exact rfB_in _ | exact nz_in _ | exact hm.r _ _) (by first | omega | exact rfB_in _ | exact nz_in _ | exact hm.r _ _) (fun c47 => ?_) (fun c47 => ?_)
        · refine r_iconst (pc := 64) dX3_isRefusedClay_64 ?_
          exact e_retTB (pc := 65) dX3_isRefusedClay_65 rfl (by first | (left; rfl) | (right; rfl) | exact rfB_01 _ | omega) hm (by unfold refClay; (repeat' split) <;> first | rfl | omega) (by unfold refClay; (repeat' split) <;> first | rfl | omega)
        · refine r_aload_n (pc := 50) dX3_isRefusedClay_50 rfl ?_
          refine r_iconst (pc := 51) dX3_isRefusedClay_51 ?_
          refine r_bipush (pc := 52) dX3_isRefusedClay_52 (by decide) ?_
          refine r_callV (pc := 54) (kb' := 0) dX3_isRefusedClay_54 kX3_isBad q2797 (t_isBad hm (by omega) (by omega)) hm.1.1 rfl (Nat.le_refl _) (Nat.le_of_ble_eq_true rfl) rfl rfl (Nat.le_of_ble_eq_true rfl) (fun _ _ q => q.elim) (fun _ _ hq => go_T hq (fun h hm1 => ?_))
          have hm := hm.tr hm1
          refine r_if_eq (pc := 57) (tgt := 64) dX3_isRefusedClay_57 (by decide) (by decide) (fun q => absurd q (by decide)) (fun _ => ?_)
          refine r_iconst (pc := 60) dX3_isRefusedClay_60 ?_
          refine r_goto (pc := 61) (tgt := 65) dX3_isRefusedClay_61 (by decide) ?_
          exact e_retTB (pc := 65) dX3_isRefusedClay_65 rfl (by first | (left; rfl) | (right; rfl) | exact rfB_01 _ | omega) hm (by unfold refClay; (repeat' split) <;> first | rfl | omega) (by unfold refClay; (repeat' split) <;> first | rfl | omega)
    · refine r_aload_n (pc := 24) dX3_isRefusedClay_24 rfl ?_
      refine r_iconst (pc := 25) dX3_isRefusedClay_25 ?_
      refine r_iload_n (pc := 26) dX3_isRefusedClay_26 rfl ?_
      refine r_callV (pc := 27) (kb' := 0) dX3_isRefusedClay_27 kX3_isBad q2797 (t_isBad hm (by omega) (by omega)) hm.1.1 rfl (Nat.le_refl _) (Nat.le_of_ble_eq_true rfl) rfl rfl (Nat.le_of_ble_eq_true rfl) (fun _ _ q => q.elim) (fun _ _ hq => go_T hq (fun h hm1 => ?_))
      have hm := hm.tr hm1
      exact e_retTB (pc := 30) dX3_isRefusedClay_30 rfl (by first | (left; rfl) | (right; rfl) | exact rfB_01 _ | omega) hm (by unfold refClay; (repeat' split) <;> first | rfl | omega) (by unfold refClay; (repeat' split) <;> first | rfl | omega)
  · refine r_aload_n (pc := 10) dX3_isRefusedClay_10 rfl ?_
    refine r_iconst (pc := 11) dX3_isRefusedClay_11 ?_
    refine r_iload_n (pc := 12) dX3_isRefusedClay_12 rfl ?_
    refine r_callV (pc := 13) (kb' := 0) dX3_isRefusedClay_13 kX3_isBad q2797 (t_isBad hm (by omega) (by omega)) hm.1.1 rfl (Nat.le_refl _) (Nat.le_of_ble_eq_true rfl) rfl rfl (Nat.le_of_ble_eq_true rfl) (fun _ _ q => q.elim) (fun _ _ hq => go_T hq (fun h hm1 => ?_))
    have hm := hm.tr hm1
    exact e_retTB (pc := 16) dX3_isRefusedClay_16 rfl (by first | (left; rfl) | (right; rfl) | exact rfB_01 _ | omega) hm (by unfold refClay; (repeat' split) <;> first | rfl | omega) (by unfold refClay; (repeat' split) <;> first | rfl | omega)
theorem t_isRefusedGlaze {G : Gl} {m : Nat} {ad : Nat → Nat} {h0 h : Hp} {T : TM} (hm : TI m ad h0 T h) {a : Int} (hI : RI (T 0)) (ha : InR a) : Ct G 4 0 yX3_isRefusedGlaze (Cond.code yX3_isRefusedGlaze cX3_isRefusedGlaze 2 (some .boolean)) [.ref m, .int (iZ a)] h (RT m ad h (rfB (refGlaze (T 0) a)) (bdO T (refGlaze (T 0) a))) noX := by
  have hm := hm.nw
  have hb := hI.1
  have o9 := fun x => onSh_in (r := T 0) (s := x) (by omega)
  have p9 : ∀ x, InR (plOf (T 0) x) := fun x => (fnd_in (N := T 0 1) (p := fun k => T 0 (12 + k) = x) (by omega)).2.2
  refine Ct.of (own := eM) (nm := "isRefusedGlaze") (by decide +kernel) rfl rfl (L := [some (.ref m), some (.int (iZ a))]) rfl (Nat.le_of_ble_eq_true rfl) rfl ?_
  refine r_aload_n (pc := 0) dX3_isRefusedGlaze_0 rfl ?_
  refine r_iload_n (pc := 1) dX3_isRefusedGlaze_1 rfl ?_
  refine r_callV (pc := 2) (kb' := 0) dX3_isRefusedGlaze_2 kX3_isNoArticle q2847 (t_isNoArticle hm hI (by omega)) hm.1.1 rfl (Nat.le_refl _) (Nat.le_of_ble_eq_true rfl) rfl rfl (Nat.le_of_ble_eq_true rfl) (fun _ _ q => q.elim) (fun _ _ hq => go_T hq (fun h hm1 => ?_))
  have hm := hm.tr hm1
  by_cases f2 : ¬ (0 ≤ a ∧ a ≤ T 0 0 - 1)
  · have hm := hm.to (bdO_some (if_pos f2))
    refine go_z (rfB_some (if_pos f2)) ?_
    refine r_if_ne (pc := 5) (tgt := 36) dX3_isRefusedGlaze_5 (by decide) (by decide) (fun _ => ?_) (fun q => absurd (by decide) q)
    refine r_iconst (pc := 36) dX3_isRefusedGlaze_36 ?_
    refine r_goto (pc := 37) (tgt := 41) dX3_isRefusedGlaze_37 (by decide) ?_
    exact e_retTB (pc := 41) dX3_isRefusedGlaze_41 rfl (by first | (left; rfl) | (right; rfl) | exact rfB_01 _ | omega) hm (by unfold refGlaze; (repeat' split) <;> first | rfl | omega) (by unfold refGlaze; (repeat' split) <;> first | rfl | omega)
  · have hm := hm.to (bdO_none (if_neg f2))
    refine go_z (rfB_none (if_neg f2)) ?_
    refine r_if_ne (pc := 5) (tgt := 36) dX3_isRefusedGlaze_5 (by decide) (by decide) (fun q => absurd q (by decide)) (fun _ => ?_)
    have ho := hI.2.1 a (by omega) (by omega)
    unfold artOk at ho
    refine r_aload_n (pc := 8) dX3_isRefusedGlaze_8 rfl ?_
    refine r_iload_n (pc := 9) dX3_isRefusedGlaze_9 rfl ?_
    refine r_callV (pc := 10) (kb' := 0) dX3_isRefusedGlaze_10 kX3_isLaw q2855 (t_isLaw hm hI (by omega)) hm.1.1 rfl (Nat.le_refl _) (Nat.le_of_ble_eq_true rfl) rfl rfl (Nat.le_of_ble_eq_true rfl) (fun _ _ q => q.elim) (fun _ _ hq => go_T hq (fun h hm1 => ?_))
    have hm := hm.tr hm1
    by_cases f10 : fA (T 0) a 4 < 0
    · have hm := hm.to (bdO_some (if_pos f10))
      refine go_z (rfB_some (if_pos f10)) ?_
      refine r_if_ne (pc := 13) (tgt := 36) dX3_isRefusedGlaze_13 (by decide) (by decide) (fun _ => ?_) (fun q => absurd (by decide) q)
      refine r_iconst (pc := 36) dX3_isRefusedGlaze_36 ?_
      refine r_goto (pc := 37) (tgt := 41) dX3_isRefusedGlaze_37 (by decide) ?_
      exact e_retTB (pc := 41) dX3_isRefusedGlaze_41 rfl (by first | (left; rfl) | (right; rfl) | exact rfB_01 _ | omega) hm (by unfold refGlaze; (repeat' split) <;> first | rfl | omega) (by unfold refGlaze; (repeat' split) <;> first | rfl | omega)
    · have hm := hm.to (bdO_none (if_neg f10))
      refine go_z (rfB_none (if_neg f10)) ?_
      refine r_if_ne (pc := 13) (tgt := 36) dX3_isRefusedGlaze_13 (by decide) (by decide) (fun q => absurd q (by decide)) (fun _ => ?_)
      refine r_aload_n (pc := 16) dX3_isRefusedGlaze_16 rfl ?_
      refine r_iload_n (pc := 17) dX3_isRefusedGlaze_17 rfl ?_
      refine r_iconst (pc := 18) dX3_isRefusedGlaze_18 ?_
      refine r_callV (pc := 19) (kb' := 0) dX3_isRefusedGlaze_19 kX3_av q2815 (t_av hm (by omega) (by omega)) hm.1.1 rfl (Nat.le_refl _) (Nat.le_of_ble_eq_true rfl) rfl rfl (Nat.le_of_ble_eq_true rfl) (fun _ _ q => q.elim) (fun _ _ hq => go_E hq ?_)
      refine r_iconst (pc := 22) dX3_isRefusedGlaze_22 ?_
      refine r_icmp_ne (pc := 23) (tgt := 40) dX3_isRefusedGlaze_23 (by decide) (by first | omega | exact rfB_in _ | exact nz_in _ | exact hm.r _ _) (by first | omega | exact rfB_in _ | exact nz_in _ | exact hm.r _ _) (fun c23 => ?_) (fun c23 => ?_)
      · refine r_iconst (pc := 40) dX3_isRefusedGlaze_40 ?_
        exact e_retTB (pc := 41) dX3_isRefusedGlaze_41 rfl (by first | (left; rfl) | (right; rfl) | exact rfB_01 _ | omega) hm (by unfold refGlaze; (repeat' split) <;> first | rfl | omega) (by unfold refGlaze; (repeat' split) <;> first | rfl | omega)
      · refine r_aload_n (pc := 26) dX3_isRefusedGlaze_26 rfl ?_
        refine r_bipush (pc := 27) dX3_isRefusedGlaze_27 (by decide) ?_
        refine r_iconst (pc := 29) dX3_isRefusedGlaze_29 ?_
        refine r_callV (pc := 30) (kb' := 0) dX3_isRefusedGlaze_30 kX3_isBad q2797 (t_isBad hm (by omega) (by omega)) hm.1.1 rfl (Nat.le_refl _) (Nat.le_of_ble_eq_true rfl) rfl rfl (Nat.le_of_ble_eq_true rfl) (fun _ _ q => q.elim) (fun _ _ hq => go_T hq (fun h hm1 => ?_))
        have hm := hm.tr hm1
        refine r_if_eq (pc := 33) (tgt := 40) dX3_isRefusedGlaze_33 (by decide) (by decide) (fun q => absurd q (by decide)) (fun _ => ?_)
        refine r_iconst (pc := 36) dX3_isRefusedGlaze_36 ?_
        refine r_goto (pc := 37) (tgt := 41) dX3_isRefusedGlaze_37 (by decide) ?_
        exact e_retTB (pc := 41) dX3_isRefusedGlaze_41 rfl (by first | (left; rfl) | (right; rfl) | exact rfB_01 _ | omega) hm (by unfold refGlaze; (repeat' split) <;> first | rfl | omega) (by unfold refGlaze; (repeat' split) <;> first | rfl | omega)
theorem t_isRefusedShelve {G : Gl} {m : Nat} {ad : Nat → Nat} {h0 h : Hp} {T : TM} (hm : TI m ad h0 T h) {a s : Int} (hI : RI (T 0)) (ha : InR a) (hs : InR s) : Ct G 4 0 yX3_isRefusedShelve (Cond.code yX3_isRefusedShelve cX3_isRefusedShelve 3 (some .boolean)) [.ref m, .int (iZ a), .int (iZ s)] h (RT m ad h (rfB (refShelve (T 0) a s)) (bdO T (refShelve (T 0) a s))) noX := by
  have hm := hm.nw
  have hb := hI.1
  have o9 := fun x => onSh_in (r := T 0) (s := x) (by omega)
  have p9 : ∀ x, InR (plOf (T 0) x) := fun x => (fnd_in (N := T 0 1) (p := fun k => T 0 (12 + k) = x) (by omega)).2.2
  refine Ct.of (own := eM) (nm := "isRefusedShelve") (by decide +kernel) rfl rfl (L := [some (.ref m), some (.int (iZ a)), some (.int (iZ s))]) rfl (Nat.le_of_ble_eq_true rfl) rfl ?_
  refine r_aload_n (pc := 0) dX3_isRefusedShelve_0 rfl ?_
  refine r_iload_n (pc := 1) dX3_isRefusedShelve_1 rfl ?_
  refine r_callV (pc := 2) (kb' := 0) dX3_isRefusedShelve_2 kX3_isNoArticle q2847 (t_isNoArticle hm hI (by omega)) hm.1.1 rfl (Nat.le_refl _) (Nat.le_of_ble_eq_true rfl) rfl rfl (Nat.le_of_ble_eq_true rfl) (fun _ _ q => q.elim) (fun _ _ hq => go_T hq (fun h hm1 => ?_))
  have hm := hm.tr hm1
  by_cases f2 : ¬ (0 ≤ a ∧ a ≤ T 0 0 - 1)
  · have hm := hm.to (bdO_some (if_pos f2))
    refine go_z (rfB_some (if_pos f2)) ?_
    refine r_if_eq (pc := 5) (tgt := 10) dX3_isRefusedShelve_5 (by decide) (by decide) (fun q => absurd q (by decide)) (fun _ => ?_)
    refine r_iconst (pc := 8) dX3_isRefusedShelve_8 ?_
    exact e_retTB (pc := 9) dX3_isRefusedShelve_9 rfl (by first | (left; rfl) | (right; rfl) | exact rfB_01 _ | omega) hm (by unfold refShelve; (repeat' split) <;> first | rfl | omega) (by unfold refShelve; (repeat' split) <;> first | rfl | omega)
  · have hm := hm.to (bdO_none (if_neg f2))
    refine go_z (rfB_none (if_neg f2)) ?_
    refine r_if_eq (pc := 5) (tgt := 10) dX3_isRefusedShelve_5 (by decide) (by decide) (fun _ => ?_) (fun q => absurd (by decide) q)
    have ho := hI.2.1 a (by omega) (by omega)
    unfold artOk at ho
    refine r_iload_n (pc := 10) dX3_isRefusedShelve_10 rfl ?_
    refine r_callS (pc := 11) (kb' := 0) dX3_isRefusedShelve_11 kX3_isNoShelf q2801 (t_isNoShelf (by omega)) (Nat.le_refl _) (Nat.le_of_ble_eq_true rfl) rfl rfl (Nat.le_of_ble_eq_true rfl) (fun _ _ q => q.elim) (fun _ _ hq => go_E hq ?_)
    refine r_ifB_eq (pc := 14) (tgt := 24) dX3_isRefusedShelve_14 (by decide) (fun c14 => ?_) (fun c14 => ?_)
    · refine r_aload_n (pc := 24) dX3_isRefusedShelve_24 rfl ?_
      refine r_iload_n (pc := 25) dX3_isRefusedShelve_25 rfl ?_
      refine r_callV (pc := 26) (kb' := 0) dX3_isRefusedShelve_26 kX3_isLaw q2855 (t_isLaw hm hI (by omega)) hm.1.1 rfl (Nat.le_refl _) (Nat.le_of_ble_eq_true rfl) rfl rfl (Nat.le_of_ble_eq_true rfl) (fun _ _ q => q.elim) (fun _ _ hq => go_T hq (fun h hm1 => ?_))
      have hm := hm.tr hm1
      by_cases f26 : fA (T 0) a 4 < 0
      · have hm := hm.to (bdO_some (if_pos f26))
        refine go_z (rfB_some (if_pos f26)) ?_
        refine r_if_eq (pc := 29) (tgt := 34) dX3_isRefusedShelve_29 (by decide) (by decide) (fun q => absurd q (by decide)) (fun _ => ?_)
        refine r_iconst (pc := 32) dX3_isRefusedShelve_32 ?_
        exact e_retTB (pc := 33) dX3_isRefusedShelve_33 rfl (by first | (left; rfl) | (right; rfl) | exact rfB_01 _ | omega) hm (by unfold refShelve; (repeat' split) <;> first | rfl | omega) (by unfold refShelve; (repeat' split) <;> first | rfl | omega)
      · have hm := hm.to (bdO_none (if_neg f26))
        refine go_z (rfB_none (if_neg f26)) ?_
        refine r_if_eq (pc := 29) (tgt := 34) dX3_isRefusedShelve_29 (by decide) (by decide) (fun _ => ?_) (fun q => absurd (by decide) q)
        refine r_aload_n (pc := 34) dX3_isRefusedShelve_34 rfl ?_
        refine r_iload_n (pc := 35) dX3_isRefusedShelve_35 rfl ?_
        refine r_iconst (pc := 36) dX3_isRefusedShelve_36 ?_
        refine r_callV (pc := 37) (kb' := 0) dX3_isRefusedShelve_37 kX3_av q2815 (t_av hm (by omega) (by omega)) hm.1.1 rfl (Nat.le_refl _) (Nat.le_of_ble_eq_true rfl) rfl rfl (Nat.le_of_ble_eq_true rfl) (fun _ _ q => q.elim) (fun _ _ hq => go_E hq ?_)
        refine r_iload_n (pc := 40) dX3_isRefusedShelve_40 rfl ?_
        refine r_icmp_ne (pc := 41) (tgt := 54) dX3_isRefusedShelve_41 (by decide) (by first | omega | exact rfB_in _ | exact nz_in _ | exact hm.r _ _) (by first | omega | exact rfB_in _ | exact nz_in _ | exact hm.r _ _) (fun c41 => ?_) (fun c41 => ?_)
        · refine r_aload_n (pc := 54) dX3_isRefusedShelve_54 rfl ?_
          have o8 := o9 s
          refine r_iload_n (pc := 55) dX3_isRefusedShelve_55 rfl ?_
          refine r_callV (pc := 56) (kb' := 0) dX3_isRefusedShelve_56 kX3_isFull q2807 (t_isFull hm hI (by omega)) hm.1.1 rfl (Nat.le_refl _) (Nat.le_of_ble_eq_true rfl) rfl rfl (Nat.le_of_ble_eq_true rfl) (fun _ _ q => q.elim) (fun _ _ hq => go_T hq (fun h hm1 => ?_))
          have hm := hm.tr hm1
          by_cases f56 : onSh (T 0) s = 4
          · have hm := hm.to (bdO_some (if_pos f56))
            refine go_z (rfB_some (if_pos f56)) ?_
            refine r_if_eq (pc := 59) (tgt := 66) dX3_isRefusedShelve_59 (by decide) (by decide) (fun q => absurd q (by decide)) (fun _ => ?_)
            refine r_iconst (pc := 62) dX3_isRefusedShelve_62 ?_
            refine r_goto (pc := 63) (tgt := 67) dX3_isRefusedShelve_63 (by decide) ?_
            exact e_retTB (pc := 67) dX3_isRefusedShelve_67 rfl (by first | (left; rfl) | (right; rfl) | exact rfB_01 _ | omega) hm (by unfold refShelve; (repeat' split) <;> first | rfl | omega) (by unfold refShelve; (repeat' split) <;> first | rfl | omega)
          · have hm := hm.to (bdO_none (if_neg f56))
            refine go_z (rfB_none (if_neg f56)) ?_
            refine r_if_eq (pc := 59) (tgt := 66) dX3_isRefusedShelve_59 (by decide) (by decide) (fun _ => ?_) (fun q => absurd (by decide) q)
            refine r_iconst (pc := 66) dX3_isRefusedShelve_66 ?_
            exact e_retTB (pc := 67) dX3_isRefusedShelve_67 rfl (by first | (left; rfl) | (right; rfl) | exact rfB_01 _ | omega) hm (by unfold refShelve; (repeat' split) <;> first | rfl | omega) (by unfold refShelve; (repeat' split) <;> first | rfl | omega)
        · refine r_aload_n (pc := 44) dX3_isRefusedShelve_44 rfl ?_
          refine r_bipush (pc := 45) dX3_isRefusedShelve_45 (by decide) ?_
          refine r_iload_n (pc := 47) dX3_isRefusedShelve_47 rfl ?_
          refine r_callV (pc := 48) (kb' := 0) dX3_isRefusedShelve_48 kX3_isBad q2797 (t_isBad hm (by omega) (by omega)) hm.1.1 rfl (Nat.le_refl _) (Nat.le_of_ble_eq_true rfl) rfl rfl (Nat.le_of_ble_eq_true rfl) (fun _ _ q => q.elim) (fun _ _ hq => go_T hq (fun h hm1 => ?_))
          have hm := hm.tr hm1
          refine r_if_ne (pc := 51) (tgt := 62) dX3_isRefusedShelve_51 (by decide) (by decide) (fun _ => ?_) (fun q => absurd (by decide) q)
          refine r_iconst (pc := 62) dX3_isRefusedShelve_62 ?_
          refine r_goto (pc := 63) (tgt := 67) dX3_isRefusedShelve_63 (by decide) ?_
          exact e_retTB (pc := 67) dX3_isRefusedShelve_67 rfl (by first | (left; rfl) | (right; rfl) | exact rfB_01 _ | omega) hm (by unfold refShelve; (repeat' split) <;> first | rfl | omega) (by unfold refShelve; (repeat' split) <;> first | rfl | omega)
    · refine r_aload_n (pc := 17) dX3_isRefusedShelve_17 rfl ?_
      refine r_iconst (pc := 18) dX3_isRefusedShelve_18 ?_
      refine r_iload_n (pc := 19) dX3_isRefusedShelve_19 rfl ?_
      refine r_callV (pc := 20) (kb' := 0) dX3_isRefusedShelve_20 kX3_isBad q2797 (t_isBad hm (by omega) (by omega)) hm.1.1 rfl (Nat.le_refl _) (Nat.le_of_ble_eq_true rfl) rfl rfl (Nat.le_of_ble_eq_true rfl) (fun _ _ q => q.elim) (fun _ _ hq => go_T hq (fun h hm1 => ?_))
      have hm := hm.tr hm1
      exact e_retTB (pc := 23) dX3_isRefusedShelve_23 rfl (by first | (left; rfl) | (right; rfl) | exact rfB_01 _ | omega) hm (by unfold refShelve; (repeat' split) <;> first | rfl | omega) (by unfold refShelve; (repeat' split) <;> first | rfl | omega)
theorem t_isRefusedRepeal {G : Gl} {m : Nat} {ad : Nat → Nat} {h0 h : Hp} {T : TM} (hm : TI m ad h0 T h) {a s : Int} (hI : RI (T 0)) (ha : InR a) (hs : InR s) : Ct G 4 0 yX3_isRefusedRepeal (Cond.code yX3_isRefusedRepeal cX3_isRefusedRepeal 3 (some .boolean)) [.ref m, .int (iZ a), .int (iZ s)] h (RT m ad h (rfB (refRepeal (T 0) a s)) (bdO T (refRepeal (T 0) a s))) noX := by
  have hm := hm.nw
  have hb := hI.1
  have o9 := fun x => onSh_in (r := T 0) (s := x) (by omega)
  have p9 : ∀ x, InR (plOf (T 0) x) := fun x => (fnd_in (N := T 0 1) (p := fun k => T 0 (12 + k) = x) (by omega)).2.2
  refine Ct.of (own := eM) (nm := "isRefusedRepeal") (by decide +kernel) rfl rfl (L := [some (.ref m), some (.int (iZ a)), some (.int (iZ s))]) rfl (Nat.le_of_ble_eq_true rfl) rfl ?_
  refine r_aload_n (pc := 0) dX3_isRefusedRepeal_0 rfl ?_
  refine r_iload_n (pc := 1) dX3_isRefusedRepeal_1 rfl ?_
  refine r_callV (pc := 2) (kb' := 0) dX3_isRefusedRepeal_2 kX3_isNoArticle q2847 (t_isNoArticle hm hI (by omega)) hm.1.1 rfl (Nat.le_refl _) (Nat.le_of_ble_eq_true rfl) rfl rfl (Nat.le_of_ble_eq_true rfl) (fun _ _ q => q.elim) (fun _ _ hq => go_T hq (fun h hm1 => ?_))
  have hm := hm.tr hm1
  by_cases f2 : ¬ (0 ≤ a ∧ a ≤ T 0 0 - 1)
  · have hm := hm.to (bdO_some (if_pos f2))
    refine go_z (rfB_some (if_pos f2)) ?_
    refine r_if_eq (pc := 5) (tgt := 10) dX3_isRefusedRepeal_5 (by decide) (by decide) (fun q => absurd q (by decide)) (fun _ => ?_)
    refine r_iconst (pc := 8) dX3_isRefusedRepeal_8 ?_
    exact e_retTB (pc := 9) dX3_isRefusedRepeal_9 rfl (by first | (left; rfl) | (right; rfl) | exact rfB_01 _ | omega) hm (by unfold refRepeal; (repeat' split) <;> first | rfl | omega) (by unfold refRepeal; (repeat' split) <;> first | rfl | omega)
  · have hm := hm.to (bdO_none (if_neg f2))
    refine go_z (rfB_none (if_neg f2)) ?_
    refine r_if_eq (pc := 5) (tgt := 10) dX3_isRefusedRepeal_5 (by decide) (by decide) (fun _ => ?_) (fun q => absurd (by decide) q)
    have ho := hI.2.1 a (by omega) (by omega)
    unfold artOk at ho
    refine r_iload_n (pc := 10) dX3_isRefusedRepeal_10 rfl ?_
    refine r_callS (pc := 11) (kb' := 0) dX3_isRefusedRepeal_11 kX3_isNoShelf q2801 (t_isNoShelf (by omega)) (Nat.le_refl _) (Nat.le_of_ble_eq_true rfl) rfl rfl (Nat.le_of_ble_eq_true rfl) (fun _ _ q => q.elim) (fun _ _ hq => go_E hq ?_)
    refine r_ifB_eq (pc := 14) (tgt := 24) dX3_isRefusedRepeal_14 (by decide) (fun c14 => ?_) (fun c14 => ?_)
    · refine r_aload_n (pc := 24) dX3_isRefusedRepeal_24 rfl ?_
      refine r_iload_n (pc := 25) dX3_isRefusedRepeal_25 rfl ?_
      refine r_iconst (pc := 26) dX3_isRefusedRepeal_26 ?_
      refine r_callV (pc := 27) (kb' := 0) dX3_isRefusedRepeal_27 kX3_av q2815 (t_av hm (by omega) (by omega)) hm.1.1 rfl (Nat.le_refl _) (Nat.le_of_ble_eq_true rfl) rfl rfl (Nat.le_of_ble_eq_true rfl) (fun _ _ q => q.elim) (fun _ _ hq => go_E hq ?_)
      refine r_if_lt (pc := 30) (tgt := 45) dX3_isRefusedRepeal_30 (by decide) (by first | omega | exact rfB_in _ | exact nz_in _ | exact hm.r _ _) (fun c30 => ?_) (fun c30 => ?_)
      · refine r_aload_n (pc := 45) dX3_isRefusedRepeal_45 rfl ?_
        have o8 := o9 s
        refine r_iload_n (pc := 46) dX3_isRefusedRepeal_46 rfl ?_
        refine r_callV (pc := 47) (kb' := 0) dX3_isRefusedRepeal_47 kX3_isFull q2807 (t_isFull hm hI (by omega)) hm.1.1 rfl (Nat.le_refl _) (Nat.le_of_ble_eq_true rfl) rfl rfl (Nat.le_of_ble_eq_true rfl) (fun _ _ q => q.elim) (fun _ _ hq => go_T hq (fun h hm1 => ?_))
        have hm := hm.tr hm1
        by_cases f47 : onSh (T 0) s = 4
        · have hm := hm.to (bdO_some (if_pos f47))
          refine go_z (rfB_some (if_pos f47)) ?_
          exact e_retTB (pc := 50) dX3_isRefusedRepeal_50 rfl (by first | (left; rfl) | (right; rfl) | exact rfB_01 _ | omega) hm (by unfold refRepeal; (repeat' split) <;> first | rfl | omega) (by unfold refRepeal; (repeat' split) <;> first | rfl | omega)
        · have hm := hm.to (bdO_none (if_neg f47))
          refine go_z (rfB_none (if_neg f47)) ?_
          exact e_retTB (pc := 50) dX3_isRefusedRepeal_50 rfl (by first | (left; rfl) | (right; rfl) | exact rfB_01 _ | omega) hm (by unfold refRepeal; (repeat' split) <;> first | rfl | omega) (by unfold refRepeal; (repeat' split) <;> first | rfl | omega)
      · refine r_aload_n (pc := 33) dX3_isRefusedRepeal_33 rfl ?_
        refine r_iconst (pc := 34) dX3_isRefusedRepeal_34 ?_
        refine r_aload_n (pc := 35) dX3_isRefusedRepeal_35 rfl ?_
        refine r_iload_n (pc := 36) dX3_isRefusedRepeal_36 rfl ?_
        refine r_iconst (pc := 37) dX3_isRefusedRepeal_37 ?_
        refine r_callV (pc := 38) (kb' := 0) dX3_isRefusedRepeal_38 kX3_av q2815 (t_av hm (by omega) (by omega)) hm.1.1 rfl (Nat.le_refl _) (Nat.le_of_ble_eq_true rfl) rfl rfl (Nat.le_of_ble_eq_true rfl) (fun _ _ q => q.elim) (fun _ _ hq => go_E hq ?_)
        refine r_callV (pc := 41) (kb' := 0) dX3_isRefusedRepeal_41 kX3_isBad q2797 (t_isBad hm (by omega) (by omega)) hm.1.1 rfl (Nat.le_refl _) (Nat.le_of_ble_eq_true rfl) rfl rfl (Nat.le_of_ble_eq_true rfl) (fun _ _ q => q.elim) (fun _ _ hq => go_T hq (fun h hm1 => ?_))
        have hm := hm.tr hm1
        exact e_retTB (pc := 44) dX3_isRefusedRepeal_44 rfl (by first | (left; rfl) | (right; rfl) | exact rfB_01 _ | omega) hm (by unfold refRepeal; (repeat' split) <;> first | rfl | omega) (by unfold refRepeal; (repeat' split) <;> first | rfl | omega)
    · refine r_aload_n (pc := 17) dX3_isRefusedRepeal_17 rfl ?_
      refine r_iconst (pc := 18) dX3_isRefusedRepeal_18 ?_
      refine r_iload_n (pc := 19) dX3_isRefusedRepeal_19 rfl ?_
      refine r_callV (pc := 20) (kb' := 0) dX3_isRefusedRepeal_20 kX3_isBad q2797 (t_isBad hm (by omega) (by omega)) hm.1.1 rfl (Nat.le_refl _) (Nat.le_of_ble_eq_true rfl) rfl rfl (Nat.le_of_ble_eq_true rfl) (fun _ _ q => q.elim) (fun _ _ hq => go_T hq (fun h hm1 => ?_))
      have hm := hm.tr hm1
      exact e_retTB (pc := 23) dX3_isRefusedRepeal_23 rfl (by first | (left; rfl) | (right; rfl) | exact rfB_01 _ | omega) hm (by unfold refRepeal; (repeat' split) <;> first | rfl | omega) (by unfold refRepeal; (repeat' split) <;> first | rfl | omega)
theorem t_isRefusedScrap {G : Gl} {m : Nat} {ad : Nat → Nat} {h0 h : Hp} {T : TM} (hm : TI m ad h0 T h) {a : Int} (hI : RI (T 0)) (ha : InR a) : Ct G 4 0 yX3_isRefusedScrap (Cond.code yX3_isRefusedScrap cX3_isRefusedScrap 2 (some .boolean)) [.ref m, .int (iZ a)] h (RT m ad h (rfB (refScrap (T 0) a)) (bdO T (refScrap (T 0) a))) noX := by
  have hm := hm.nw
  have hb := hI.1
  have o9 := fun x => onSh_in (r := T 0) (s := x) (by omega)
  have p9 : ∀ x, InR (plOf (T 0) x) := fun x => (fnd_in (N := T 0 1) (p := fun k => T 0 (12 + k) = x) (by omega)).2.2
  refine Ct.of (own := eM) (nm := "isRefusedScrap") (by decide +kernel) rfl rfl (L := [some (.ref m), some (.int (iZ a))]) rfl (Nat.le_of_ble_eq_true rfl) rfl ?_
  refine r_aload_n (pc := 0) dX3_isRefusedScrap_0 rfl ?_
  refine r_iload_n (pc := 1) dX3_isRefusedScrap_1 rfl ?_
  refine r_callV (pc := 2) (kb' := 0) dX3_isRefusedScrap_2 kX3_isNoArticle q2847 (t_isNoArticle hm hI (by omega)) hm.1.1 rfl (Nat.le_refl _) (Nat.le_of_ble_eq_true rfl) rfl rfl (Nat.le_of_ble_eq_true rfl) (fun _ _ q => q.elim) (fun _ _ hq => go_T hq (fun h hm1 => ?_))
  have hm := hm.tr hm1
  by_cases f2 : ¬ (0 ≤ a ∧ a ≤ T 0 0 - 1)
  · have hm := hm.to (bdO_some (if_pos f2))
    refine go_z (rfB_some (if_pos f2)) ?_
    refine r_if_ne (pc := 5) (tgt := 16) dX3_isRefusedScrap_5 (by decide) (by decide) (fun _ => ?_) (fun q => absurd (by decide) q)
    refine r_iconst (pc := 16) dX3_isRefusedScrap_16 ?_
    refine r_goto (pc := 17) (tgt := 21) dX3_isRefusedScrap_17 (by decide) ?_
    exact e_retTB (pc := 21) dX3_isRefusedScrap_21 rfl (by first | (left; rfl) | (right; rfl) | exact rfB_01 _ | omega) hm (by unfold refScrap; (repeat' split) <;> first | rfl | omega) (by unfold refScrap; (repeat' split) <;> first | rfl | omega)
  · have hm := hm.to (bdO_none (if_neg f2))
    refine go_z (rfB_none (if_neg f2)) ?_
    refine r_if_ne (pc := 5) (tgt := 16) dX3_isRefusedScrap_5 (by decide) (by decide) (fun q => absurd q (by decide)) (fun _ => ?_)
    have ho := hI.2.1 a (by omega) (by omega)
    unfold artOk at ho
    refine r_aload_n (pc := 8) dX3_isRefusedScrap_8 rfl ?_
    refine r_iload_n (pc := 9) dX3_isRefusedScrap_9 rfl ?_
    refine r_callV (pc := 10) (kb' := 0) dX3_isRefusedScrap_10 kX3_isLaw q2855 (t_isLaw hm hI (by omega)) hm.1.1 rfl (Nat.le_refl _) (Nat.le_of_ble_eq_true rfl) rfl rfl (Nat.le_of_ble_eq_true rfl) (fun _ _ q => q.elim) (fun _ _ hq => go_T hq (fun h hm1 => ?_))
    have hm := hm.tr hm1
    by_cases f10 : fA (T 0) a 4 < 0
    · have hm := hm.to (bdO_some (if_pos f10))
      refine go_z (rfB_some (if_pos f10)) ?_
      refine r_if_eq (pc := 13) (tgt := 20) dX3_isRefusedScrap_13 (by decide) (by decide) (fun q => absurd q (by decide)) (fun _ => ?_)
      refine r_iconst (pc := 16) dX3_isRefusedScrap_16 ?_
      refine r_goto (pc := 17) (tgt := 21) dX3_isRefusedScrap_17 (by decide) ?_
      exact e_retTB (pc := 21) dX3_isRefusedScrap_21 rfl (by first | (left; rfl) | (right; rfl) | exact rfB_01 _ | omega) hm (by unfold refScrap; (repeat' split) <;> first | rfl | omega) (by unfold refScrap; (repeat' split) <;> first | rfl | omega)
    · have hm := hm.to (bdO_none (if_neg f10))
      refine go_z (rfB_none (if_neg f10)) ?_
      refine r_if_eq (pc := 13) (tgt := 20) dX3_isRefusedScrap_13 (by decide) (by decide) (fun _ => ?_) (fun q => absurd (by decide) q)
      refine r_iconst (pc := 20) dX3_isRefusedScrap_20 ?_
      exact e_retTB (pc := 21) dX3_isRefusedScrap_21 rfl (by first | (left; rfl) | (right; rfl) | exact rfB_01 _ | omega) hm (by unfold refScrap; (repeat' split) <;> first | rfl | omega) (by unfold refScrap; (repeat' split) <;> first | rfl | omega)
