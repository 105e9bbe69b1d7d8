set_option maxRecDepth 100000
theorem t_mark {G : Gl} {m : Nat} {ad : Nat → Nat} {h0 h : Hp} {T : TM} (hm : TI m ad h0 T h) (hs : 0 ≤ T 20 0 ∧ T 20 0 ≤ 60 ∧ T 19 0 ≤ 60) : Ct G 1 0 yX3_mark (Cond.code yX3_mark cX3_mark 1 (some .int)) [.ref m] h (RE (mkZ (T 15) (T 19 0) (T 20 0) (T 22 0)) h) noX := by
  have hm := hm.nw
  refine Ct.of (own := eM) (nm := "mark") (by decide +kernel) rfl rfl (L := [some (.ref m)]) rfl (Nat.le_of_ble_eq_true rfl) rfl ?_
  refine r_aload_n (pc := 0) dX3_mark_0 rfl ?_
  refine gX3_78 (pc := 1) dX3_mark_1 hm.1.1 rfl ?_; have r1 := hm.r 22 0
  refine r_if_ne (pc := 4) (tgt := 30) dX3_mark_4 (by decide) (by first | omega | exact rfB_in _ | exact nz_in _ | exact hm.r _ _) (fun c4 => ?_) (fun c4 => ?_)
  · refine r_iconst (pc := 30) dX3_mark_30 ?_
    exact e_ret (pc := 31) dX3_mark_31 rfl (by unfold mkZ; first | exact (if_pos (by omega)).symm | exact (if_neg (by omega)).symm)
  · refine r_aload_n (pc := 7) dX3_mark_7 rfl ?_
    refine gX3_72 (pc := 8) dX3_mark_8 hm.1.1 rfl ?_; have r8 := hm.r 20 0
    refine r_aload_n (pc := 11) dX3_mark_11 rfl ?_
    refine gX3_69 (pc := 12) dX3_mark_12 hm.1.1 rfl ?_; have r12 := hm.r 19 0
    refine r_icmp_ge (pc := 15) (tgt := 30) dX3_mark_15 (by decide) (by first | omega | exact rfB_in _ | exact nz_in _ | exact hm.r _ _) (by first | omega | exact rfB_in _ | exact nz_in _ | exact hm.r _ _) (fun c15 => ?_) (fun c15 => ?_)
    · refine r_iconst (pc := 30) dX3_mark_30 ?_
      exact e_ret (pc := 31) dX3_mark_31 rfl (by unfold mkZ; first | exact (if_pos (by omega)).symm | exact (if_neg (by omega)).symm)
    · refine r_aload_n (pc := 18) dX3_mark_18 rfl ?_
      refine gX3_57 (pc := 19) dX3_mark_19 hm.1.1 rfl ?_
      refine r_aload_n (pc := 22) dX3_mark_22 rfl ?_
      refine gX3_72 (pc := 23) dX3_mark_23 hm.1.1 rfl ?_; have r23 := hm.r 20 0
      refine t_iald (pc := 26) (lim := 60) 15 dX3_mark_26 hm (by decide) rfl (by first | omega | exact rfB_in _ | exact nz_in _ | exact hm.r _ _) (fun r26 => ?_)
      refine r_goto (pc := 27) (tgt := 31) dX3_mark_27 (by decide) ?_
      exact e_ret (pc := 31) dX3_mark_31 rfl (by unfold mkZ; first | exact (if_pos (by omega)).symm | exact (if_neg (by omega)).symm)
theorem t_isDigit {G : Gl} {m : Nat} {ad : Nat → Nat} {h0 h : Hp} {T : TM} (hm : TI m ad h0 T h) (hs : 0 ≤ T 20 0 ∧ T 20 0 ≤ 60 ∧ T 19 0 ≤ 60) : Ct G 2 0 yX3_isDigit (Cond.code yX3_isDigit cX3_isDigit 1 (some .boolean)) [.ref m] h (RE (bZ (dgP (mkZ (T 15) (T 19 0) (T 20 0) (T 22 0)))) h) noX := by
  have hm := hm.nw
  have x9 : InR (mkZ (T 15) (T 19 0) (T 20 0) (T 22 0)) := (by have := hm.r 15 (T 20 0); unfold mkZ; split <;> omega)
  refine Ct.of (own := eM) (nm := "isDigit") (by decide +kernel) rfl rfl (L := [some (.ref m)]) rfl (Nat.le_of_ble_eq_true rfl) rfl ?_
  refine r_aload_n (pc := 0) dX3_isDigit_0 rfl ?_
  refine r_callV (pc := 1) (kb' := 0) dX3_isDigit_1 kX3_mark q3146 (t_mark hm (by omega)) hm.1.1 rfl (Nat.le_refl _) (Nat.le_of_ble_eq_true rfl) rfl rfl (Nat.le_of_ble_eq_true rfl) (fun _ _ q => q.elim) (fun _ _ hq => go_E hq ?_)
  refine r_bipush (pc := 4) dX3_isDigit_4 (by decide) ?_
  refine r_bipush (pc := 6) dX3_isDigit_6 (by decide) ?_
  refine r_callS (pc := 8) (kb' := 0) dX3_isDigit_8 kX3_in q2794 (t_in (by omega) (by omega) (by omega)) (Nat.le_refl _) (Nat.le_of_ble_eq_true rfl) rfl rfl (Nat.le_of_ble_eq_true rfl) (fun _ _ q => q.elim) (fun _ _ hq => go_E hq ?_)
  exact e_retB (pc := 11) dX3_isDigit_11 rfl (by first | (left; rfl) | (right; rfl) | exact bZ_01 _ | omega) (by first | rfl | omega | exact bZ_c (by omega) | exact (bZ_t (by omega)).symm | exact (bZ_f (by omega)).symm | exact bZ_t (by omega) | exact bZ_f (by omega))
