set_option maxRecDepth 100000
theorem t_character {G : Gl} {m : Nat} {ad : Nat → Nat} {h0 h9 : Hp} {T : TM} (hm : TI m ad h0 T h9) {i : Int} (hi : InR i) (hf : 0 ≤ T 24 0 ∧ T 24 0 ≤ 60) (hc : 0 ≤ T 23 i ∧ T 23 i < 65536) : Ct G 2 0 yX3_character (Cond.code yX3_character cX3_character 2 (some .char)) [.ref m, .int (iZ i)] h9 (RT m ad h9 (zChr T i) (sT T 5 0 (kChr T i))) noX := by
  have hm := hm.nw
  refine Ct.of (own := eM) (nm := "character") (by decide +kernel) rfl rfl (L := [some (.ref m), some (.int (iZ i))]) rfl (Nat.le_of_ble_eq_true rfl) rfl ?_
  refine r_aload_n (pc := 0) dX3_character_0 rfl ?_
  refine r_iload_n (pc := 1) dX3_character_1 rfl ?_
  refine r_iconst (pc := 2) dX3_character_2 ?_
  refine r_aload_n (pc := 3) dX3_character_3 rfl ?_
  refine gX3_84 (pc := 4) dX3_character_4 hm.1.1 rfl ?_; have r4 := hm.r 24 0
  refine r_iconst (pc := 7) dX3_character_7 ?_
  refine r_isub (pc := 8) dX3_character_8 ?_
  refine r_callS (pc := 9) (kb' := 0) dX3_character_9 kX3_in q2794 (t_in (by omega) (by omega) (by omega)) (Nat.le_refl _) (Nat.le_of_ble_eq_true rfl) rfl rfl (Nat.le_of_ble_eq_true rfl) (fun _ _ q => q.elim) (fun _ _ hq => go_E hq ?_)
  refine r_ifB_eq (pc := 12) (tgt := 19) dX3_character_12 (by decide) (fun c12 => ?_) (fun c12 => ?_)
  · refine r_iconst (pc := 19) dX3_character_19 ?_
    refine pX3_25 (pc := 20) dX3_character_20 hm.1.1 (by decide) (Nat.le_of_ble_eq_true rfl) ?_
    refine t_put 5 rfl hm (by first | omega | exact rfB_in _ | exact nz_in _ | exact hm.r _ _) (fun h hm => ?_)
    refine r_aload_n (pc := 23) dX3_character_23 rfl ?_
    refine gX3_25 (pc := 24) dX3_character_24 hm.1.1 rfl ?_; have r24 := hm.r 5 0
    refine go_z (z' := 1) (by simp [sT]) ?_
    refine r_if_le (pc := 27) (tgt := 35) dX3_character_27 (by decide) (by decide) (fun q => absurd q (by decide)) (fun _ => ?_)
    refine r_bipush (pc := 30) dX3_character_30 (by decide) ?_
    refine r_goto (pc := 32) (tgt := 42) dX3_character_32 (by decide) ?_
    exact e_retC (pc := 42) dX3_character_42 rfl (by omega) hm (by unfold zChr kChr; first | (rw [if_pos (by rw [if_pos (by omega)]), e40]) | (rw [if_neg (by rw [if_neg (by omega)]; decide)])) (by congr 1; unfold kChr; first | exact (if_pos (by omega)).symm | exact (if_neg (by omega)).symm)
  · refine r_iconst (pc := 15) dX3_character_15 ?_
    refine r_goto (pc := 16) (tgt := 20) dX3_character_16 (by decide) ?_
    refine pX3_25 (pc := 20) dX3_character_20 hm.1.1 (by decide) (Nat.le_of_ble_eq_true rfl) ?_
    refine t_put 5 rfl hm (by first | omega | exact rfB_in _ | exact nz_in _ | exact hm.r _ _) (fun h hm => ?_)
    refine r_aload_n (pc := 23) dX3_character_23 rfl ?_
    refine gX3_25 (pc := 24) dX3_character_24 hm.1.1 rfl ?_; have r24 := hm.r 5 0
    refine go_z (z' := 0) (by simp [sT]) ?_
    refine r_if_le (pc := 27) (tgt := 35) dX3_character_27 (by decide) (by decide) (fun _ => ?_) (fun q => absurd (by decide) q)
    refine r_aload_n (pc := 35) dX3_character_35 rfl ?_
    refine gX3_81 (pc := 36) dX3_character_36 hm.1.1 rfl ?_
    refine r_iload_n (pc := 39) dX3_character_39 rfl ?_
    refine t_iald (pc := 40) (lim := 60) 23 dX3_character_40 hm (by decide) rfl (by first | omega | exact rfB_in _ | exact nz_in _ | exact hm.r _ _) (fun r40 => ?_)
    refine go_nm (fun z40 e40 => ?_)
    have r40 := InR_of e40 r40
    rw [sT_k (by decide)] at e40
    refine r_i2c (pc := 41) dX3_character_41 (i2cZ (by omega)) ?_
    exact e_retC (pc := 42) dX3_character_42 rfl (by omega) hm (by unfold zChr kChr; first | (rw [if_pos (by rw [if_pos (by omega)]), e40]) | (rw [if_neg (by rw [if_neg (by omega)]; decide)])) (by congr 1; unfold kChr; first | exact (if_pos (by omega)).symm | exact (if_neg (by omega)).symm)
theorem t_meanClay {G : Gl} {m : Nat} {ad : Nat → Nat} {h0 h9 : Hp} {T : TM} (hm : TI m ad h0 T h9) (hI : RI (T 0)) : Ct G 3 0 yX3_meanClay (Cond.code yX3_meanClay cX3_meanClay 2 (some .double)) [.ref m] h9 (RD m ad h9 (vMn (T 0)) (sT T 5 0 (kMn (T 0)))) noX := by
  have hm := hm.nw
  have hb := hI.1
  have hsm := sm_in hI (T 0 0).toNat (by omega)
  refine Ct.of (own := eM) (nm := "meanClay") (by decide +kernel) rfl rfl (L := [some (.ref m), none]) rfl (Nat.le_of_ble_eq_true rfl) rfl ?_
  refine r_aload_n (pc := 0) dX3_meanClay_0 rfl ?_
  refine gX3_7 (pc := 1) dX3_meanClay_1 hm.1.1 rfl ?_
  refine r_iconst (pc := 4) dX3_meanClay_4 ?_
  refine t_iald (pc := 5) (lim := 140) 0 dX3_meanClay_5 hm (by decide) rfl (by first | omega | exact rfB_in _ | exact nz_in _ | exact hm.r _ _) (fun r5 => ?_)
  refine r_istore_n (pc := 6) (L' := [_, _]) dX3_meanClay_6 rfl ?_
  refine r_aload_n (pc := 7) dX3_meanClay_7 rfl ?_
  refine r_iload_n (pc := 8) dX3_meanClay_8 rfl ?_
  refine r_if_ne (pc := 9) (tgt := 16) dX3_meanClay_9 (by decide) (by first | omega | exact rfB_in _ | exact nz_in _ | exact hm.r _ _) (fun c9 => ?_) (fun c9 => ?_)
  · refine r_iconst (pc := 16) dX3_meanClay_16 ?_
    refine pX3_25 (pc := 17) dX3_meanClay_17 hm.1.1 (by decide) (Nat.le_of_ble_eq_true rfl) ?_
    refine t_put 5 rfl hm (by first | omega | exact rfB_in _ | exact nz_in _ | exact hm.r _ _) (fun h hm => ?_)
    refine r_iload_n (pc := 20) dX3_meanClay_20 rfl ?_
    refine r_if_ne (pc := 21) (tgt := 28) dX3_meanClay_21 (by decide) (by first | omega | exact rfB_in _ | exact nz_in _ | exact hm.r _ _) (fun c21 => ?_) (fun c21 => ?_)
    · refine r_aload_n (pc := 28) dX3_meanClay_28 rfl ?_
      refine r_iconst (pc := 29) dX3_meanClay_29 ?_
      refine r_callV (pc := 30) (kb' := 0) dX3_meanClay_30 kX3_sumOf q3194 (t_sumOf hm (by rw [th0]; exact hI) (by decide)) hm.1.1 rfl (Nat.le_refl _) (Nat.le_of_ble_eq_true rfl) rfl rfl (Nat.le_of_ble_eq_true rfl) (fun _ _ q => q.elim) (fun _ _ hq => go_E hq ?_)
      simp only [th0]
      refine r_i2d (pc := 33) dX3_meanClay_33 ?_
      refine r_iload_n (pc := 34) dX3_meanClay_34 rfl ?_
      refine r_i2d (pc := 35) dX3_meanClay_35 ?_
      refine r_ddiv (pc := 36) dX3_meanClay_36 (by exact dMean_n (s := smA (T 0) 0) (by unfold smA sumI; omega) (by omega)) ?_
      exact e_retDb (pc := 37) dX3_meanClay_37 rfl hm (by congr 1; first | exact (if_pos (by omega)).symm | exact (if_neg (by omega)).symm) (by congr 1; first | exact (if_pos (by omega)).symm | exact (if_neg (by omega)).symm)
    · refine r_dconst0 (pc := 24) dX3_meanClay_24 ?_
      refine r_goto (pc := 25) (tgt := 37) dX3_meanClay_25 (by decide) ?_
      exact e_retDb (pc := 37) dX3_meanClay_37 rfl hm (by congr 1; first | exact (if_pos (by omega)).symm | exact (if_neg (by omega)).symm) (by congr 1; first | exact (if_pos (by omega)).symm | exact (if_neg (by omega)).symm)
  · refine r_iconst (pc := 12) dX3_meanClay_12 ?_
    refine r_goto (pc := 13) (tgt := 17) dX3_meanClay_13 (by decide) ?_
    refine pX3_25 (pc := 17) dX3_meanClay_17 hm.1.1 (by decide) (Nat.le_of_ble_eq_true rfl) ?_
    refine t_put 5 rfl hm (by first | omega | exact rfB_in _ | exact nz_in _ | exact hm.r _ _) (fun h hm => ?_)
    refine r_iload_n (pc := 20) dX3_meanClay_20 rfl ?_
    refine r_if_ne (pc := 21) (tgt := 28) dX3_meanClay_21 (by decide) (by first | omega | exact rfB_in _ | exact nz_in _ | exact hm.r _ _) (fun c21 => ?_) (fun c21 => ?_)
    · refine r_aload_n (pc := 28) dX3_meanClay_28 rfl ?_
      refine r_iconst (pc := 29) dX3_meanClay_29 ?_
      refine r_callV (pc := 30) (kb' := 0) dX3_meanClay_30 kX3_sumOf q3194 (t_sumOf hm (by rw [th0]; exact hI) (by decide)) hm.1.1 rfl (Nat.le_refl _) (Nat.le_of_ble_eq_true rfl) rfl rfl (Nat.le_of_ble_eq_true rfl) (fun _ _ q => q.elim) (fun _ _ hq => go_E hq ?_)
      simp only [th0]
      refine r_i2d (pc := 33) dX3_meanClay_33 ?_
      refine r_iload_n (pc := 34) dX3_meanClay_34 rfl ?_
      refine r_i2d (pc := 35) dX3_meanClay_35 ?_
      refine r_ddiv (pc := 36) dX3_meanClay_36 (by exact dMean_n (s := smA (T 0) 0) (by unfold smA sumI; omega) (by omega)) ?_
      exact e_retDb (pc := 37) dX3_meanClay_37 rfl hm (by congr 1; first | exact (if_pos (by omega)).symm | exact (if_neg (by omega)).symm) (by congr 1; first | exact (if_pos (by omega)).symm | exact (if_neg (by omega)).symm)
    · refine r_dconst0 (pc := 24) dX3_meanClay_24 ?_
      refine r_goto (pc := 25) (tgt := 37) dX3_meanClay_25 (by decide) ?_
      exact e_retDb (pc := 37) dX3_meanClay_37 rfl hm (by congr 1; first | exact (if_pos (by omega)).symm | exact (if_neg (by omega)).symm) (by congr 1; first | exact (if_pos (by omega)).symm | exact (if_neg (by omega)).symm)
theorem t_lawShare {G : Gl} {m : Nat} {ad : Nat → Nat} {h0 h9 : Hp} {T : TM} (hm : TI m ad h0 T h9) (hI : RI (T 0)) : Ct G 1 0 yX3_lawShare (Cond.code yX3_lawShare cX3_lawShare 2 (some .float)) [.ref m] h9 (RD m ad h9 (vSh (T 0)) (sT T 5 0 (kMn (T 0)))) noX := by
  have hm := hm.nw
  have hb := hI.1
  refine Ct.of (own := eM) (nm := "lawShare") (by decide +kernel) rfl rfl (L := [some (.ref m), none]) rfl (Nat.le_of_ble_eq_true rfl) rfl ?_
  refine r_aload_n (pc := 0) dX3_lawShare_0 rfl ?_
  refine gX3_7 (pc := 1) dX3_lawShare_1 hm.1.1 rfl ?_
  refine r_iconst (pc := 4) dX3_lawShare_4 ?_
  refine t_iald (pc := 5) (lim := 140) 0 dX3_lawShare_5 hm (by decide) rfl (by first | omega | exact rfB_in _ | exact nz_in _ | exact hm.r _ _) (fun r5 => ?_)
  refine r_istore_n (pc := 6) (L' := [_, _]) dX3_lawShare_6 rfl ?_
  refine r_aload_n (pc := 7) dX3_lawShare_7 rfl ?_
  refine r_iload_n (pc := 8) dX3_lawShare_8 rfl ?_
  refine r_if_ne (pc := 9) (tgt := 16) dX3_lawShare_9 (by decide) (by first | omega | exact rfB_in _ | exact nz_in _ | exact hm.r _ _) (fun c9 => ?_) (fun c9 => ?_)
  · refine r_iconst (pc := 16) dX3_lawShare_16 ?_
    refine pX3_25 (pc := 17) dX3_lawShare_17 hm.1.1 (by decide) (Nat.le_of_ble_eq_true rfl) ?_
    refine t_put 5 rfl hm (by first | omega | exact rfB_in _ | exact nz_in _ | exact hm.r _ _) (fun h hm => ?_)
    refine r_iload_n (pc := 20) dX3_lawShare_20 rfl ?_
    refine r_if_ne (pc := 21) (tgt := 28) dX3_lawShare_21 (by decide) (by first | omega | exact rfB_in _ | exact nz_in _ | exact hm.r _ _) (fun c21 => ?_) (fun c21 => ?_)
    · refine r_aload_n (pc := 28) dX3_lawShare_28 rfl ?_
      refine gX3_7 (pc := 29) dX3_lawShare_29 hm.1.1 rfl ?_
      refine r_iconst (pc := 32) dX3_lawShare_32 ?_
      refine t_iald (pc := 33) (lim := 140) 0 dX3_lawShare_33 hm (by decide) rfl (by first | omega | exact rfB_in _ | exact nz_in _ | exact hm.r _ _) (fun r33 => ?_)
      refine go_nm (fun z33 e33 => ?_)
      have r33 := InR_of e33 r33
      rw [sT_k (by decide)] at e33
      refine r_i2f (pc := 34) dX3_lawShare_34 ?_
      refine r_iload_n (pc := 35) dX3_lawShare_35 rfl ?_
      refine r_i2f (pc := 36) dX3_lawShare_36 ?_
      refine r_fdiv (pc := 37) dX3_lawShare_37 (by exact fShare_n (s := z33) (n := T 0 0) (by omega) (by omega)) ?_
      exact e_retFl (pc := 38) dX3_lawShare_38 rfl hm (by congr 1; first | exact (if_pos (by omega)).symm | (rw [e33]; exact (if_neg (by omega)).symm)) (by congr 1; first | exact (if_pos (by omega)).symm | exact (if_neg (by omega)).symm)
    · refine r_fconst0 (pc := 24) dX3_lawShare_24 ?_
      refine r_goto (pc := 25) (tgt := 38) dX3_lawShare_25 (by decide) ?_
      exact e_retFl (pc := 38) dX3_lawShare_38 rfl hm (by congr 1; first | exact (if_pos (by omega)).symm | (rw [e33]; exact (if_neg (by omega)).symm)) (by congr 1; first | exact (if_pos (by omega)).symm | exact (if_neg (by omega)).symm)
  · refine r_iconst (pc := 12) dX3_lawShare_12 ?_
    refine r_goto (pc := 13) (tgt := 17) dX3_lawShare_13 (by decide) ?_
    refine pX3_25 (pc := 17) dX3_lawShare_17 hm.1.1 (by decide) (Nat.le_of_ble_eq_true rfl) ?_
    refine t_put 5 rfl hm (by first | omega | exact rfB_in _ | exact nz_in _ | exact hm.r _ _) (fun h hm => ?_)
    refine r_iload_n (pc := 20) dX3_lawShare_20 rfl ?_
    refine r_if_ne (pc := 21) (tgt := 28) dX3_lawShare_21 (by decide) (by first | omega | exact rfB_in _ | exact nz_in _ | exact hm.r _ _) (fun c21 => ?_) (fun c21 => ?_)
    · refine r_aload_n (pc := 28) dX3_lawShare_28 rfl ?_
      refine gX3_7 (pc := 29) dX3_lawShare_29 hm.1.1 rfl ?_
      refine r_iconst (pc := 32) dX3_lawShare_32 ?_
      refine t_iald (pc := 33) (lim := 140) 0 dX3_lawShare_33 hm (by decide) rfl (by first | omega | exact rfB_in _ | exact nz_in _ | exact hm.r _ _) (fun r33 => ?_)
      refine go_nm (fun z33 e33 => ?_)
      have r33 := InR_of e33 r33
      rw [sT_k (by decide)] at e33
      refine r_i2f (pc := 34) dX3_lawShare_34 ?_
      refine r_iload_n (pc := 35) dX3_lawShare_35 rfl ?_
      refine r_i2f (pc := 36) dX3_lawShare_36 ?_
      refine r_fdiv (pc := 37) dX3_lawShare_37 (by exact fShare_n (s := z33) (n := T 0 0) (by omega) (by omega)) ?_
      exact e_retFl (pc := 38) dX3_lawShare_38 rfl hm (by congr 1; first | exact (if_pos (by omega)).symm | (rw [e33]; exact (if_neg (by omega)).symm)) (by congr 1; first | exact (if_pos (by omega)).symm | exact (if_neg (by omega)).symm)
    · refine r_fconst0 (pc := 24) dX3_lawShare_24 ?_
      refine r_goto (pc := 25) (tgt := 38) dX3_lawShare_25 (by decide) ?_
      exact e_retFl (pc := 38) dX3_lawShare_38 rfl hm (by congr 1; first | exact (if_pos (by omega)).symm | (rw [e33]; exact (if_neg (by omega)).symm)) (by congr 1; first | exact (if_pos (by omega)).symm | exact (if_neg (by omega)).symm)
