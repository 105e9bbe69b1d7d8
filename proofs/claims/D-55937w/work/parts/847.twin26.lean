set_option maxRecDepth 100000
theorem t_tellShards {G : Gl} {m : Nat} {ad : Nat → Nat} {h0 h9 : Hp} {T9 : TM} (hm : TI m ad h0 T9 h9) (hI : RI (T9 0)) : Ct G 3 0 yX3_tellShards (Cond.code yX3_tellShards cX3_tellShards 2 (some .int)) [.ref m] h9 (RT m ad h9 ((tshL (T9 0) (T9 0 2).toNat).length) (wrs (liT T9) (tshL (T9 0) (T9 0 2).toNat))) noX := by
  have hm := hm.nw
  have hb := hI.1
  refine Ct.of (own := eM) (nm := "tellShards") (by decide +kernel) rfl rfl (L := [some (.ref m), none]) rfl (Nat.le_of_ble_eq_true rfl) rfl ?_
  refine r_aload_n (pc := 0) dX3_tellShards_0 rfl ?_
  refine r_iconst (pc := 1) dX3_tellShards_1 ?_
  refine pX3_25 (pc := 2) dX3_tellShards_2 hm.1.1 (by decide) (Nat.le_of_ble_eq_true rfl) ?_
  refine t_put 5 rfl hm (by first | omega | exact rfB_in _ | exact nz_in _ | exact hm.r _ _) (fun h hm => ?_)
  refine r_aload_n (pc := 5) dX3_tellShards_5 rfl ?_
  refine r_iconst (pc := 6) dX3_tellShards_6 ?_
  refine pX3_84 (pc := 7) dX3_tellShards_7 hm.1.1 (by decide) (Nat.le_of_ble_eq_true rfl) ?_
  refine t_put 24 rfl hm (by first | omega | exact rfB_in _ | exact nz_in _ | exact hm.r _ _) (fun h hm => ?_)
  refine r_iconst (pc := 10) dX3_tellShards_10 ?_
  refine r_istore_n (pc := 11) (L' := [_, _]) dX3_tellShards_11 rfl ?_
  have loop12 : ∀ (n : Nat) (z : Int) (l : List Int) (h : Hp) (T : TM), TI m ad h9 T h → (0 ≤ z ∧ z ≤ T9 0 2) → l.length ≤ 6 * z.toNat → l = tshL (T9 0) z.toNat → T = wrs (liT T9) l → T9 0 2 - z < n → Go G eM cX3_tellShards (2, some .int, "tellShards", []) 3 0 (RT m ad h9 ((tshL (T9 0) (T9 0 2).toNat).length) (wrs (liT T9) (tshL (T9 0) (T9 0 2).toNat))) noX 0 h 12 [some (.ref m), some (.int (iZ z))] [] := by
    intro n
    induction n with
    | zero => intro z l h T hm hz hl hq9 hT hn; omega
    | succ n ih12 =>
      intro z l h T hm hz hl hq9 hT hn
      refine r_iload_n (pc := 12) dX3_tellShards_12 rfl ?_
      refine r_aload_n (pc := 13) dX3_tellShards_13 rfl ?_
      refine gX3_7 (pc := 14) dX3_tellShards_14 hm.1.1 rfl ?_
      refine r_iconst (pc := 17) dX3_tellShards_17 ?_
      refine t_iald (pc := 18) (lim := 140) 0 dX3_tellShards_18 hm (by decide) rfl (by first | omega | exact rfB_in _ | exact nz_in _ | exact hm.r _ _) (fun r18 => ?_)
      refine go_nm (fun z18 e18 => ?_)
      have r18 := InR_of e18 r18
      rw [hT, wrs_k (by decide) (by decide), liT_0] at e18
      refine r_icmp_ge (pc := 19) (tgt := 64) dX3_tellShards_19 (by decide) (by first | omega | exact rfB_in _ | exact nz_in _ | exact hm.r _ _) (by first | omega | exact rfB_in _ | exact nz_in _ | exact hm.r _ _) (fun c19 => ?_) (fun c19 => ?_)
      · refine r_aload_n (pc := 64) dX3_tellShards_64 rfl ?_
        refine gX3_84 (pc := 65) dX3_tellShards_65 hm.1.1 rfl ?_; have r65 := hm.r 24 0
        refine go_nm (fun z65 e65 => ?_)
        have r65 := InR_of e65 r65
        rw [hT, wrs_24 (T := liT T9), liT_24] at e65
        exact e_retT (pc := 68) dX3_tellShards_68 rfl hm (by rw [e65, hq9, show z = T9 0 2 by omega]; simp) (by rw [hT, hq9, show z = T9 0 2 by omega])
      · subst hT
        have hs := hI.2.2.1 z hz.1 (by omega)
        unfold shOk at hs
        refine r_iload_n (pc := 22) dX3_tellShards_22 rfl ?_
        refine r_if_le (pc := 23) (tgt := 32) dX3_tellShards_23 (by decide) (by first | omega | exact rfB_in _ | exact nz_in _ | exact hm.r _ _) (fun c23 => ?_) (fun c23 => ?_)
        · refine r_aload_n (pc := 32) dX3_tellShards_32 rfl ?_
          refine r_aload_n (pc := 33) dX3_tellShards_33 rfl ?_
          refine r_iload_n (pc := 34) dX3_tellShards_34 rfl ?_
          refine r_iconst (pc := 35) dX3_tellShards_35 ?_
          refine r_callV (pc := 36) (kb' := 0) dX3_tellShards_36 kX3_hv q2941 (t_hv hm (by omega) (by omega)) hm.1.1 rfl (Nat.le_refl _) (Nat.le_of_ble_eq_true rfl) rfl rfl (Nat.le_of_ble_eq_true rfl) (fun _ _ q => q.elim) (fun _ _ hq => go_E hq ?_)
          simp only [wrs_k (show (0 : Nat) ≠ 23 by decide) (show (0 : Nat) ≠ 24 by decide), liT_0]
          refine r_callV (pc := 39) (kb' := 0) dX3_tellShards_39 kX3_writesNumber q3170 (t_writesNumber hm (by omega) (wpre (n := 58) hl liT_24 (by omega))) hm.1.1 rfl (Nat.le_refl _) (Nat.le_of_ble_eq_true rfl) rfl rfl (Nat.le_of_ble_eq_true rfl) (fun _ _ q => q.elim) (fun _ _ hq => go_V hq (fun h hm1 => ?_))
          have hm := hm.tr hm1
          obtain ⟨hm, hl⟩ := wst hm hl (numL_le _)
          refine r_aload_n (pc := 42) dX3_tellShards_42 rfl ?_
          refine r_bipush (pc := 43) dX3_tellShards_43 (by decide) ?_
          refine r_callV (pc := 45) (kb' := 0) dX3_tellShards_45 kX3_writes q3174 (t_writes hm (by omega) (wpre (n := 59) hl liT_24 (by omega))) hm.1.1 rfl (Nat.le_refl _) (Nat.le_of_ble_eq_true rfl) rfl rfl (Nat.le_of_ble_eq_true rfl) (fun _ _ q => q.elim) (fun _ _ hq => go_V hq (fun h hm1 => ?_))
          have hm := hm.tr hm1
          obtain ⟨hm, hl⟩ := wst hm hl (Nat.le_refl 1)
          refine r_aload_n (pc := 48) dX3_tellShards_48 rfl ?_
          refine r_aload_n (pc := 49) dX3_tellShards_49 rfl ?_
          refine r_iload_n (pc := 50) dX3_tellShards_50 rfl ?_
          refine r_iconst (pc := 51) dX3_tellShards_51 ?_
          refine r_callV (pc := 52) (kb' := 0) dX3_tellShards_52 kX3_hv q2941 (t_hv hm (by omega) (by omega)) hm.1.1 rfl (Nat.le_refl _) (Nat.le_of_ble_eq_true rfl) rfl rfl (Nat.le_of_ble_eq_true rfl) (fun _ _ q => q.elim) (fun _ _ hq => go_E hq ?_)
          simp only [wrs_k (show (0 : Nat) ≠ 23 by decide) (show (0 : Nat) ≠ 24 by decide), liT_0]
          refine r_callV (pc := 55) (kb' := 0) dX3_tellShards_55 kX3_writesNumber q3170 (t_writesNumber hm (by omega) (wpre (n := 58) hl liT_24 (by omega))) hm.1.1 rfl (Nat.le_refl _) (Nat.le_of_ble_eq_true rfl) rfl rfl (Nat.le_of_ble_eq_true rfl) (fun _ _ q => q.elim) (fun _ _ hq => go_V hq (fun h hm1 => ?_))
          have hm := hm.tr hm1
          obtain ⟨hm, hl⟩ := wst hm hl (numL_le _)
          refine r_iinc (pc := 58) (L' := [_, _]) dX3_tellShards_58 rfl rfl ?_
          refine r_goto (pc := 61) (tgt := 12) dX3_tellShards_61 (by decide) ?_
          exact ih12 (z + 1) _ _ _ hm (by omega) (by rw [show (z + 1).toNat = z.toNat + 1 by omega]; exact Nat.le_trans hl (by omega)) (by rw [hq9, tsh_s hz.1]; first | rw [if_pos (by omega)] | rw [if_neg (by omega)]) rfl (by omega)
        · refine r_aload_n (pc := 26) dX3_tellShards_26 rfl ?_
          refine r_bipush (pc := 27) dX3_tellShards_27 (by decide) ?_
          refine r_callV (pc := 29) (kb' := 0) dX3_tellShards_29 kX3_writes q3174 (t_writes hm (by omega) (wpre (n := 59) hl liT_24 (by omega))) hm.1.1 rfl (Nat.le_refl _) (Nat.le_of_ble_eq_true rfl) rfl rfl (Nat.le_of_ble_eq_true rfl) (fun _ _ q => q.elim) (fun _ _ hq => go_V hq (fun h hm1 => ?_))
          have hm := hm.tr hm1
          obtain ⟨hm, hl⟩ := wst hm hl (Nat.le_refl 1)
          refine r_aload_n (pc := 32) dX3_tellShards_32 rfl ?_
          refine r_aload_n (pc := 33) dX3_tellShards_33 rfl ?_
          refine r_iload_n (pc := 34) dX3_tellShards_34 rfl ?_
          refine r_iconst (pc := 35) dX3_tellShards_35 ?_
          refine r_callV (pc := 36) (kb' := 0) dX3_tellShards_36 kX3_hv q2941 (t_hv hm (by omega) (by omega)) hm.1.1 rfl (Nat.le_refl _) (Nat.le_of_ble_eq_true rfl) rfl rfl (Nat.le_of_ble_eq_true rfl) (fun _ _ q => q.elim) (fun _ _ hq => go_E hq ?_)
          simp only [wrs_k (show (0 : Nat) ≠ 23 by decide) (show (0 : Nat) ≠ 24 by decide), liT_0]
          refine r_callV (pc := 39) (kb' := 0) dX3_tellShards_39 kX3_writesNumber q3170 (t_writesNumber hm (by omega) (wpre (n := 58) hl liT_24 (by omega))) hm.1.1 rfl (Nat.le_refl _) (Nat.le_of_ble_eq_true rfl) rfl rfl (Nat.le_of_ble_eq_true rfl) (fun _ _ q => q.elim) (fun _ _ hq => go_V hq (fun h hm1 => ?_))
          have hm := hm.tr hm1
          obtain ⟨hm, hl⟩ := wst hm hl (numL_le _)
          refine r_aload_n (pc := 42) dX3_tellShards_42 rfl ?_
          refine r_bipush (pc := 43) dX3_tellShards_43 (by decide) ?_
          refine r_callV (pc := 45) (kb' := 0) dX3_tellShards_45 kX3_writes q3174 (t_writes hm (by omega) (wpre (n := 59) hl liT_24 (by omega))) hm.1.1 rfl (Nat.le_refl _) (Nat.le_of_ble_eq_true rfl) rfl rfl (Nat.le_of_ble_eq_true rfl) (fun _ _ q => q.elim) (fun _ _ hq => go_V hq (fun h hm1 => ?_))
          have hm := hm.tr hm1
          obtain ⟨hm, hl⟩ := wst hm hl (Nat.le_refl 1)
          refine r_aload_n (pc := 48) dX3_tellShards_48 rfl ?_
          refine r_aload_n (pc := 49) dX3_tellShards_49 rfl ?_
          refine r_iload_n (pc := 50) dX3_tellShards_50 rfl ?_
          refine r_iconst (pc := 51) dX3_tellShards_51 ?_
          refine r_callV (pc := 52) (kb' := 0) dX3_tellShards_52 kX3_hv q2941 (t_hv hm (by omega) (by omega)) hm.1.1 rfl (Nat.le_refl _) (Nat.le_of_ble_eq_true rfl) rfl rfl (Nat.le_of_ble_eq_true rfl) (fun _ _ q => q.elim) (fun _ _ hq => go_E hq ?_)
          simp only [wrs_k (show (0 : Nat) ≠ 23 by decide) (show (0 : Nat) ≠ 24 by decide), liT_0]
          refine r_callV (pc := 55) (kb' := 0) dX3_tellShards_55 kX3_writesNumber q3170 (t_writesNumber hm (by omega) (wpre (n := 58) hl liT_24 (by omega))) hm.1.1 rfl (Nat.le_refl _) (Nat.le_of_ble_eq_true rfl) rfl rfl (Nat.le_of_ble_eq_true rfl) (fun _ _ q => q.elim) (fun _ _ hq => go_V hq (fun h hm1 => ?_))
          have hm := hm.tr hm1
          obtain ⟨hm, hl⟩ := wst hm hl (numL_le _)
          refine r_iinc (pc := 58) (L' := [_, _]) dX3_tellShards_58 rfl rfl ?_
          refine r_goto (pc := 61) (tgt := 12) dX3_tellShards_61 (by decide) ?_
          exact ih12 (z + 1) _ _ _ hm (by omega) (by rw [show (z + 1).toNat = z.toNat + 1 by omega]; exact Nat.le_trans hl (by omega)) (by rw [hq9, tsh_s hz.1]; first | rw [if_pos (by omega)] | rw [if_neg (by omega)]) rfl (by omega)
  exact loop12 13 0 [] _ _ hm (by omega) (Nat.zero_le _) rfl rfl (by omega)
theorem t_tellCharter {G : Gl} {m : Nat} {ad : Nat → Nat} {h0 h9 : Hp} {T9 : TM} (hm : TI m ad h0 T9 h9) (hI : RI (T9 0)) : Ct G 3 0 yX3_tellCharter (Cond.code yX3_tellCharter cX3_tellCharter 2 (some .int)) [.ref m] h9 (RT m ad h9 ((tchL (T9 0) (T9 0 1).toNat).length) (wrs (liT T9) (tchL (T9 0) (T9 0 1).toNat))) noX := by
  have hm := hm.nw
  have hb := hI.1
  refine Ct.of (own := eM) (nm := "tellCharter") (by decide +kernel) rfl rfl (L := [some (.ref m), none]) rfl (Nat.le_of_ble_eq_true rfl) rfl ?_
  refine r_aload_n (pc := 0) dX3_tellCharter_0 rfl ?_
  refine r_iconst (pc := 1) dX3_tellCharter_1 ?_
  refine pX3_25 (pc := 2) dX3_tellCharter_2 hm.1.1 (by decide) (Nat.le_of_ble_eq_true rfl) ?_
  refine t_put 5 rfl hm (by first | omega | exact rfB_in _ | exact nz_in _ | exact hm.r _ _) (fun h hm => ?_)
  refine r_aload_n (pc := 5) dX3_tellCharter_5 rfl ?_
  refine r_iconst (pc := 6) dX3_tellCharter_6 ?_
  refine pX3_84 (pc := 7) dX3_tellCharter_7 hm.1.1 (by decide) (Nat.le_of_ble_eq_true rfl) ?_
  refine t_put 24 rfl hm (by first | omega | exact rfB_in _ | exact nz_in _ | exact hm.r _ _) (fun h hm => ?_)
  refine r_iconst (pc := 10) dX3_tellCharter_10 ?_
  refine r_istore_n (pc := 11) (L' := [_, _]) dX3_tellCharter_11 rfl ?_
  have loop12 : ∀ (n : Nat) (z : Int) (l : List Int) (h : Hp) (T : TM), TI m ad h9 T h → (0 ≤ z ∧ z ≤ T9 0 1) → l.length ≤ 3 * z.toNat → l = tchL (T9 0) z.toNat → T = wrs (liT T9) l → T9 0 1 - z < n → Go G eM cX3_tellCharter (2, some .int, "tellCharter", []) 3 0 (RT m ad h9 ((tchL (T9 0) (T9 0 1).toNat).length) (wrs (liT T9) (tchL (T9 0) (T9 0 1).toNat))) noX 0 h 12 [some (.ref m), some (.int (iZ z))] [] := by
    intro n
    induction n with
    | zero => intro z l h T hm hz hl hq9 hT hn; omega
    | succ n ih12 =>
      intro z l h T hm hz hl hq9 hT hn
      refine r_iload_n (pc := 12) dX3_tellCharter_12 rfl ?_
      refine r_aload_n (pc := 13) dX3_tellCharter_13 rfl ?_
      refine gX3_7 (pc := 14) dX3_tellCharter_14 hm.1.1 rfl ?_
      refine r_iconst (pc := 17) dX3_tellCharter_17 ?_
      refine t_iald (pc := 18) (lim := 140) 0 dX3_tellCharter_18 hm (by decide) rfl (by first | omega | exact rfB_in _ | exact nz_in _ | exact hm.r _ _) (fun r18 => ?_)
      refine go_nm (fun z18 e18 => ?_)
      have r18 := InR_of e18 r18
      rw [hT, wrs_k (by decide) (by decide), liT_0] at e18
      refine r_icmp_ge (pc := 19) (tgt := 51) dX3_tellCharter_19 (by decide) (by first | omega | exact rfB_in _ | exact nz_in _ | exact hm.r _ _) (by first | omega | exact rfB_in _ | exact nz_in _ | exact hm.r _ _) (fun c19 => ?_) (fun c19 => ?_)
      · refine r_aload_n (pc := 51) dX3_tellCharter_51 rfl ?_
        refine gX3_84 (pc := 52) dX3_tellCharter_52 hm.1.1 rfl ?_; have r52 := hm.r 24 0
        refine go_nm (fun z52 e52 => ?_)
        have r52 := InR_of e52 r52
        rw [hT, wrs_24 (T := liT T9), liT_24] at e52
        exact e_retT (pc := 55) dX3_tellCharter_55 rfl hm (by rw [e52, hq9, show z = T9 0 1 by omega]; simp) (by rw [hT, hq9, show z = T9 0 1 by omega])
      · subst hT
        have hs := hI.2.2.2.1 z hz.1 (by omega)
        refine r_iload_n (pc := 22) dX3_tellCharter_22 rfl ?_
        refine r_if_le (pc := 23) (tgt := 32) dX3_tellCharter_23 (by decide) (by first | omega | exact rfB_in _ | exact nz_in _ | exact hm.r _ _) (fun c23 => ?_) (fun c23 => ?_)
        · refine r_aload_n (pc := 32) dX3_tellCharter_32 rfl ?_
          refine r_aload_n (pc := 33) dX3_tellCharter_33 rfl ?_
          refine gX3_7 (pc := 34) dX3_tellCharter_34 hm.1.1 rfl ?_
          refine r_bipush (pc := 37) dX3_tellCharter_37 (by decide) ?_
          refine r_iload_n (pc := 39) dX3_tellCharter_39 rfl ?_
          refine r_iadd (pc := 40) dX3_tellCharter_40 ?_
          refine t_iald (pc := 41) (lim := 140) 0 dX3_tellCharter_41 hm (by decide) rfl (by first | omega | exact rfB_in _ | exact nz_in _ | exact hm.r _ _) (fun r41 => ?_)
          refine go_nm (fun z41 e41 => ?_)
          have r41 := InR_of e41 r41
          rw [wrs_k (by decide) (by decide), liT_0] at e41
          refine r_callV (pc := 42) (kb' := 0) dX3_tellCharter_42 kX3_writesNumber q3170 (t_writesNumber hm (by omega) (wpre (n := 58) hl liT_24 (by omega))) hm.1.1 rfl (Nat.le_refl _) (Nat.le_of_ble_eq_true rfl) rfl rfl (Nat.le_of_ble_eq_true rfl) (fun _ _ q => q.elim) (fun _ _ hq => go_V hq (fun h hm1 => ?_))
          have hm := hm.tr hm1
          rw [e41] at hm
          obtain ⟨hm, hl⟩ := wst hm hl (numL_le _)
          refine r_iinc (pc := 45) (L' := [_, _]) dX3_tellCharter_45 rfl rfl ?_
          refine r_goto (pc := 48) (tgt := 12) dX3_tellCharter_48 (by decide) ?_
          exact ih12 (z + 1) _ _ _ hm (by omega) (by rw [show (z + 1).toNat = z.toNat + 1 by omega]; exact Nat.le_trans hl (by omega)) (by rw [hq9, tch_s hz.1]; first | rw [if_pos (by omega)] | rw [if_neg (by omega)]) rfl (by omega)
        · refine r_aload_n (pc := 26) dX3_tellCharter_26 rfl ?_
          refine r_bipush (pc := 27) dX3_tellCharter_27 (by decide) ?_
          refine r_callV (pc := 29) (kb' := 0) dX3_tellCharter_29 kX3_writes q3174 (t_writes hm (by omega) (wpre (n := 59) hl liT_24 (by omega))) hm.1.1 rfl (Nat.le_refl _) (Nat.le_of_ble_eq_true rfl) rfl rfl (Nat.le_of_ble_eq_true rfl) (fun _ _ q => q.elim) (fun _ _ hq => go_V hq (fun h hm1 => ?_))
          have hm := hm.tr hm1
          obtain ⟨hm, hl⟩ := wst hm hl (Nat.le_refl 1)
          refine r_aload_n (pc := 32) dX3_tellCharter_32 rfl ?_
          refine r_aload_n (pc := 33) dX3_tellCharter_33 rfl ?_
          refine gX3_7 (pc := 34) dX3_tellCharter_34 hm.1.1 rfl ?_
          refine r_bipush (pc := 37) dX3_tellCharter_37 (by decide) ?_
          refine r_iload_n (pc := 39) dX3_tellCharter_39 rfl ?_
          refine r_iadd (pc := 40) dX3_tellCharter_40 ?_
          refine t_iald (pc := 41) (lim := 140) 0 dX3_tellCharter_41 hm (by decide) rfl (by first | omega | exact rfB_in _ | exact nz_in _ | exact hm.r _ _) (fun r41 => ?_)
          refine go_nm (fun z41 e41 => ?_)
          have r41 := InR_of e41 r41
          rw [wrs_k (by decide) (by decide), liT_0] at e41
          refine r_callV (pc := 42) (kb' := 0) dX3_tellCharter_42 kX3_writesNumber q3170 (t_writesNumber hm (by omega) (wpre (n := 58) hl liT_24 (by omega))) hm.1.1 rfl (Nat.le_refl _) (Nat.le_of_ble_eq_true rfl) rfl rfl (Nat.le_of_ble_eq_true rfl) (fun _ _ q => q.elim) (fun _ _ hq => go_V hq (fun h hm1 => ?_))
          have hm := hm.tr hm1
          rw [e41] at hm
          obtain ⟨hm, hl⟩ := wst hm hl (numL_le _)
          refine r_iinc (pc := 45) (L' := [_, _]) dX3_tellCharter_45 rfl rfl ?_
          refine r_goto (pc := 48) (tgt := 12) dX3_tellCharter_48 (by decide) ?_
          exact ih12 (z + 1) _ _ _ hm (by omega) (by rw [show (z + 1).toNat = z.toNat + 1 by omega]; exact Nat.le_trans hl (by omega)) (by rw [hq9, tch_s hz.1]; first | rw [if_pos (by omega)] | rw [if_neg (by omega)]) rfl (by omega)
  exact loop12 13 0 [] _ _ hm (by omega) (Nat.zero_le _) rfl rfl (by omega)
