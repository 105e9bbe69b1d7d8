set_option maxRecDepth 100000
theorem t_thrown {G : Gl} {m : Nat} {ad : Nat → Nat} {h0 h : Hp} {T : TM} (hm : TI m ad h0 T h)  : Ct G 1 0 yX3_thrown (Cond.code yX3_thrown cX3_thrown 1 (some .int)) [.ref m] h (RE (T 5 0) h) noX := by
  have hm := hm.nw
  refine Ct.of (own := eM) (nm := "thrown") (by decide +kernel) rfl rfl (L := [some (.ref m)]) rfl (Nat.le_of_ble_eq_true rfl) rfl ?_
  refine r_aload_n (pc := 0) dX3_thrown_0 rfl ?_
  refine gX3_25 (pc := 1) dX3_thrown_1 hm.1.1 rfl ?_; have r1 := hm.r 5 0
  exact e_ret (pc := 4) dX3_thrown_4 rfl (by first | rfl | omega | exact bZ_c (by omega) | exact (bZ_t (by omega)).symm | exact (bZ_f (by omega)).symm | exact bZ_t (by omega) | exact bZ_f (by omega))
theorem t_in {G : Gl} {h : Hp} {v lo hi : Int} (hv : InR v) (hl : InR lo) (hh : InR hi) : Ct G 1 0 yX3_in (Cond.code yX3_in cX3_in 3 (some .boolean)) [.int (iZ v), .int (iZ lo), .int (iZ hi)] h (RE (bZ (lo ≤ v ∧ v ≤ hi)) h) noX := by
  refine Ct.of (own := eM) (nm := "in") (by decide +kernel) rfl rfl (L := [some (.int (iZ v)), some (.int (iZ lo)), some (.int (iZ hi))]) rfl (Nat.le_of_ble_eq_true rfl) rfl ?_
  refine r_iload_n (pc := 0) dX3_in_0 rfl ?_
  refine r_iload_n (pc := 1) dX3_in_1 rfl ?_
  refine r_icmp_lt (pc := 2) (tgt := 14) dX3_in_2 (by decide) (by first | omega | exact rfB_in _ | exact nz_in _ | exact hm.r _ _) (by first | omega | exact rfB_in _ | exact nz_in _ | exact hm.r _ _) (fun c2 => ?_) (fun c2 => ?_)
  · refine r_iconst (pc := 14) dX3_in_14 ?_
    exact e_retB (pc := 15) dX3_in_15 rfl (by first | (left; rfl) | (right; rfl) | exact bZ_01 _ | omega) (by first | rfl | omega | exact bZ_c (by omega) | exact (bZ_t (by omega)).symm | exact (bZ_f (by omega)).symm | exact bZ_t (by omega) | exact bZ_f (by omega))
  · refine r_iload_n (pc := 5) dX3_in_5 rfl ?_
    refine r_iload_n (pc := 6) dX3_in_6 rfl ?_
    refine r_icmp_gt (pc := 7) (tgt := 14) dX3_in_7 (by decide) (by first | omega | exact rfB_in _ | exact nz_in _ | exact hm.r _ _) (by first | omega | exact rfB_in _ | exact nz_in _ | exact hm.r _ _) (fun c7 => ?_) (fun c7 => ?_)
    · refine r_iconst (pc := 14) dX3_in_14 ?_
      exact e_retB (pc := 15) dX3_in_15 rfl (by first | (left; rfl) | (right; rfl) | exact bZ_01 _ | omega) (by first | rfl | omega | exact bZ_c (by omega) | exact (bZ_t (by omega)).symm | exact (bZ_f (by omega)).symm | exact bZ_t (by omega) | exact bZ_f (by omega))
    · refine r_iconst (pc := 10) dX3_in_10 ?_
      refine r_goto (pc := 11) (tgt := 15) dX3_in_11 (by decide) ?_
      exact e_retB (pc := 15) dX3_in_15 rfl (by first | (left; rfl) | (right; rfl) | exact bZ_01 _ | omega) (by first | rfl | omega | exact bZ_c (by omega) | exact (bZ_t (by omega)).symm | exact (bZ_f (by omega)).symm | exact bZ_t (by omega) | exact bZ_f (by omega))
theorem t_no {G : Gl} {m : Nat} {ad : Nat → Nat} {h0 h : Hp} {T : TM} (hm : TI m ad h0 T h) {w : Int} (hw : InR w) : Ct G 1 0 yX3_no (Cond.code yX3_no cX3_no 2 (some .int)) [.ref m, .int (iZ w)] h (RT m ad h (0) (sT T 5 0 w)) noX := by
  have hm := hm.nw
  refine Ct.of (own := eM) (nm := "no") (by decide +kernel) rfl rfl (L := [some (.ref m), some (.int (iZ w))]) rfl (Nat.le_of_ble_eq_true rfl) rfl ?_
  refine r_aload_n (pc := 0) dX3_no_0 rfl ?_
  refine r_iload_n (pc := 1) dX3_no_1 rfl ?_
  refine pX3_25 (pc := 2) dX3_no_2 hm.1.1 (by decide) (Nat.le_of_ble_eq_true rfl) ?_
  refine t_put 5 rfl hm (by first | omega | exact rfB_in _ | exact nz_in _ | exact hm.r _ _) (fun h hm => ?_)
  refine r_iconst (pc := 5) dX3_no_5 ?_
  exact e_retT (pc := 6) dX3_no_6 rfl hm (by first | rfl | omega | exact bZ_c (by omega) | exact (bZ_t (by omega)).symm | exact (bZ_f (by omega)).symm | exact bZ_t (by omega) | exact bZ_f (by omega)) rfl
theorem t_isBad {G : Gl} {m : Nat} {ad : Nat → Nat} {h0 h : Hp} {T : TM} (hm : TI m ad h0 T h) {w n : Int} (hw : InR w) (hn : InR n) : Ct G 1 0 yX3_isBad (Cond.code yX3_isBad cX3_isBad 3 (some .boolean)) [.ref m, .int (iZ w), .int (iZ n)] h (RT m ad h (1) (bdT T w n)) noX := by
  have hm := hm.nw
  refine Ct.of (own := eM) (nm := "isBad") (by decide +kernel) rfl rfl (L := [some (.ref m), some (.int (iZ w)), some (.int (iZ n))]) rfl (Nat.le_of_ble_eq_true rfl) rfl ?_
  refine r_aload_n (pc := 0) dX3_isBad_0 rfl ?_
  refine r_iload_n (pc := 1) dX3_isBad_1 rfl ?_
  refine pX3_32 (pc := 2) dX3_isBad_2 hm.1.1 (by decide) (Nat.le_of_ble_eq_true rfl) ?_
  refine t_put 7 rfl hm (by first | omega | exact rfB_in _ | exact nz_in _ | exact hm.r _ _) (fun h hm => ?_)
  refine r_aload_n (pc := 5) dX3_isBad_5 rfl ?_
  refine r_iload_n (pc := 6) dX3_isBad_6 rfl ?_
  refine pX3_35 (pc := 7) dX3_isBad_7 hm.1.1 (by decide) (Nat.le_of_ble_eq_true rfl) ?_
  refine t_put 8 rfl hm (by first | omega | exact rfB_in _ | exact nz_in _ | exact hm.r _ _) (fun h hm => ?_)
  refine r_iconst (pc := 10) dX3_isBad_10 ?_
  exact e_retTB (pc := 11) dX3_isBad_11 rfl (by first | (left; rfl) | (right; rfl) | exact rfB_01 _ | omega) hm (by first | rfl | omega | exact bZ_c (by omega) | exact (bZ_t (by omega)).symm | exact (bZ_f (by omega)).symm | exact bZ_t (by omega) | exact bZ_f (by omega)) rfl
theorem t_refused {G : Gl} {m : Nat} {ad : Nat → Nat} {h0 h : Hp} {T : TM} (hm : TI m ad h0 T h)  : Ct G 2 0 yX3_refused (Cond.code yX3_refused cX3_refused 1 (some .int)) [.ref m] h (RT m ad h (0) (rfT T)) noX := by
  have hm := hm.nw
  refine Ct.of (own := eM) (nm := "refused") (by decide +kernel) rfl rfl (L := [some (.ref m)]) rfl (Nat.le_of_ble_eq_true rfl) rfl ?_
  refine r_aload_n (pc := 0) dX3_refused_0 rfl ?_
  refine r_aload_n (pc := 1) dX3_refused_1 rfl ?_
  refine gX3_32 (pc := 2) dX3_refused_2 hm.1.1 rfl ?_; have r2 := hm.r 7 0
  refine pX3_38 (pc := 5) dX3_refused_5 hm.1.1 (by decide) (Nat.le_of_ble_eq_true rfl) ?_
  refine t_put 9 rfl hm (by first | omega | exact rfB_in _ | exact nz_in _ | exact hm.r _ _) (fun h hm => ?_)
  refine r_aload_n (pc := 8) dX3_refused_8 rfl ?_
  refine r_aload_n (pc := 9) dX3_refused_9 rfl ?_
  refine gX3_35 (pc := 10) dX3_refused_10 hm.1.1 rfl ?_; have r10 := hm.r 8 0
  refine pX3_41 (pc := 13) dX3_refused_13 hm.1.1 (by decide) (Nat.le_of_ble_eq_true rfl) ?_
  refine t_put 10 rfl hm (by first | omega | exact rfB_in _ | exact nz_in _ | exact hm.r _ _) (fun h hm => ?_)
  refine r_aload_n (pc := 16) dX3_refused_16 rfl ?_
  refine r_iconst (pc := 17) dX3_refused_17 ?_
  refine pX3_44 (pc := 18) dX3_refused_18 hm.1.1 (by decide) (Nat.le_of_ble_eq_true rfl) ?_
  refine t_put 11 rfl hm (by first | omega | exact rfB_in _ | exact nz_in _ | exact hm.r _ _) (fun h hm => ?_)
  refine r_aload_n (pc := 21) dX3_refused_21 rfl ?_
  refine r_iconst (pc := 22) dX3_refused_22 ?_
  refine r_callV (pc := 23) (kb' := 0) dX3_refused_23 kX3_no q2823 (t_no hm (by omega)) hm.1.1 rfl (Nat.le_refl _) (Nat.le_of_ble_eq_true rfl) rfl rfl (Nat.le_of_ble_eq_true rfl) (fun _ _ q => q.elim) (fun _ _ hq => go_T hq (fun h hm1 => ?_))
  have hm := hm.tr hm1
  exact e_retT (pc := 26) dX3_refused_26 rfl hm rfl (by first | rfl | (simp [rfT, sT]; done))
theorem t_av {G : Gl} {m : Nat} {ad : Nat → Nat} {h0 h : Hp} {T : TM} (hm : TI m ad h0 T h) {a w : Int} (ha : 0 ≤ a ∧ a ≤ 12) (hw : 0 ≤ w ∧ w ≤ 5) : Ct G 1 0 yX3_av (Cond.code yX3_av cX3_av 3 (some .int)) [.ref m, .int (iZ a), .int (iZ w)] h (RE (fA (T 0) a w) h) noX := by
  have hm := hm.nw
  refine Ct.of (own := eM) (nm := "av") (by decide +kernel) rfl rfl (L := [some (.ref m), some (.int (iZ a)), some (.int (iZ w))]) rfl (Nat.le_of_ble_eq_true rfl) rfl ?_
  refine r_aload_n (pc := 0) dX3_av_0 rfl ?_
  refine gX3_7 (pc := 1) dX3_av_1 hm.1.1 rfl ?_
  refine r_bipush (pc := 4) dX3_av_4 (by decide) ?_
  refine r_bipush (pc := 6) dX3_av_6 (by decide) ?_
  refine r_iload_n (pc := 8) dX3_av_8 rfl ?_
  refine r_imul (pc := 9) dX3_av_9 ?_
  refine r_iadd (pc := 10) dX3_av_10 ?_
  refine r_iload_n (pc := 11) dX3_av_11 rfl ?_
  refine r_iadd (pc := 12) dX3_av_12 ?_
  refine t_iald (pc := 13) (lim := 140) 0 dX3_av_13 hm (by decide) rfl (by first | omega | exact rfB_in _ | exact nz_in _ | exact hm.r _ _) (fun r13 => ?_)
  exact e_ret (pc := 14) dX3_av_14 rfl rfl
theorem t_la {G : Gl} {m : Nat} {ad : Nat → Nat} {h0 h : Hp} {T : TM} (hm : TI m ad h0 T h) {a w v : Int} (ha : 0 ≤ a ∧ a ≤ 12) (hw : 0 ≤ w ∧ w ≤ 5) (hv : InR v) : Ct G 1 0 yX3_la (Cond.code yX3_la cX3_la 4 (none)) [.ref m, .int (iZ a), .int (iZ w), .int (iZ v)] h (RV m ad h (sT T 0 (56 + 6 * a + w) v)) noX := by
  have hm := hm.nw
  refine Ct.of (own := eM) (nm := "la") (by decide +kernel) rfl rfl (L := [some (.ref m), some (.int (iZ a)), some (.int (iZ w)), some (.int (iZ v))]) rfl (Nat.le_of_ble_eq_true rfl) rfl ?_
  refine r_aload_n (pc := 0) dX3_la_0 rfl ?_
  refine gX3_7 (pc := 1) dX3_la_1 hm.1.1 rfl ?_
  refine r_bipush (pc := 4) dX3_la_4 (by decide) ?_
  refine r_bipush (pc := 6) dX3_la_6 (by decide) ?_
  refine r_iload_n (pc := 8) dX3_la_8 rfl ?_
  refine r_imul (pc := 9) dX3_la_9 ?_
  refine r_iadd (pc := 10) dX3_la_10 ?_
  refine r_iload_n (pc := 11) dX3_la_11 rfl ?_
  refine r_iadd (pc := 12) dX3_la_12 ?_
  refine r_iload_n (pc := 13) dX3_la_13 rfl ?_
  refine t_iast (pc := 14) (lim := 140) 0 dX3_la_14 hm (by decide) rfl (by first | omega | exact rfB_in _ | exact nz_in _ | exact hm.r _ _) (by first | omega | exact rfB_in _ | exact nz_in _ | exact hm.r _ _) (fun h hm => ?_)
  exact e_vret (pc := 15) dX3_la_15 rfl hm rfl
theorem t_hv {G : Gl} {m : Nat} {ad : Nat → Nat} {h0 h : Hp} {T : TM} (hm : TI m ad h0 T h) {s w : Int} (ha : 0 ≤ s ∧ s ≤ 8) (hw : 0 ≤ w ∧ w ≤ 2) : Ct G 1 0 yX3_hv (Cond.code yX3_hv cX3_hv 3 (some .int)) [.ref m, .int (iZ s), .int (iZ w)] h (RE (fS (T 0) s w) h) noX := by
  have hm := hm.nw
  refine Ct.of (own := eM) (nm := "hv") (by decide +kernel) rfl rfl (L := [some (.ref m), some (.int (iZ s)), some (.int (iZ w))]) rfl (Nat.le_of_ble_eq_true rfl) rfl ?_
  refine r_aload_n (pc := 0) dX3_hv_0 rfl ?_
  refine gX3_7 (pc := 1) dX3_hv_1 hm.1.1 rfl ?_
  refine r_bipush (pc := 4) dX3_hv_4 (by decide) ?_
  refine r_iconst (pc := 6) dX3_hv_6 ?_
  refine r_iload_n (pc := 7) dX3_hv_7 rfl ?_
  refine r_imul (pc := 8) dX3_hv_8 ?_
  refine r_iadd (pc := 9) dX3_hv_9 ?_
  refine r_iload_n (pc := 10) dX3_hv_10 rfl ?_
  refine r_iadd (pc := 11) dX3_hv_11 ?_
  refine t_iald (pc := 12) (lim := 140) 0 dX3_hv_12 hm (by decide) rfl (by first | omega | exact rfB_in _ | exact nz_in _ | exact hm.r _ _) (fun r12 => ?_)
  exact e_ret (pc := 13) dX3_hv_13 rfl rfl
theorem t_isArticle {G : Gl} {m : Nat} {ad : Nat → Nat} {h0 h : Hp} {T : TM} (hm : TI m ad h0 T h) {a : Int} (hI : RI (T 0)) (ha : InR a) : Ct G 2 0 yX3_isArticle (Cond.code yX3_isArticle cX3_isArticle 2 (some .boolean)) [.ref m, .int (iZ a)] h (RE (bZ (isArt (T 0) a)) h) noX := by
  have hm := hm.nw
  have hb := hI.1
  refine Ct.of (own := eM) (nm := "isArticle") (by decide +kernel) rfl rfl (L := [some (.ref m), some (.int (iZ a))]) rfl (Nat.le_of_ble_eq_true rfl) rfl ?_
  refine r_iload_n (pc := 0) dX3_isArticle_0 rfl ?_
  refine r_iconst (pc := 1) dX3_isArticle_1 ?_
  refine r_aload_n (pc := 2) dX3_isArticle_2 rfl ?_
  refine gX3_7 (pc := 3) dX3_isArticle_3 hm.1.1 rfl ?_
  refine r_iconst (pc := 6) dX3_isArticle_6 ?_
  refine t_iald (pc := 7) (lim := 140) 0 dX3_isArticle_7 hm (by decide) rfl (by first | omega | exact rfB_in _ | exact nz_in _ | exact hm.r _ _) (fun r7 => ?_)
  refine r_iconst (pc := 8) dX3_isArticle_8 ?_
  refine r_isub (pc := 9) dX3_isArticle_9 ?_
  refine r_callS (pc := 10) (kb' := 0) dX3_isArticle_10 kX3_in q2794 (t_in (by omega) (by omega) (by omega)) (Nat.le_refl _) (Nat.le_of_ble_eq_true rfl) rfl rfl (Nat.le_of_ble_eq_true rfl) (fun _ _ q => q.elim) (fun _ _ hq => go_E hq ?_)
  exact e_retB (pc := 13) dX3_isArticle_13 rfl (by first | (left; rfl) | (right; rfl) | exact bZ_01 _ | omega) (by first | rfl | omega | exact bZ_c (by omega) | exact (bZ_t (by omega)).symm | exact (bZ_f (by omega)).symm | exact bZ_t (by omega) | exact bZ_f (by omega))
theorem t_isShelf {G : Gl} {h : Hp} {s : Int} (hs : InR s) : Ct G 2 0 yX3_isShelf (Cond.code yX3_isShelf cX3_isShelf 1 (some .boolean)) [.int (iZ s)] h (RE (bZ (0 ≤ s ∧ s ≤ 2)) h) noX := by
  refine Ct.of (own := eM) (nm := "isShelf") (by decide +kernel) rfl rfl (L := [some (.int (iZ s))]) rfl (Nat.le_of_ble_eq_true rfl) rfl ?_
  refine r_iload_n (pc := 0) dX3_isShelf_0 rfl ?_
  refine r_iconst (pc := 1) dX3_isShelf_1 ?_
  refine r_iconst (pc := 2) dX3_isShelf_2 ?_
  refine r_callS (pc := 3) (kb' := 0) dX3_isShelf_3 kX3_in q2794 (t_in (by omega) (by omega) (by omega)) (Nat.le_refl _) (Nat.le_of_ble_eq_true rfl) rfl rfl (Nat.le_of_ble_eq_true rfl) (fun _ _ q => q.elim) (fun _ _ hq => go_E hq ?_)
  exact e_retB (pc := 6) dX3_isShelf_6 rfl (by first | (left; rfl) | (right; rfl) | exact bZ_01 _ | omega) (by first | rfl | omega | exact bZ_c (by omega) | exact (bZ_t (by omega)).symm | exact (bZ_f (by omega)).symm | exact bZ_t (by omega) | exact bZ_f (by omega))
theorem t_isShard {G : Gl} {m : Nat} {ad : Nat → Nat} {h0 h : Hp} {T : TM} (hm : TI m ad h0 T h) {s : Int} (hI : RI (T 0)) (hs : InR s) : Ct G 2 0 yX3_isShard (Cond.code yX3_isShard cX3_isShard 2 (some .boolean)) [.ref m, .int (iZ s)] h (RE (bZ (isShd (T 0) s)) h) noX := by
  have hm := hm.nw
  have hb := hI.1
  refine Ct.of (own := eM) (nm := "isShard") (by decide +kernel) rfl rfl (L := [some (.ref m), some (.int (iZ s))]) rfl (Nat.le_of_ble_eq_true rfl) rfl ?_
  refine r_iload_n (pc := 0) dX3_isShard_0 rfl ?_
  refine r_iconst (pc := 1) dX3_isShard_1 ?_
  refine r_aload_n (pc := 2) dX3_isShard_2 rfl ?_
  refine gX3_7 (pc := 3) dX3_isShard_3 hm.1.1 rfl ?_
  refine r_iconst (pc := 6) dX3_isShard_6 ?_
  refine t_iald (pc := 7) (lim := 140) 0 dX3_isShard_7 hm (by decide) rfl (by first | omega | exact rfB_in _ | exact nz_in _ | exact hm.r _ _) (fun r7 => ?_)
  refine r_iconst (pc := 8) dX3_isShard_8 ?_
  refine r_isub (pc := 9) dX3_isShard_9 ?_
  refine r_callS (pc := 10) (kb' := 0) dX3_isShard_10 kX3_in q2794 (t_in (by omega) (by omega) (by omega)) (Nat.le_refl _) (Nat.le_of_ble_eq_true rfl) rfl rfl (Nat.le_of_ble_eq_true rfl) (fun _ _ q => q.elim) (fun _ _ hq => go_E hq ?_)
  exact e_retB (pc := 13) dX3_isShard_13 rfl (by first | (left; rfl) | (right; rfl) | exact bZ_01 _ | omega) (by first | rfl | omega | exact bZ_c (by omega) | exact (bZ_t (by omega)).symm | exact (bZ_f (by omega)).symm | exact bZ_t (by omega) | exact bZ_f (by omega))
theorem t_isNoShelf {G : Gl} {h : Hp} {s : Int} (hs : InR s) : Ct G 3 0 yX3_isNoShelf (Cond.code yX3_isNoShelf cX3_isNoShelf 1 (some .boolean)) [.int (iZ s)] h (RE (bZ (¬ (0 ≤ s ∧ s ≤ 2))) h) noX := by
  refine Ct.of (own := eM) (nm := "isNoShelf") (by decide +kernel) rfl rfl (L := [some (.int (iZ s))]) rfl (Nat.le_of_ble_eq_true rfl) rfl ?_
  refine r_iload_n (pc := 0) dX3_isNoShelf_0 rfl ?_
  refine r_callS (pc := 1) (kb' := 0) dX3_isNoShelf_1 kX3_isShelf q2804 (t_isShelf (by omega)) (Nat.le_refl _) (Nat.le_of_ble_eq_true rfl) rfl rfl (Nat.le_of_ble_eq_true rfl) (fun _ _ q => q.elim) (fun _ _ hq => go_E hq ?_)
  refine r_ifB_ne (pc := 4) (tgt := 11) dX3_isNoShelf_4 (by decide) (fun c4 => ?_) (fun c4 => ?_)
  · refine r_iconst (pc := 11) dX3_isNoShelf_11 ?_
    exact e_retB (pc := 12) dX3_isNoShelf_12 rfl (by first | (left; rfl) | (right; rfl) | exact bZ_01 _ | omega) (by first | rfl | omega | exact bZ_c (by omega) | exact (bZ_t (by omega)).symm | exact (bZ_f (by omega)).symm | exact bZ_t (by omega) | exact bZ_f (by omega))
  · refine r_iconst (pc := 7) dX3_isNoShelf_7 ?_
    refine r_goto (pc := 8) (tgt := 12) dX3_isNoShelf_8 (by decide) ?_
    exact e_retB (pc := 12) dX3_isNoShelf_12 rfl (by first | (left; rfl) | (right; rfl) | exact bZ_01 _ | omega) (by first | rfl | omega | exact bZ_c (by omega) | exact (bZ_t (by omega)).symm | exact (bZ_f (by omega)).symm | exact bZ_t (by omega) | exact bZ_f (by omega))
theorem t_onShelf {G : Gl} {m : Nat} {ad : Nat → Nat} {h0 h : Hp} {T : TM} (hm : TI m ad h0 T h) {s : Int} (hI : RI (T 0)) (hs : InR s) : Ct G 2 0 yX3_onShelf (Cond.code yX3_onShelf cX3_onShelf 4 (some .int)) [.ref m, .int (iZ s)] h (RE (onSh (T 0) s) h) noX := by
  have hm := hm.nw
  have hb := hI.1
  refine Ct.of (own := eM) (nm := "onShelf") (by decide +kernel) rfl rfl (L := [some (.ref m), some (.int (iZ s)), none, none]) rfl (Nat.le_of_ble_eq_true rfl) rfl ?_
  refine r_iconst (pc := 0) dX3_onShelf_0 ?_
  refine r_istore_n (pc := 1) (L' := [_, _, _, _]) dX3_onShelf_1 rfl ?_
  refine r_iconst (pc := 2) dX3_onShelf_2 ?_
  refine r_istore_n (pc := 3) (L' := [_, _, _, _]) dX3_onShelf_3 rfl ?_
  have loop4 : ∀ (n : Nat) (k z : Int) , (0 ≤ z ∧ z ≤ T 0 0) → k = sumI z (fun a => bZ (fA (T 0) a 4 = s)) → T 0 0 - z < n → Go G eM cX3_onShelf (4, some .int, "onShelf", []) 2 0 (RE (onSh (T 0) s) h) noX 0 h 4 [some (.ref m), some (.int (iZ s)), some (.int (iZ k)), some (.int (iZ z))] [] := by
    intro n
    induction n with
    | zero => intro k z hz hk hn; omega
    | succ n ih4 =>
      intro k z hz hk hn
      refine r_iload_n (pc := 4) dX3_onShelf_4 rfl ?_
      refine r_aload_n (pc := 5) dX3_onShelf_5 rfl ?_
      refine gX3_7 (pc := 6) dX3_onShelf_6 hm.1.1 rfl ?_
      refine r_iconst (pc := 9) dX3_onShelf_9 ?_
      refine t_iald (pc := 10) (lim := 140) 0 dX3_onShelf_10 hm (by decide) rfl (by first | omega | exact rfB_in _ | exact nz_in _ | exact hm.r _ _) (fun r10 => ?_)
      refine r_icmp_ge (pc := 11) (tgt := 38) dX3_onShelf_11 (by decide) (by first | omega | exact rfB_in _ | exact nz_in _ | exact hm.r _ _) (by first | omega | exact rfB_in _ | exact nz_in _ | exact hm.r _ _) (fun c11 => ?_) (fun c11 => ?_)
      · refine r_iload_n (pc := 38) dX3_onShelf_38 rfl ?_
        exact e_ret (pc := 39) dX3_onShelf_39 rfl (by rw [hk, show z = T 0 0 by omega]; rfl)
      · refine r_iload_n (pc := 14) dX3_onShelf_14 rfl ?_
        refine r_aload_n (pc := 15) dX3_onShelf_15 rfl ?_
        refine r_iload_n (pc := 16) dX3_onShelf_16 rfl ?_
        refine r_iconst (pc := 17) dX3_onShelf_17 ?_
        refine r_callV (pc := 18) (kb' := 0) dX3_onShelf_18 kX3_av q2815 (t_av hm (by omega) (by omega)) hm.1.1 rfl (Nat.le_refl _) (Nat.le_of_ble_eq_true rfl) rfl rfl (Nat.le_of_ble_eq_true rfl) (fun _ _ q => q.elim) (fun _ _ hq => go_E hq ?_)
        refine r_iload_n (pc := 21) dX3_onShelf_21 rfl ?_
        refine r_icmp_ne (pc := 22) (tgt := 29) dX3_onShelf_22 (by decide) (by first | omega | exact rfB_in _ | exact nz_in _ | exact hm.r _ _) (by first | omega | exact rfB_in _ | exact nz_in _ | exact hm.r _ _) (fun c22 => ?_) (fun c22 => ?_)
        · refine r_iconst (pc := 29) dX3_onShelf_29 ?_
          refine r_iadd (pc := 30) dX3_onShelf_30 ?_
          refine r_istore_n (pc := 31) (L' := [_, _, _, _]) dX3_onShelf_31 rfl ?_
          refine r_iinc (pc := 32) (L' := [_, _, _, _]) dX3_onShelf_32 rfl rfl ?_
          refine r_goto (pc := 35) (tgt := 4) dX3_onShelf_35 (by decide) ?_
          exact ih4 _ _ (by omega) (by rw [sumI_s hz.1, hk]; simp [bZ, c22]) (by omega)
        · refine r_iconst (pc := 25) dX3_onShelf_25 ?_
          refine r_goto (pc := 26) (tgt := 30) dX3_onShelf_26 (by decide) ?_
          refine r_iadd (pc := 30) dX3_onShelf_30 ?_
          refine r_istore_n (pc := 31) (L' := [_, _, _, _]) dX3_onShelf_31 rfl ?_
          refine r_iinc (pc := 32) (L' := [_, _, _, _]) dX3_onShelf_32 rfl rfl ?_
          refine r_goto (pc := 35) (tgt := 4) dX3_onShelf_35 (by decide) ?_
          exact ih4 _ _ (by omega) (by rw [sumI_s hz.1, hk]; simp [bZ, c22]) (by omega)
  exact loop4 ((T 0 0).toNat + 1) _ _ (by omega) sumI_0.symm (by omega)
theorem t_placeOf {G : Gl} {m : Nat} {ad : Nat → Nat} {h0 h : Hp} {T : TM} (hm : TI m ad h0 T h) {a : Int} (hI : RI (T 0)) (ha : InR a) : Ct G 1 0 yX3_placeOf (Cond.code yX3_placeOf cX3_placeOf 3 (some .int)) [.ref m, .int (iZ a)] h (RE (plOf (T 0) a) h) noX := by
  have hm := hm.nw
  have hb := hI.1
  refine Ct.of (own := eM) (nm := "placeOf") (by decide +kernel) rfl rfl (L := [some (.ref m), some (.int (iZ a)), none]) rfl (Nat.le_of_ble_eq_true rfl) rfl ?_
  refine r_iconst (pc := 0) dX3_placeOf_0 ?_
  refine r_istore_n (pc := 1) (L' := [_, _, _]) dX3_placeOf_1 rfl ?_
  have loop2 : ∀ (n : Nat) (z : Int) , (0 ≤ z ∧ z ≤ T 0 1) → plOf (T 0) a = fndZ (fun k => T 0 (12 + k) = a) z (T 0 1 - z).toNat → T 0 1 - z < n → Go G eM cX3_placeOf (3, some .int, "placeOf", []) 1 0 (RE (plOf (T 0) a) h) noX 0 h 2 [some (.ref m), some (.int (iZ a)), some (.int (iZ z))] [] := by
    intro n
    induction n with
    | zero => intro z hz hk hn; omega
    | succ n ih2 =>
      intro z hz hk hn
      refine r_iload_n (pc := 2) dX3_placeOf_2 rfl ?_
      refine r_aload_n (pc := 3) dX3_placeOf_3 rfl ?_
      refine gX3_7 (pc := 4) dX3_placeOf_4 hm.1.1 rfl ?_
      refine r_iconst (pc := 7) dX3_placeOf_7 ?_
      refine t_iald (pc := 8) (lim := 140) 0 dX3_placeOf_8 hm (by decide) rfl (by first | omega | exact rfB_in _ | exact nz_in _ | exact hm.r _ _) (fun r8 => ?_)
      refine r_icmp_ge (pc := 9) (tgt := 33) dX3_placeOf_9 (by decide) (by first | omega | exact rfB_in _ | exact nz_in _ | exact hm.r _ _) (by first | omega | exact rfB_in _ | exact nz_in _ | exact hm.r _ _) (fun c9 => ?_) (fun c9 => ?_)
      · refine r_iconst (pc := 33) dX3_placeOf_33 ?_
        exact e_ret (pc := 34) dX3_placeOf_34 rfl (by first | rfl | (rw [hk, fnd_e (by omega)]; done) | (rw [hk, fnd_s (by omega), if_pos (by omega)]; done))
      · refine r_aload_n (pc := 12) dX3_placeOf_12 rfl ?_
        refine gX3_7 (pc := 13) dX3_placeOf_13 hm.1.1 rfl ?_
        refine r_bipush (pc := 16) dX3_placeOf_16 (by decide) ?_
        refine r_iload_n (pc := 18) dX3_placeOf_18 rfl ?_
        refine r_iadd (pc := 19) dX3_placeOf_19 ?_
        refine t_iald (pc := 20) (lim := 140) 0 dX3_placeOf_20 hm (by decide) rfl (by first | omega | exact rfB_in _ | exact nz_in _ | exact hm.r _ _) (fun r20 => ?_)
        refine r_iload_n (pc := 21) dX3_placeOf_21 rfl ?_
        refine r_icmp_ne (pc := 22) (tgt := 27) dX3_placeOf_22 (by decide) (by first | omega | exact rfB_in _ | exact nz_in _ | exact hm.r _ _) (by first | omega | exact rfB_in _ | exact nz_in _ | exact hm.r _ _) (fun c22 => ?_) (fun c22 => ?_)
        · refine r_iinc (pc := 27) (L' := [_, _, _]) dX3_placeOf_27 rfl rfl ?_
          refine r_goto (pc := 30) (tgt := 2) dX3_placeOf_30 (by decide) ?_
          exact ih2 _ (by omega) (by rw [hk, fnd_s (by omega), if_neg (by omega)]) (by omega)
        · refine r_iload_n (pc := 25) dX3_placeOf_25 rfl ?_
          exact e_ret (pc := 26) dX3_placeOf_26 rfl (by first | rfl | (rw [hk, fnd_e (by omega)]; done) | (rw [hk, fnd_s (by omega), if_pos (by omega)]; done))
  exact loop2 ((T 0 1).toNat + 1) _ (by omega) (by show fndZ _ _ _ = fndZ _ _ _; rw [Int.sub_zero]) (by omega)
theorem t_isNoArticle {G : Gl} {m : Nat} {ad : Nat → Nat} {h0 h : Hp} {T : TM} (hm : TI m ad h0 T h) {a : Int} (hI : RI (T 0)) (ha : InR a) : Ct G 3 0 yX3_isNoArticle (Cond.code yX3_isNoArticle cX3_isNoArticle 2 (some .boolean)) [.ref m, .int (iZ a)] h (RT m ad h (rfB (refArt (T 0) a)) (bdO T (refArt (T 0) a))) noX := by
  have hm := hm.nw
  have hb := hI.1
  refine Ct.of (own := eM) (nm := "isNoArticle") (by decide +kernel) rfl rfl (L := [some (.ref m), some (.int (iZ a))]) rfl (Nat.le_of_ble_eq_true rfl) rfl ?_
  refine r_aload_n (pc := 0) dX3_isNoArticle_0 rfl ?_
  refine r_iload_n (pc := 1) dX3_isNoArticle_1 rfl ?_
  refine r_callV (pc := 2) (kb' := 0) dX3_isNoArticle_2 kX3_isArticle q2851 (t_isArticle hm hI (by omega)) hm.1.1 rfl (Nat.le_refl _) (Nat.le_of_ble_eq_true rfl) rfl rfl (Nat.le_of_ble_eq_true rfl) (fun _ _ q => q.elim) (fun _ _ hq => go_E hq ?_)
  refine r_ifB_ne (pc := 5) (tgt := 21) dX3_isNoArticle_5 (by decide) (fun c5 => ?_) (fun c5 => ?_)
  · refine r_iconst (pc := 21) dX3_isNoArticle_21 ?_
    exact e_retTB (pc := 22) dX3_isNoArticle_22 rfl (by first | (left; rfl) | (right; rfl) | exact rfB_01 _ | omega) hm (by unfold refArt; (repeat' split) <;> first | rfl | omega) (by unfold refArt; (repeat' split) <;> first | rfl | omega)
  · refine r_aload_n (pc := 8) dX3_isNoArticle_8 rfl ?_
    refine r_iconst (pc := 9) dX3_isNoArticle_9 ?_
    refine r_iload_n (pc := 10) dX3_isNoArticle_10 rfl ?_
    refine r_callV (pc := 11) (kb' := 0) dX3_isNoArticle_11 kX3_isBad q2797 (t_isBad hm (by omega) (by omega)) hm.1.1 rfl (Nat.le_refl _) (Nat.le_of_ble_eq_true rfl) rfl rfl (Nat.le_of_ble_eq_true rfl) (fun _ _ q => q.elim) (fun _ _ hq => go_T hq (fun h hm1 => ?_))
    have hm := hm.tr hm1
    refine r_if_eq (pc := 14) (tgt := 21) dX3_isNoArticle_14 (by decide) (by decide) (fun q => absurd q (by decide)) (fun _ => ?_)
    refine r_iconst (pc := 17) dX3_isNoArticle_17 ?_
    refine r_goto (pc := 18) (tgt := 22) dX3_isNoArticle_18 (by decide) ?_
    exact e_retTB (pc := 22) dX3_isNoArticle_22 rfl (by first | (left; rfl) | (right; rfl) | exact rfB_01 _ | omega) hm (by unfold refArt; (repeat' split) <;> first | rfl | omega) (by unfold refArt; (repeat' split) <;> first | rfl | omega)
theorem t_isFull {G : Gl} {m : Nat} {ad : Nat → Nat} {h0 h : Hp} {T : TM} (hm : TI m ad h0 T h) {s : Int} (hI : RI (T 0)) (hs : InR s) : Ct G 3 0 yX3_isFull (Cond.code yX3_isFull cX3_isFull 2 (some .boolean)) [.ref m, .int (iZ s)] h (RT m ad h (rfB (refFull (T 0) s)) (bdO T (refFull (T 0) s))) noX := by
  have hm := hm.nw
  have hb := hI.1
  refine Ct.of (own := eM) (nm := "isFull") (by decide +kernel) rfl rfl (L := [some (.ref m), some (.int (iZ s))]) rfl (Nat.le_of_ble_eq_true rfl) rfl ?_
  refine r_aload_n (pc := 0) dX3_isFull_0 rfl ?_
  refine r_iload_n (pc := 1) dX3_isFull_1 rfl ?_
  refine r_callV (pc := 2) (kb' := 0) dX3_isFull_2 kX3_onShelf q2811 (t_onShelf hm hI (by omega)) hm.1.1 rfl (Nat.le_refl _) (Nat.le_of_ble_eq_true rfl) rfl rfl (Nat.le_of_ble_eq_true rfl) (fun _ _ q => q.elim) (fun _ _ hq => go_E hq ?_)
  have o9 := onSh_in (r := T 0) (s := s) (by omega)
  refine r_iconst (pc := 5) dX3_isFull_5 ?_
  refine r_icmp_ne (pc := 6) (tgt := 23) dX3_isFull_6 (by decide) (by first | omega | exact rfB_in _ | exact nz_in _ | exact hm.r _ _) (by first | omega | exact rfB_in _ | exact nz_in _ | exact hm.r _ _) (fun c6 => ?_) (fun c6 => ?_)
  · refine r_iconst (pc := 23) dX3_isFull_23 ?_
    exact e_retTB (pc := 24) dX3_isFull_24 rfl (by first | (left; rfl) | (right; rfl) | exact rfB_01 _ | omega) hm (by unfold refFull; (repeat' split) <;> first | rfl | omega) (by unfold refFull; (repeat' split) <;> first | rfl | omega)
  · refine r_aload_n (pc := 9) dX3_isFull_9 rfl ?_
    refine r_bipush (pc := 10) dX3_isFull_10 (by decide) ?_
    refine r_iload_n (pc := 12) dX3_isFull_12 rfl ?_
    refine r_callV (pc := 13) (kb' := 0) dX3_isFull_13 kX3_isBad q2797 (t_isBad hm (by omega) (by omega)) hm.1.1 rfl (Nat.le_refl _) (Nat.le_of_ble_eq_true rfl) rfl rfl (Nat.le_of_ble_eq_true rfl) (fun _ _ q => q.elim) (fun _ _ hq => go_T hq (fun h hm1 => ?_))
    have hm := hm.tr hm1
    refine r_if_eq (pc := 16) (tgt := 23) dX3_isFull_16 (by decide) (by decide) (fun q => absurd q (by decide)) (fun _ => ?_)
    refine r_iconst (pc := 19) dX3_isFull_19 ?_
    refine r_goto (pc := 20) (tgt := 24) dX3_isFull_20 (by decide) ?_
    exact e_retTB (pc := 24) dX3_isFull_24 rfl (by first | (left; rfl) | (right; rfl) | exact rfB_01 _ | omega) hm (by unfold refFull; (repeat' split) <;> first | rfl | omega) (by unfold refFull; (repeat' split) <;> first | rfl | omega)
theorem t_isLaw {G : Gl} {m : Nat} {ad : Nat → Nat} {h0 h : Hp} {T : TM} (hm : TI m ad h0 T h) {a : Int} (hI : RI (T 0)) (ha : 0 ≤ a ∧ a < T 0 0) : Ct G 2 0 yX3_isLaw (Cond.code yX3_isLaw cX3_isLaw 2 (some .boolean)) [.ref m, .int (iZ a)] h (RT m ad h (rfB (refLaw (T 0) a)) (bdO T (refLaw (T 0) a))) noX := by
  have hm := hm.nw
  have hb := hI.1
  have ho := hI.2.1 a ha.1 ha.2
  unfold artOk at ho
  have p9 : InR (plOf (T 0) a) := (fnd_in (N := T 0 1) (p := fun k => T 0 (12 + k) = a) (by omega)).2.2
  refine Ct.of (own := eM) (nm := "isLaw") (by decide +kernel) rfl rfl (L := [some (.ref m), some (.int (iZ a))]) rfl (Nat.le_of_ble_eq_true rfl) rfl ?_
  refine r_aload_n (pc := 0) dX3_isLaw_0 rfl ?_
  refine r_iload_n (pc := 1) dX3_isLaw_1 rfl ?_
  refine r_iconst (pc := 2) dX3_isLaw_2 ?_
  refine r_callV (pc := 3) (kb' := 0) dX3_isLaw_3 kX3_av q2815 (t_av hm (by omega) (by omega)) hm.1.1 rfl (Nat.le_refl _) (Nat.le_of_ble_eq_true rfl) rfl rfl (Nat.le_of_ble_eq_true rfl) (fun _ _ q => q.elim) (fun _ _ hq => go_E hq ?_)
  refine r_if_ge (pc := 6) (tgt := 26) dX3_isLaw_6 (by decide) (by first | omega | exact rfB_in _ | exact nz_in _ | exact hm.r _ _) (fun c6 => ?_) (fun c6 => ?_)
  · refine r_iconst (pc := 26) dX3_isLaw_26 ?_
    exact e_retTB (pc := 27) dX3_isLaw_27 rfl (by first | (left; rfl) | (right; rfl) | exact rfB_01 _ | omega) hm (by unfold refLaw; (repeat' split) <;> first | rfl | omega) (by unfold refLaw; (repeat' split) <;> first | rfl | omega)
  · refine r_aload_n (pc := 9) dX3_isLaw_9 rfl ?_
    refine r_iconst (pc := 10) dX3_isLaw_10 ?_
    refine r_aload_n (pc := 11) dX3_isLaw_11 rfl ?_
    refine r_iload_n (pc := 12) dX3_isLaw_12 rfl ?_
    refine r_callV (pc := 13) (kb' := 0) dX3_isLaw_13 kX3_placeOf q2859 (t_placeOf hm hI (by omega)) hm.1.1 rfl (Nat.le_refl _) (Nat.le_of_ble_eq_true rfl) rfl rfl (Nat.le_of_ble_eq_true rfl) (fun _ _ q => q.elim) (fun _ _ hq => go_E hq ?_)
    refine r_callV (pc := 16) (kb' := 0) dX3_isLaw_16 kX3_isBad q2797 (t_isBad hm (by omega) (by omega)) hm.1.1 rfl (Nat.le_refl _) (Nat.le_of_ble_eq_true rfl) rfl rfl (Nat.le_of_ble_eq_true rfl) (fun _ _ q => q.elim) (fun _ _ hq => go_T hq (fun h hm1 => ?_))
    have hm := hm.tr hm1
    refine r_if_eq (pc := 19) (tgt := 26) dX3_isLaw_19 (by decide) (by decide) (fun q => absurd q (by decide)) (fun _ => ?_)
    refine r_iconst (pc := 22) dX3_isLaw_22 ?_
    refine r_goto (pc := 23) (tgt := 27) dX3_isLaw_23 (by decide) ?_
    exact e_retTB (pc := 27) dX3_isLaw_27 rfl (by first | (left; rfl) | (right; rfl) | exact rfB_01 _ | omega) hm (by unfold refLaw; (repeat' split) <;> first | rfl | omega) (by unfold refLaw; (repeat' split) <;> first | rfl | omega)
theorem t_copies {G : Gl} {m : Nat} {ad : Nat → Nat} {h0 h9 : Hp} {T9 : TM} (hm : TI m ad h0 T9 h9) {f t : Int} {i l : Nat} (hi : i ∈ arrF) (hl : l ∈ arrF) (hf : 0 ≤ f ∧ f + 140 ≤ (szF i : Int)) (ht : 0 ≤ t ∧ t + 140 ≤ (szF l : Int)) (hne : i = l → t + 140 ≤ f) : Ct G 1 0 yX3_copies (Cond.code yX3_copies cX3_copies 5 (none)) [.ref (ad i), .int (iZ f), .ref (ad l), .int (iZ t)] h9 (RV m ad h9 (cpT T9 i f l t)) noX := by
  have hm := hm.nw
  have hz9 : (szF i : Int) ≤ 1120 ∧ (szF l : Int) ≤ 1120 := ⟨szF_le i, szF_le l⟩
  have hm9 := hm
  refine Ct.of (own := eM) (nm := "copies") (by decide +kernel) rfl rfl (L := [some (.ref (ad i)), some (.int (iZ f)), some (.ref (ad l)), some (.int (iZ t)), none]) rfl (Nat.le_of_ble_eq_true rfl) rfl ?_
  refine r_iconst (pc := 0) dX3_copies_0 ?_
  refine r_istore (pc := 1) (L' := [_, _, _, _, _]) dX3_copies_1 rfl ?_
  have loop3 : ∀ (n : Nat) (z : Int) (h : Hp) (T : TM), TI m ad h9 T h → (0 ≤ z ∧ z ≤ 140) → T = cpN T9 i f l t z → 140 - z < n → Go G eM cX3_copies (5, none, "copies", []) 1 0 (RV m ad h9 (cpT T9 i f l t)) noX 0 h 3 [some (.ref (ad i)), some (.int (iZ f)), some (.ref (ad l)), some (.int (iZ t)), some (.int (iZ z))] [] := by
    intro n
    induction n with
    | zero => intro z h T hm hz hT hn; omega
    | succ n ih3 =>
      intro z h T hm hz hT hn
      refine r_iload (pc := 3) dX3_copies_3 rfl ?_
      refine r_sipush (pc := 5) dX3_copies_5 (by decide) ?_
      refine r_icmp_ge (pc := 8) (tgt := 29) dX3_copies_8 (by decide) (by first | omega | exact rfB_in _ | exact nz_in _ | exact hm.r _ _) (by first | omega | exact rfB_in _ | exact nz_in _ | exact hm.r _ _) (fun c8 => ?_) (fun c8 => ?_)
      · exact e_vret (pc := 29) dX3_copies_29 rfl hm (by rw [hT, show z = 140 by omega]; rfl)
      · refine r_aload_n (pc := 11) dX3_copies_11 rfl ?_
        refine r_iload_n (pc := 12) dX3_copies_12 rfl ?_
        refine r_iload (pc := 13) dX3_copies_13 rfl ?_
        refine r_iadd (pc := 15) dX3_copies_15 ?_
        refine r_aload_n (pc := 16) dX3_copies_16 rfl ?_
        refine r_iload_n (pc := 17) dX3_copies_17 rfl ?_
        refine r_iload (pc := 18) dX3_copies_18 rfl ?_
        refine r_iadd (pc := 20) dX3_copies_20 ?_
        refine t_iald (pc := 21) (lim := (szF i : Int)) i dX3_copies_21 hm hi rfl (by omega) (fun r21 => ?_)
        refine t_iast (pc := 22) (lim := (szF l : Int)) l dX3_copies_22 hm hl rfl (by omega) (by omega) (fun h hm => ?_)
        refine r_iinc (pc := 23) (L' := [_, _, _, _, _]) dX3_copies_23 rfl rfl ?_
        refine r_goto (pc := 26) (tgt := 3) dX3_copies_26 (by decide) ?_
        exact ih3 _ _ _ hm (by omega) (by rw [hT]; exact cpN_s hz.1 (fun e => by have := hne e; omega)) (by omega)
  exact loop3 141 _ _ _ hm (by omega) (by exact cpN_0.symm) (by omega)
