set_option maxRecDepth 100000
theorem t_clay {G : Gl} {m : Nat} {ad : Nat → Nat} {h0 h : Hp} {T : TM} (hm : TI m ad h0 T h) {c s : Int} (hI : RI (T 0)) (hc : InR c) (hs : InR s) (hC : 0 ≤ T 6 0 ∧ T 6 0 ≤ 8) : Ct G 5 0 yX3_clay (Cond.code yX3_clay cX3_clay 3 (some .int)) [.ref m, .int (iZ c), .int (iZ s)] h (RT m ad h (opZ (refClay (T 0) c s) (T 0 0)) (opT T (refClay (T 0) c s) (cmR (T 0) c s))) noX := by
  have hm := hm.nw
  have hb := hI.1
  refine Ct.of (own := eM) (nm := "clay") (by decide +kernel) rfl rfl (L := [some (.ref m), some (.int (iZ c)), some (.int (iZ s))]) rfl (Nat.le_of_ble_eq_true rfl) rfl ?_
  refine r_aload_n (pc := 0) dX3_clay_0 rfl ?_
  refine r_callV (pc := 1) (kb' := 0) dX3_clay_1 kX3_begins q2783 (t_begins hm) hm.1.1 rfl (Nat.le_refl _) (Nat.le_of_ble_eq_true rfl) rfl rfl (Nat.le_of_ble_eq_true rfl) (fun _ _ q => q.elim) (fun _ _ hq => go_V hq (fun h hm1 => ?_))
  have hm := hm.tr hm1
  refine r_aload_n (pc := 4) dX3_clay_4 rfl ?_
  refine r_iload_n (pc := 5) dX3_clay_5 rfl ?_
  refine r_iload_n (pc := 6) dX3_clay_6 rfl ?_
  refine r_callV (pc := 7) (kb' := 0) dX3_clay_7 kX3_isRefusedClay q2790 (t_isRefusedClay hm (by rw [bgT_0]; exact hI) (by omega) (by omega)) hm.1.1 rfl (Nat.le_refl _) (Nat.le_of_ble_eq_true rfl) rfl rfl (Nat.le_of_ble_eq_true rfl) (fun _ _ q => q.elim) (fun _ _ hq => go_T hq (fun h hm1 => ?_))
  have hm := hm.tr hm1
  rcases rf_cases (refClay (T 0) c s) with ho | ⟨p, ho⟩
  · have hm := hm.to (bdO_none (by rw [bgT_0]; exact ho))
    refine go_z (rfB_none (by rw [bgT_0]; exact ho)) ?_
    have hr := refClay_n ho
    refine r_if_eq (pc := 10) (tgt := 20) dX3_clay_10 (by decide) (by decide) (fun _ => ?_) (fun q => absurd (by decide) q)
    refine r_aload_n (pc := 20) dX3_clay_20 rfl ?_
    refine r_aload_n (pc := 21) dX3_clay_21 rfl ?_
    refine r_iload_n (pc := 22) dX3_clay_22 rfl ?_
    refine r_iload_n (pc := 23) dX3_clay_23 rfl ?_
    refine r_callV (pc := 24) (kb' := 0) dX3_clay_24 kX3_comes q2827 (t_comes hm (by rw [bgT_0]; exact hI) (by omega) (by omega) (by rw [bgT_0]; omega)) hm.1.1 rfl (Nat.le_refl _) (Nat.le_of_ble_eq_true rfl) rfl rfl (Nat.le_of_ble_eq_true rfl) (fun _ _ q => q.elim) (fun _ _ hq => go_T hq (fun h hm1 => ?_))
    have hm := hm.tr hm1
    have hm := hm.to (T' := uT (bgT T) (cmR (T 0) c s)) (by rw [bgT_0])
    refine go_z (z' := T 0 0) (by rw [bgT_0]) ?_
    refine r_callV (pc := 27) (kb' := 0) dX3_clay_27 kX3_keeps q2835 (t_keeps hm (by omega) (by rw [uT_k (by decide), bgT_6]; exact hC)) hm.1.1 rfl (Nat.le_refl _) (Nat.le_of_ble_eq_true rfl) rfl rfl (Nat.le_of_ble_eq_true rfl) (fun _ _ q => q.elim) (fun _ _ hq => go_T hq (fun h hm1 => ?_))
    have hm := hm.tr hm1
    exact e_retT (pc := 30) dX3_clay_30 rfl hm (by rw [ho]; rfl) (by rw [ho]; rfl)
  · have hm := hm.to (bdO_some (by rw [bgT_0]; exact ho))
    refine go_z (rfB_some (by rw [bgT_0]; exact ho)) ?_
    refine r_if_eq (pc := 10) (tgt := 20) dX3_clay_10 (by decide) (by decide) (fun q => absurd q (by decide)) (fun _ => ?_)
    refine r_aload_n (pc := 13) dX3_clay_13 rfl ?_
    refine r_callV (pc := 14) (kb' := 0) dX3_clay_14 kX3_refused q2819 (t_refused hm) hm.1.1 rfl (Nat.le_refl _) (Nat.le_of_ble_eq_true rfl) rfl rfl (Nat.le_of_ble_eq_true rfl) (fun _ _ q => q.elim) (fun _ _ hq => go_T hq (fun h hm1 => ?_))
    have hm := hm.tr hm1
    refine r_goto (pc := 17) (tgt := 30) dX3_clay_17 (by decide) ?_
    exact e_retT (pc := 30) dX3_clay_30 rfl hm (by rw [ho]; rfl) (by rw [ho]; rfl)
theorem t_glaze {G : Gl} {m : Nat} {ad : Nat → Nat} {h0 h : Hp} {T : TM} (hm : TI m ad h0 T h) {a : Int} (hI : RI (T 0)) (ha : InR a) (hC : 0 ≤ T 6 0 ∧ T 6 0 ≤ 8) : Ct G 5 0 yX3_glaze (Cond.code yX3_glaze cX3_glaze 2 (some .int)) [.ref m, .int (iZ a)] h (RT m ad h (opZ (refGlaze (T 0) a) (fA (T 0) a 1 + 1)) (opT T (refGlaze (T 0) a) (uA (T 0) a 1 (fA (T 0) a 1 + 1)))) noX := by
  have hm := hm.nw
  have hb := hI.1
  refine Ct.of (own := eM) (nm := "glaze") (by decide +kernel) rfl rfl (L := [some (.ref m), some (.int (iZ a))]) rfl (Nat.le_of_ble_eq_true rfl) rfl ?_
  refine r_aload_n (pc := 0) dX3_glaze_0 rfl ?_
  refine r_callV (pc := 1) (kb' := 0) dX3_glaze_1 kX3_begins q2783 (t_begins hm) hm.1.1 rfl (Nat.le_refl _) (Nat.le_of_ble_eq_true rfl) rfl rfl (Nat.le_of_ble_eq_true rfl) (fun _ _ q => q.elim) (fun _ _ hq => go_V hq (fun h hm1 => ?_))
  have hm := hm.tr hm1
  refine r_aload_n (pc := 4) dX3_glaze_4 rfl ?_
  refine r_iload_n (pc := 5) dX3_glaze_5 rfl ?_
  refine r_callV (pc := 6) (kb' := 0) dX3_glaze_6 kX3_isRefusedGlaze q2843 (t_isRefusedGlaze hm (by rw [bgT_0]; exact hI) (by omega)) hm.1.1 rfl (Nat.le_refl _) (Nat.le_of_ble_eq_true rfl) rfl rfl (Nat.le_of_ble_eq_true rfl) (fun _ _ q => q.elim) (fun _ _ hq => go_T hq (fun h hm1 => ?_))
  have hm := hm.tr hm1
  rcases rf_cases (refGlaze (T 0) a) with ho | ⟨p, ho⟩
  · have hm := hm.to (bdO_none (by rw [bgT_0]; exact ho))
    refine go_z (rfB_none (by rw [bgT_0]; exact ho)) ?_
    have hr := refGlaze_n ho
    have ho2 := hI.2.1 a (by omega) (by omega)
    unfold artOk at ho2
    refine r_if_eq (pc := 9) (tgt := 19) dX3_glaze_9 (by decide) (by decide) (fun _ => ?_) (fun q => absurd (by decide) q)
    refine r_aload_n (pc := 19) dX3_glaze_19 rfl ?_
    refine r_aload_n (pc := 20) dX3_glaze_20 rfl ?_
    refine r_iload_n (pc := 21) dX3_glaze_21 rfl ?_
    refine r_callV (pc := 22) (kb' := 0) dX3_glaze_22 kX3_glazes q2863 (t_glazes hm (by rw [bgT_0]; exact hI) (by rw [bgT_0]; omega)) hm.1.1 rfl (Nat.le_refl _) (Nat.le_of_ble_eq_true rfl) rfl rfl (Nat.le_of_ble_eq_true rfl) (fun _ _ q => q.elim) (fun _ _ hq => go_T hq (fun h hm1 => ?_))
    have hm := hm.tr hm1
    have hm := hm.to (T' := uT (bgT T) (uA (T 0) a 1 (fA (T 0) a 1 + 1))) (by rw [bgT_0])
    refine go_z (z' := fA (T 0) a 1 + 1) (by rw [bgT_0]) ?_
    refine r_callV (pc := 25) (kb' := 0) dX3_glaze_25 kX3_keeps q2835 (t_keeps hm (by omega) (by rw [uT_k (by decide), bgT_6]; exact hC)) hm.1.1 rfl (Nat.le_refl _) (Nat.le_of_ble_eq_true rfl) rfl rfl (Nat.le_of_ble_eq_true rfl) (fun _ _ q => q.elim) (fun _ _ hq => go_T hq (fun h hm1 => ?_))
    have hm := hm.tr hm1
    exact e_retT (pc := 28) dX3_glaze_28 rfl hm (by rw [ho]; rfl) (by rw [ho]; rfl)
  · have hm := hm.to (bdO_some (by rw [bgT_0]; exact ho))
    refine go_z (rfB_some (by rw [bgT_0]; exact ho)) ?_
    refine r_if_eq (pc := 9) (tgt := 19) dX3_glaze_9 (by decide) (by decide) (fun q => absurd q (by decide)) (fun _ => ?_)
    refine r_aload_n (pc := 12) dX3_glaze_12 rfl ?_
    refine r_callV (pc := 13) (kb' := 0) dX3_glaze_13 kX3_refused q2819 (t_refused hm) hm.1.1 rfl (Nat.le_refl _) (Nat.le_of_ble_eq_true rfl) rfl rfl (Nat.le_of_ble_eq_true rfl) (fun _ _ q => q.elim) (fun _ _ hq => go_T hq (fun h hm1 => ?_))
    have hm := hm.tr hm1
    refine r_goto (pc := 16) (tgt := 28) dX3_glaze_16 (by decide) ?_
    exact e_retT (pc := 28) dX3_glaze_28 rfl hm (by rw [ho]; rfl) (by rw [ho]; rfl)
theorem t_shelve {G : Gl} {m : Nat} {ad : Nat → Nat} {h0 h : Hp} {T : TM} (hm : TI m ad h0 T h) {a s : Int} (hI : RI (T 0)) (ha : InR a) (hs : InR s) (hC : 0 ≤ T 6 0 ∧ T 6 0 ≤ 8) : Ct G 5 0 yX3_shelve (Cond.code yX3_shelve cX3_shelve 3 (some .int)) [.ref m, .int (iZ a), .int (iZ s)] h (RT m ad h (opZ (refShelve (T 0) a s) (fA (T 0) a 4)) (opT T (refShelve (T 0) a s) (uA (T 0) a 4 s))) noX := by
  have hm := hm.nw
  have hb := hI.1
  refine Ct.of (own := eM) (nm := "shelve") (by decide +kernel) rfl rfl (L := [some (.ref m), some (.int (iZ a)), some (.int (iZ s))]) rfl (Nat.le_of_ble_eq_true rfl) rfl ?_
  refine r_aload_n (pc := 0) dX3_shelve_0 rfl ?_
  refine r_callV (pc := 1) (kb' := 0) dX3_shelve_1 kX3_begins q2783 (t_begins hm) hm.1.1 rfl (Nat.le_refl _) (Nat.le_of_ble_eq_true rfl) rfl rfl (Nat.le_of_ble_eq_true rfl) (fun _ _ q => q.elim) (fun _ _ hq => go_V hq (fun h hm1 => ?_))
  have hm := hm.tr hm1
  refine r_aload_n (pc := 4) dX3_shelve_4 rfl ?_
  refine r_iload_n (pc := 5) dX3_shelve_5 rfl ?_
  refine r_iload_n (pc := 6) dX3_shelve_6 rfl ?_
  refine r_callV (pc := 7) (kb' := 0) dX3_shelve_7 kX3_isRefusedShelve q2871 (t_isRefusedShelve hm (by rw [bgT_0]; exact hI) (by omega) (by omega)) hm.1.1 rfl (Nat.le_refl _) (Nat.le_of_ble_eq_true rfl) rfl rfl (Nat.le_of_ble_eq_true rfl) (fun _ _ q => q.elim) (fun _ _ hq => go_T hq (fun h hm1 => ?_))
  have hm := hm.tr hm1
  rcases rf_cases (refShelve (T 0) a s) with ho | ⟨p, ho⟩
  · have hm := hm.to (bdO_none (by rw [bgT_0]; exact ho))
    refine go_z (rfB_none (by rw [bgT_0]; exact ho)) ?_
    have hr := refShelve_n ho
    have ho2 := hI.2.1 a (by omega) (by omega)
    unfold artOk at ho2
    refine r_if_eq (pc := 10) (tgt := 20) dX3_shelve_10 (by decide) (by decide) (fun _ => ?_) (fun q => absurd (by decide) q)
    refine r_aload_n (pc := 20) dX3_shelve_20 rfl ?_
    refine r_aload_n (pc := 21) dX3_shelve_21 rfl ?_
    refine r_iload_n (pc := 22) dX3_shelve_22 rfl ?_
    refine r_iload_n (pc := 23) dX3_shelve_23 rfl ?_
    refine r_callV (pc := 24) (kb' := 0) dX3_shelve_24 kX3_shelves q2875 (t_shelves hm (by rw [bgT_0]; exact hI) (by rw [bgT_0]; omega) (by omega)) hm.1.1 rfl (Nat.le_refl _) (Nat.le_of_ble_eq_true rfl) rfl rfl (Nat.le_of_ble_eq_true rfl) (fun _ _ q => q.elim) (fun _ _ hq => go_T hq (fun h hm1 => ?_))
    have hm := hm.tr hm1
    have hm := hm.to (T' := uT (bgT T) (uA (T 0) a 4 s)) (by rw [bgT_0])
    refine go_z (z' := fA (T 0) a 4) (by rw [bgT_0]) ?_
    refine r_callV (pc := 27) (kb' := 0) dX3_shelve_27 kX3_keeps q2835 (t_keeps hm (by omega) (by rw [uT_k (by decide), bgT_6]; exact hC)) hm.1.1 rfl (Nat.le_refl _) (Nat.le_of_ble_eq_true rfl) rfl rfl (Nat.le_of_ble_eq_true rfl) (fun _ _ q => q.elim) (fun _ _ hq => go_T hq (fun h hm1 => ?_))
    have hm := hm.tr hm1
    exact e_retT (pc := 30) dX3_shelve_30 rfl hm (by rw [ho]; rfl) (by rw [ho]; rfl)
  · have hm := hm.to (bdO_some (by rw [bgT_0]; exact ho))
    refine go_z (rfB_some (by rw [bgT_0]; exact ho)) ?_
    refine r_if_eq (pc := 10) (tgt := 20) dX3_shelve_10 (by decide) (by decide) (fun q => absurd q (by decide)) (fun _ => ?_)
    refine r_aload_n (pc := 13) dX3_shelve_13 rfl ?_
    refine r_callV (pc := 14) (kb' := 0) dX3_shelve_14 kX3_refused q2819 (t_refused hm) hm.1.1 rfl (Nat.le_refl _) (Nat.le_of_ble_eq_true rfl) rfl rfl (Nat.le_of_ble_eq_true rfl) (fun _ _ q => q.elim) (fun _ _ hq => go_T hq (fun h hm1 => ?_))
    have hm := hm.tr hm1
    refine r_goto (pc := 17) (tgt := 30) dX3_shelve_17 (by decide) ?_
    exact e_retT (pc := 30) dX3_shelve_30 rfl hm (by rw [ho]; rfl) (by rw [ho]; rfl)
theorem t_fire {G : Gl} {m : Nat} {ad : Nat → Nat} {h0 h : Hp} {T : TM} (hm : TI m ad h0 T h) {x : Int} (hI : RI (T 0)) (hx : InR x) (hC : 0 ≤ T 6 0 ∧ T 6 0 ≤ 8) : Ct G 6 0 yX3_fire (Cond.code yX3_fire cX3_fire 2 (some .int)) [.ref m, .int (iZ x)] h (RT m ad h (opZ (refFire (T 0) x) ((buZ x (T 0 0).toNat (T 0) 0 0).2)) (opT T (refFire (T 0) x) (fiR (T 0) x))) noX := by
  have hm := hm.nw
  have hb := hI.1
  refine Ct.of (own := eM) (nm := "fire") (by decide +kernel) rfl rfl (L := [some (.ref m), some (.int (iZ x))]) rfl (Nat.le_of_ble_eq_true rfl) rfl ?_
  refine r_aload_n (pc := 0) dX3_fire_0 rfl ?_
  refine r_callV (pc := 1) (kb' := 0) dX3_fire_1 kX3_begins q2783 (t_begins hm) hm.1.1 rfl (Nat.le_refl _) (Nat.le_of_ble_eq_true rfl) rfl rfl (Nat.le_of_ble_eq_true rfl) (fun _ _ q => q.elim) (fun _ _ hq => go_V hq (fun h hm1 => ?_))
  have hm := hm.tr hm1
  refine r_aload_n (pc := 4) dX3_fire_4 rfl ?_
  refine r_iload_n (pc := 5) dX3_fire_5 rfl ?_
  refine r_callV (pc := 6) (kb' := 0) dX3_fire_6 kX3_isRefusedFire q2883 (t_isRefusedFire hm (by rw [bgT_0]; exact hI) (by omega)) hm.1.1 rfl (Nat.le_refl _) (Nat.le_of_ble_eq_true rfl) rfl rfl (Nat.le_of_ble_eq_true rfl) (fun _ _ q => q.elim) (fun _ _ hq => go_T hq (fun h hm1 => ?_))
  have hm := hm.tr hm1
  rcases rf_cases (refFire (T 0) x) with ho | ⟨p, ho⟩
  · have hm := hm.to (bdO_none (by rw [bgT_0]; exact ho))
    refine go_z (rfB_none (by rw [bgT_0]; exact ho)) ?_
    have hr := refFire_n ho
    have hu := bu_in (x := x) (T 0 0).toNat (T 0) 0 0
    refine r_if_eq (pc := 9) (tgt := 19) dX3_fire_9 (by decide) (by decide) (fun _ => ?_) (fun q => absurd (by decide) q)
    refine r_aload_n (pc := 19) dX3_fire_19 rfl ?_
    refine r_aload_n (pc := 20) dX3_fire_20 rfl ?_
    refine r_iload_n (pc := 21) dX3_fire_21 rfl ?_
    refine r_callV (pc := 22) (kb' := 0) dX3_fire_22 kX3_burns q2890 (t_burns hm (by rw [bgT_0]; exact hI) (by omega)) hm.1.1 rfl (Nat.le_refl _) (Nat.le_of_ble_eq_true rfl) rfl rfl (Nat.le_of_ble_eq_true rfl) (fun _ _ q => q.elim) (fun _ _ hq => go_T hq (fun h hm1 => ?_))
    have hm := hm.tr hm1
    have hm := hm.to (T' := uT (bgT T) (fiR (T 0) x)) (by rw [bgT_0])
    refine go_z (z' := (buZ x (T 0 0).toNat (T 0) 0 0).2) (by rw [bgT_0]) ?_
    refine r_callV (pc := 25) (kb' := 0) dX3_fire_25 kX3_keeps q2835 (t_keeps hm (by omega) (by rw [uT_k (by decide), bgT_6]; exact hC)) hm.1.1 rfl (Nat.le_refl _) (Nat.le_of_ble_eq_true rfl) rfl rfl (Nat.le_of_ble_eq_true rfl) (fun _ _ q => q.elim) (fun _ _ hq => go_T hq (fun h hm1 => ?_))
    have hm := hm.tr hm1
    exact e_retT (pc := 28) dX3_fire_28 rfl hm (by rw [ho]; rfl) (by rw [ho]; rfl)
  · have hm := hm.to (bdO_some (by rw [bgT_0]; exact ho))
    refine go_z (rfB_some (by rw [bgT_0]; exact ho)) ?_
    refine r_if_eq (pc := 9) (tgt := 19) dX3_fire_9 (by decide) (by decide) (fun q => absurd q (by decide)) (fun _ => ?_)
    refine r_aload_n (pc := 12) dX3_fire_12 rfl ?_
    refine r_callV (pc := 13) (kb' := 0) dX3_fire_13 kX3_refused q2819 (t_refused hm) hm.1.1 rfl (Nat.le_refl _) (Nat.le_of_ble_eq_true rfl) rfl rfl (Nat.le_of_ble_eq_true rfl) (fun _ _ q => q.elim) (fun _ _ hq => go_T hq (fun h hm1 => ?_))
    have hm := hm.tr hm1
    refine r_goto (pc := 16) (tgt := 28) dX3_fire_16 (by decide) ?_
    exact e_retT (pc := 28) dX3_fire_28 rfl hm (by rw [ho]; rfl) (by rw [ho]; rfl)
theorem t_cite {G : Gl} {m : Nat} {ad : Nat → Nat} {h0 h : Hp} {T : TM} (hm : TI m ad h0 T h) {s a : Int} (hI : RI (T 0)) (hs : InR s) (ha : InR a) (hC : 0 ≤ T 6 0 ∧ T 6 0 ≤ 8) : Ct G 5 0 yX3_cite (Cond.code yX3_cite cX3_cite 3 (some .int)) [.ref m, .int (iZ s), .int (iZ a)] h (RT m ad h (opZ (refCite (T 0) s a) (ciN (T 0) s a)) (opT T (refCite (T 0) s a) (ciR (T 0) s a))) noX := by
  have hm := hm.nw
  have hb := hI.1
  refine Ct.of (own := eM) (nm := "cite") (by decide +kernel) rfl rfl (L := [some (.ref m), some (.int (iZ s)), some (.int (iZ a))]) rfl (Nat.le_of_ble_eq_true rfl) rfl ?_
  refine r_aload_n (pc := 0) dX3_cite_0 rfl ?_
  refine r_callV (pc := 1) (kb' := 0) dX3_cite_1 kX3_begins q2783 (t_begins hm) hm.1.1 rfl (Nat.le_refl _) (Nat.le_of_ble_eq_true rfl) rfl rfl (Nat.le_of_ble_eq_true rfl) (fun _ _ q => q.elim) (fun _ _ hq => go_V hq (fun h hm1 => ?_))
  have hm := hm.tr hm1
  refine r_aload_n (pc := 4) dX3_cite_4 rfl ?_
  refine r_iload_n (pc := 5) dX3_cite_5 rfl ?_
  refine r_iload_n (pc := 6) dX3_cite_6 rfl ?_
  refine r_callV (pc := 7) (kb' := 0) dX3_cite_7 kX3_isRefusedCite q2929 (t_isRefusedCite hm (by rw [bgT_0]; exact hI) (by omega) (by omega)) hm.1.1 rfl (Nat.le_refl _) (Nat.le_of_ble_eq_true rfl) rfl rfl (Nat.le_of_ble_eq_true rfl) (fun _ _ q => q.elim) (fun _ _ hq => go_T hq (fun h hm1 => ?_))
  have hm := hm.tr hm1
  rcases rf_cases (refCite (T 0) s a) with ho | ⟨p, ho⟩
  · have hm := hm.to (bdO_none (by rw [bgT_0]; exact ho))
    refine go_z (rfB_none (by rw [bgT_0]; exact ho)) ?_
    have hr := refCite_n ho
    have ho2 := hI.2.1 a (by omega) (by omega)
    unfold artOk at ho2
    have hs2 := hI.2.2.1 s (by omega) (by omega)
    unfold shOk at hs2
    have h6 : 0 ≤ apt (T 0) s a ∧ apt (T 0) s a ≤ 8 := ap_in (by omega) (by omega)
    have h8 : -8 ≤ ciN (T 0) s a ∧ ciN (T 0) s a ≤ 9 := (by unfold ciN leZ; split <;> omega)
    refine r_if_eq (pc := 10) (tgt := 20) dX3_cite_10 (by decide) (by decide) (fun _ => ?_) (fun q => absurd (by decide) q)
    refine r_aload_n (pc := 20) dX3_cite_20 rfl ?_
    refine r_aload_n (pc := 21) dX3_cite_21 rfl ?_
    refine r_iload_n (pc := 22) dX3_cite_22 rfl ?_
    refine r_iload_n (pc := 23) dX3_cite_23 rfl ?_
    refine r_callV (pc := 24) (kb' := 0) dX3_cite_24 kX3_cites q2945 (t_cites hm (by rw [bgT_0]; exact hI) (by rw [bgT_0]; omega) (by rw [bgT_0]; omega)) hm.1.1 rfl (Nat.le_refl _) (Nat.le_of_ble_eq_true rfl) rfl rfl (Nat.le_of_ble_eq_true rfl) (fun _ _ q => q.elim) (fun _ _ hq => go_T hq (fun h hm1 => ?_))
    have hm := hm.tr hm1
    have hm := hm.to (T' := uT (bgT T) (ciR (T 0) s a)) (by rw [bgT_0])
    refine go_z (z' := ciN (T 0) s a) (by rw [bgT_0]) ?_
    refine r_callV (pc := 27) (kb' := 0) dX3_cite_27 kX3_keeps q2835 (t_keeps hm (by omega) (by rw [uT_k (by decide), bgT_6]; exact hC)) hm.1.1 rfl (Nat.le_refl _) (Nat.le_of_ble_eq_true rfl) rfl rfl (Nat.le_of_ble_eq_true rfl) (fun _ _ q => q.elim) (fun _ _ hq => go_T hq (fun h hm1 => ?_))
    have hm := hm.tr hm1
    exact e_retT (pc := 30) dX3_cite_30 rfl hm (by rw [ho]; rfl) (by rw [ho]; rfl)
  · have hm := hm.to (bdO_some (by rw [bgT_0]; exact ho))
    refine go_z (rfB_some (by rw [bgT_0]; exact ho)) ?_
    refine r_if_eq (pc := 10) (tgt := 20) dX3_cite_10 (by decide) (by decide) (fun q => absurd q (by decide)) (fun _ => ?_)
    refine r_aload_n (pc := 13) dX3_cite_13 rfl ?_
    refine r_callV (pc := 14) (kb' := 0) dX3_cite_14 kX3_refused q2819 (t_refused hm) hm.1.1 rfl (Nat.le_refl _) (Nat.le_of_ble_eq_true rfl) rfl rfl (Nat.le_of_ble_eq_true rfl) (fun _ _ q => q.elim) (fun _ _ hq => go_T hq (fun h hm1 => ?_))
    have hm := hm.tr hm1
    refine r_goto (pc := 17) (tgt := 30) dX3_cite_17 (by decide) ?_
    exact e_retT (pc := 30) dX3_cite_30 rfl hm (by rw [ho]; rfl) (by rw [ho]; rfl)
theorem t_ratify {G : Gl} {m : Nat} {ad : Nat → Nat} {h0 h : Hp} {T : TM} (hm : TI m ad h0 T h) {a : Int} (hI : RI (T 0)) (ha : InR a) (hC : 0 ≤ T 6 0 ∧ T 6 0 ≤ 8) : Ct G 5 0 yX3_ratify (Cond.code yX3_ratify cX3_ratify 2 (some .int)) [.ref m, .int (iZ a)] h (RT m ad h (opZ (refRatify (T 0) a) (T 0 1 + 1)) (opT T (refRatify (T 0) a) (raR (T 0) a))) noX := by
  have hm := hm.nw
  have hb := hI.1
  refine Ct.of (own := eM) (nm := "ratify") (by decide +kernel) rfl rfl (L := [some (.ref m), some (.int (iZ a))]) rfl (Nat.le_of_ble_eq_true rfl) rfl ?_
  refine r_aload_n (pc := 0) dX3_ratify_0 rfl ?_
  refine r_callV (pc := 1) (kb' := 0) dX3_ratify_1 kX3_begins q2783 (t_begins hm) hm.1.1 rfl (Nat.le_refl _) (Nat.le_of_ble_eq_true rfl) rfl rfl (Nat.le_of_ble_eq_true rfl) (fun _ _ q => q.elim) (fun _ _ hq => go_V hq (fun h hm1 => ?_))
  have hm := hm.tr hm1
  refine r_aload_n (pc := 4) dX3_ratify_4 rfl ?_
  refine r_iload_n (pc := 5) dX3_ratify_5 rfl ?_
  refine r_callV (pc := 6) (kb' := 0) dX3_ratify_6 kX3_isRefusedRatify q2956 (t_isRefusedRatify hm (by rw [bgT_0]; exact hI) (by omega)) hm.1.1 rfl (Nat.le_refl _) (Nat.le_of_ble_eq_true rfl) rfl rfl (Nat.le_of_ble_eq_true rfl) (fun _ _ q => q.elim) (fun _ _ hq => go_T hq (fun h hm1 => ?_))
  have hm := hm.tr hm1
  rcases rf_cases (refRatify (T 0) a) with ho | ⟨p, ho⟩
  · have hm := hm.to (bdO_none (by rw [bgT_0]; exact ho))
    refine go_z (rfB_none (by rw [bgT_0]; exact ho)) ?_
    have hr := refRatify_n ho
    refine r_if_eq (pc := 9) (tgt := 19) dX3_ratify_9 (by decide) (by decide) (fun _ => ?_) (fun q => absurd (by decide) q)
    refine r_aload_n (pc := 19) dX3_ratify_19 rfl ?_
    refine r_aload_n (pc := 20) dX3_ratify_20 rfl ?_
    refine r_iload_n (pc := 21) dX3_ratify_21 rfl ?_
    refine r_callV (pc := 22) (kb' := 0) dX3_ratify_22 kX3_ratifies q2960 (t_ratifies hm (by rw [bgT_0]; exact hI) (by rw [bgT_0]; omega)) hm.1.1 rfl (Nat.le_refl _) (Nat.le_of_ble_eq_true rfl) rfl rfl (Nat.le_of_ble_eq_true rfl) (fun _ _ q => q.elim) (fun _ _ hq => go_T hq (fun h hm1 => ?_))
    have hm := hm.tr hm1
    have hm := hm.to (T' := uT (bgT T) (raR (T 0) a)) (by rw [bgT_0])
    refine go_z (z' := T 0 1 + 1) (by rw [bgT_0]) ?_
    refine r_callV (pc := 25) (kb' := 0) dX3_ratify_25 kX3_keeps q2835 (t_keeps hm (by omega) (by rw [uT_k (by decide), bgT_6]; exact hC)) hm.1.1 rfl (Nat.le_refl _) (Nat.le_of_ble_eq_true rfl) rfl rfl (Nat.le_of_ble_eq_true rfl) (fun _ _ q => q.elim) (fun _ _ hq => go_T hq (fun h hm1 => ?_))
    have hm := hm.tr hm1
    exact e_retT (pc := 28) dX3_ratify_28 rfl hm (by rw [ho]; rfl) (by rw [ho]; rfl)
  · have hm := hm.to (bdO_some (by rw [bgT_0]; exact ho))
    refine go_z (rfB_some (by rw [bgT_0]; exact ho)) ?_
    refine r_if_eq (pc := 9) (tgt := 19) dX3_ratify_9 (by decide) (by decide) (fun q => absurd q (by decide)) (fun _ => ?_)
    refine r_aload_n (pc := 12) dX3_ratify_12 rfl ?_
    refine r_callV (pc := 13) (kb' := 0) dX3_ratify_13 kX3_refused q2819 (t_refused hm) hm.1.1 rfl (Nat.le_refl _) (Nat.le_of_ble_eq_true rfl) rfl rfl (Nat.le_of_ble_eq_true rfl) (fun _ _ q => q.elim) (fun _ _ hq => go_T hq (fun h hm1 => ?_))
    have hm := hm.tr hm1
    refine r_goto (pc := 16) (tgt := 28) dX3_ratify_16 (by decide) ?_
    exact e_retT (pc := 28) dX3_ratify_28 rfl hm (by rw [ho]; rfl) (by rw [ho]; rfl)
theorem t_repeal {G : Gl} {m : Nat} {ad : Nat → Nat} {h0 h : Hp} {T : TM} (hm : TI m ad h0 T h) {a s : Int} (hI : RI (T 0)) (ha : InR a) (hs : InR s) (hC : 0 ≤ T 6 0 ∧ T 6 0 ≤ 8) : Ct G 5 0 yX3_repeal (Cond.code yX3_repeal cX3_repeal 3 (some .int)) [.ref m, .int (iZ a), .int (iZ s)] h (RT m ad h (opZ (refRepeal (T 0) a s) (T 0 1 - 1)) (opT T (refRepeal (T 0) a s) (reR (T 0) a s))) noX := by
  have hm := hm.nw
  have hb := hI.1
  refine Ct.of (own := eM) (nm := "repeal") (by decide +kernel) rfl rfl (L := [some (.ref m), some (.int (iZ a)), some (.int (iZ s))]) rfl (Nat.le_of_ble_eq_true rfl) rfl ?_
  refine r_aload_n (pc := 0) dX3_repeal_0 rfl ?_
  refine r_callV (pc := 1) (kb' := 0) dX3_repeal_1 kX3_begins q2783 (t_begins hm) hm.1.1 rfl (Nat.le_refl _) (Nat.le_of_ble_eq_true rfl) rfl rfl (Nat.le_of_ble_eq_true rfl) (fun _ _ q => q.elim) (fun _ _ hq => go_V hq (fun h hm1 => ?_))
  have hm := hm.tr hm1
  refine r_aload_n (pc := 4) dX3_repeal_4 rfl ?_
  refine r_iload_n (pc := 5) dX3_repeal_5 rfl ?_
  refine r_iload_n (pc := 6) dX3_repeal_6 rfl ?_
  refine r_callV (pc := 7) (kb' := 0) dX3_repeal_7 kX3_isRefusedRepeal q2968 (t_isRefusedRepeal hm (by rw [bgT_0]; exact hI) (by omega) (by omega)) hm.1.1 rfl (Nat.le_refl _) (Nat.le_of_ble_eq_true rfl) rfl rfl (Nat.le_of_ble_eq_true rfl) (fun _ _ q => q.elim) (fun _ _ hq => go_T hq (fun h hm1 => ?_))
  have hm := hm.tr hm1
  rcases rf_cases (refRepeal (T 0) a s) with ho | ⟨p, ho⟩
  · have hm := hm.to (bdO_none (by rw [bgT_0]; exact ho))
    refine go_z (rfB_none (by rw [bgT_0]; exact ho)) ?_
    have hr := refRepeal_n ho
    have hp := pl_law hI (by omega) hr.2.2.1
    refine r_if_eq (pc := 10) (tgt := 20) dX3_repeal_10 (by decide) (by decide) (fun _ => ?_) (fun q => absurd (by decide) q)
    refine r_aload_n (pc := 20) dX3_repeal_20 rfl ?_
    refine r_aload_n (pc := 21) dX3_repeal_21 rfl ?_
    refine r_iload_n (pc := 22) dX3_repeal_22 rfl ?_
    refine r_iload_n (pc := 23) dX3_repeal_23 rfl ?_
    refine r_callV (pc := 24) (kb' := 0) dX3_repeal_24 kX3_repeals q2972 (t_repeals hm (by rw [bgT_0]; exact hI) (by rw [bgT_0]; omega) (by omega) (by rw [bgT_0]; exact ⟨hp.1, hp.2.1⟩)) hm.1.1 rfl (Nat.le_refl _) (Nat.le_of_ble_eq_true rfl) rfl rfl (Nat.le_of_ble_eq_true rfl) (fun _ _ q => q.elim) (fun _ _ hq => go_T hq (fun h hm1 => ?_))
    have hm := hm.tr hm1
    have hm := hm.to (T' := uT (bgT T) (reR (T 0) a s)) (by rw [bgT_0])
    refine go_z (z' := T 0 1 - 1) (by rw [bgT_0]) ?_
    refine r_callV (pc := 27) (kb' := 0) dX3_repeal_27 kX3_keeps q2835 (t_keeps hm (by omega) (by rw [uT_k (by decide), bgT_6]; exact hC)) hm.1.1 rfl (Nat.le_refl _) (Nat.le_of_ble_eq_true rfl) rfl rfl (Nat.le_of_ble_eq_true rfl) (fun _ _ q => q.elim) (fun _ _ hq => go_T hq (fun h hm1 => ?_))
    have hm := hm.tr hm1
    exact e_retT (pc := 30) dX3_repeal_30 rfl hm (by rw [ho]; rfl) (by rw [ho]; rfl)
  · have hm := hm.to (bdO_some (by rw [bgT_0]; exact ho))
    refine go_z (rfB_some (by rw [bgT_0]; exact ho)) ?_
    refine r_if_eq (pc := 10) (tgt := 20) dX3_repeal_10 (by decide) (by decide) (fun q => absurd q (by decide)) (fun _ => ?_)
    refine r_aload_n (pc := 13) dX3_repeal_13 rfl ?_
    refine r_callV (pc := 14) (kb' := 0) dX3_repeal_14 kX3_refused q2819 (t_refused hm) hm.1.1 rfl (Nat.le_refl _) (Nat.le_of_ble_eq_true rfl) rfl rfl (Nat.le_of_ble_eq_true rfl) (fun _ _ q => q.elim) (fun _ _ hq => go_T hq (fun h hm1 => ?_))
    have hm := hm.tr hm1
    refine r_goto (pc := 17) (tgt := 30) dX3_repeal_17 (by decide) ?_
    exact e_retT (pc := 30) dX3_repeal_30 rfl hm (by rw [ho]; rfl) (by rw [ho]; rfl)
theorem t_scrap {G : Gl} {m : Nat} {ad : Nat → Nat} {h0 h : Hp} {T : TM} (hm : TI m ad h0 T h) {a : Int} (hI : RI (T 0)) (ha : InR a) (hC : 0 ≤ T 6 0 ∧ T 6 0 ≤ 8) : Ct G 5 0 yX3_scrap (Cond.code yX3_scrap cX3_scrap 2 (some .int)) [.ref m, .int (iZ a)] h (RT m ad h (opZ (refScrap (T 0) a) (T 0 0 - 1)) (opT T (refScrap (T 0) a) (goR (T 0) a))) noX := by
  have hm := hm.nw
  have hb := hI.1
  refine Ct.of (own := eM) (nm := "scrap") (by decide +kernel) rfl rfl (L := [some (.ref m), some (.int (iZ a))]) rfl (Nat.le_of_ble_eq_true rfl) rfl ?_
  refine r_aload_n (pc := 0) dX3_scrap_0 rfl ?_
  refine r_callV (pc := 1) (kb' := 0) dX3_scrap_1 kX3_begins q2783 (t_begins hm) hm.1.1 rfl (Nat.le_refl _) (Nat.le_of_ble_eq_true rfl) rfl rfl (Nat.le_of_ble_eq_true rfl) (fun _ _ q => q.elim) (fun _ _ hq => go_V hq (fun h hm1 => ?_))
  have hm := hm.tr hm1
  refine r_aload_n (pc := 4) dX3_scrap_4 rfl ?_
  refine r_iload_n (pc := 5) dX3_scrap_5 rfl ?_
  refine r_callV (pc := 6) (kb' := 0) dX3_scrap_6 kX3_isRefusedScrap q2980 (t_isRefusedScrap hm (by rw [bgT_0]; exact hI) (by omega)) hm.1.1 rfl (Nat.le_refl _) (Nat.le_of_ble_eq_true rfl) rfl rfl (Nat.le_of_ble_eq_true rfl) (fun _ _ q => q.elim) (fun _ _ hq => go_T hq (fun h hm1 => ?_))
  have hm := hm.tr hm1
  rcases rf_cases (refScrap (T 0) a) with ho | ⟨p, ho⟩
  · have hm := hm.to (bdO_none (by rw [bgT_0]; exact ho))
    refine go_z (rfB_none (by rw [bgT_0]; exact ho)) ?_
    have hr := refScrap_n ho
    refine r_if_eq (pc := 9) (tgt := 19) dX3_scrap_9 (by decide) (by decide) (fun _ => ?_) (fun q => absurd (by decide) q)
    refine r_aload_n (pc := 19) dX3_scrap_19 rfl ?_
    refine r_aload_n (pc := 20) dX3_scrap_20 rfl ?_
    refine r_iload_n (pc := 21) dX3_scrap_21 rfl ?_
    refine r_callV (pc := 22) (kb' := 0) dX3_scrap_22 kX3_scraps q2984 (t_scraps hm (by rw [bgT_0]; exact hI) (by rw [bgT_0]; omega)) hm.1.1 rfl (Nat.le_refl _) (Nat.le_of_ble_eq_true rfl) rfl rfl (Nat.le_of_ble_eq_true rfl) (fun _ _ q => q.elim) (fun _ _ hq => go_T hq (fun h hm1 => ?_))
    have hm := hm.tr hm1
    have hm := hm.to (T' := uT (bgT T) (goR (T 0) a)) (by rw [bgT_0])
    refine go_z (z' := T 0 0 - 1) (by rw [bgT_0]) ?_
    refine r_callV (pc := 25) (kb' := 0) dX3_scrap_25 kX3_keeps q2835 (t_keeps hm (by omega) (by rw [uT_k (by decide), bgT_6]; exact hC)) hm.1.1 rfl (Nat.le_refl _) (Nat.le_of_ble_eq_true rfl) rfl rfl (Nat.le_of_ble_eq_true rfl) (fun _ _ q => q.elim) (fun _ _ hq => go_T hq (fun h hm1 => ?_))
    have hm := hm.tr hm1
    exact e_retT (pc := 28) dX3_scrap_28 rfl hm (by rw [ho]; rfl) (by rw [ho]; rfl)
  · have hm := hm.to (bdO_some (by rw [bgT_0]; exact ho))
    refine go_z (rfB_some (by rw [bgT_0]; exact ho)) ?_
    refine r_if_eq (pc := 9) (tgt := 19) dX3_scrap_9 (by decide) (by decide) (fun q => absurd q (by decide)) (fun _ => ?_)
    refine r_aload_n (pc := 12) dX3_scrap_12 rfl ?_
    refine r_callV (pc := 13) (kb' := 0) dX3_scrap_13 kX3_refused q2819 (t_refused hm) hm.1.1 rfl (Nat.le_refl _) (Nat.le_of_ble_eq_true rfl) rfl rfl (Nat.le_of_ble_eq_true rfl) (fun _ _ q => q.elim) (fun _ _ hq => go_T hq (fun h hm1 => ?_))
    have hm := hm.tr hm1
    refine r_goto (pc := 16) (tgt := 28) dX3_scrap_16 (by decide) ?_
    exact e_retT (pc := 28) dX3_scrap_28 rfl hm (by rw [ho]; rfl) (by rw [ho]; rfl)
