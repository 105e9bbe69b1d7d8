set_option maxRecDepth 100000
theorem t_canRatify {G : Gl} {m : Nat} {ad : Nat → Nat} {h0 h9 : Hp} {T9 : TM} (hm : TI m ad h0 T9 h9) {a : Int} (hI : RI (T9 0)) (ha : InR a) : Ct G 5 0 yX3_canRatify (Cond.code yX3_canRatify cX3_canRatify 2 (some .boolean)) [.ref m, .int (iZ a)] h9 (RX m ad h9 (bZ (refRatify (T9 0) a = none ∧ kAr (T9 0) a = 0)) (sT T9 5 0 (kAr (T9 0) a))) noX := by
  have hm := hm.nw
  obtain ⟨T, e0, hE, hm⟩ : ∃ T : TM, T 0 = T9 0 ∧ E2 T T9 ∧ TI m ad h9 T h9 := ⟨T9, rfl, E2.rf, hm⟩
  have hb := hI.1
  have o9 := fun x => onSh_in (r := T9 0) (s := x) (by omega)
  have p9 : ∀ x, InR (plOf (T9 0) x) := fun x => (fnd_in (N := T9 0 1) (p := fun k => T9 0 (12 + k) = x) (by omega)).2.2
  refine Ct.of (own := eM) (nm := "canRatify") (by decide +kernel) rfl rfl (L := [some (.ref m), some (.int (iZ a))]) rfl (Nat.le_of_ble_eq_true rfl) rfl ?_
  refine r_aload_n (pc := 0) dX3_canRatify_0 rfl ?_
  refine r_aload_n (pc := 1) dX3_canRatify_1 rfl ?_
  refine r_iload_n (pc := 2) dX3_canRatify_2 rfl ?_
  refine r_callV (pc := 3) (kb' := 0) dX3_canRatify_3 kX3_isArticle q2851 (t_isArticle hm (by rw [e0]; exact hI) (by first | omega | (simp only [e0]; omega))) hm.1.1 rfl (Nat.le_refl _) (Nat.le_of_ble_eq_true rfl) rfl rfl (Nat.le_of_ble_eq_true rfl) (fun _ _ q => q.elim) (fun _ _ hq => go_E hq ?_)
  try simp only [e0]
  refine r_ifB_eq (pc := 6) (tgt := 13) dX3_canRatify_6 (by decide) (fun c6 => ?_) (fun c6 => ?_)
  · refine r_iconst (pc := 13) dX3_canRatify_13 ?_
    refine pX3_25 (pc := 14) dX3_canRatify_14 hm.1.1 (by decide) (Nat.le_of_ble_eq_true rfl) ?_
    refine t_put 5 rfl hm (by first | omega | exact rfB_in _ | exact nz_in _ | exact hm.r _ _) (fun h hm => ?_)
    obtain ⟨T, e0, hE, hm⟩ := E2.gen e0 hE hm (by decide)
    refine r_aload_n (pc := 17) dX3_canRatify_17 rfl ?_
    refine gX3_25 (pc := 18) dX3_canRatify_18 hm.1.1 rfl ?_; have r18 := hm.r 5 0
    refine go_nm (fun z18 e18 => ?_)
    have r18 := InR_of e18 r18
    rw [hE 5 (by decide) (by decide)] at e18; simp only [sT_s] at e18
    refine r_if_ne (pc := 21) (tgt := 36) dX3_canRatify_21 (by decide) (by first | omega | exact rfB_in _ | exact nz_in _ | exact hm.r _ _) (fun c21 => ?_) (fun c21 => ?_)
    · refine r_iconst (pc := 36) dX3_canRatify_36 ?_
      exact e_retXB (pc := 37) dX3_canRatify_37 rfl (by first | (left; rfl) | (right; rfl) | exact bZ_01 _ | omega) hm hE (by first | exact (bZ_t ⟨rfB_0.mp (by omega), if_pos (by omega)⟩).symm | exact (bZ_f (fun q => c29 (rfB_0.mpr q.1))).symm | exact (bZ_f (fun q => by have := q.2; rw [show kAr (T9 0) a = 1 from if_neg (by omega)] at this; omega)).symm) (by first | rfl | ((try rw [sT_sT]); congr 1; unfold kAr; (repeat' split) <;> first | rfl | omega))
    · refine r_aload_n (pc := 24) dX3_canRatify_24 rfl ?_
      refine r_iload_n (pc := 25) dX3_canRatify_25 rfl ?_
      refine r_callV (pc := 26) (kb' := 0) dX3_canRatify_26 kX3_isRefusedRatify q2956 (t_isRefusedRatify hm (by rw [e0]; exact hI) (by first | omega | (simp only [e0]; omega))) hm.1.1 rfl (Nat.le_refl _) (Nat.le_of_ble_eq_true rfl) rfl rfl (Nat.le_of_ble_eq_true rfl) (fun _ _ q => q.elim) (fun _ _ hq => go_T hq (fun h hm1 => ?_))
      have hm := hm.tr hm1
      try simp only [e0]
      obtain ⟨T, e0, hE, hm⟩ := E2.genB e0 hE hm
      try simp only [e0]
      refine r_if_ne (pc := 29) (tgt := 36) dX3_canRatify_29 (by decide) (by first | omega | exact rfB_in _ | exact nz_in _ | exact hm.r _ _) (fun c29 => ?_) (fun c29 => ?_)
      · refine r_iconst (pc := 36) dX3_canRatify_36 ?_
        exact e_retXB (pc := 37) dX3_canRatify_37 rfl (by first | (left; rfl) | (right; rfl) | exact bZ_01 _ | omega) hm hE (by first | exact (bZ_t ⟨rfB_0.mp (by omega), if_pos (by omega)⟩).symm | exact (bZ_f (fun q => c29 (rfB_0.mpr q.1))).symm | exact (bZ_f (fun q => by have := q.2; rw [show kAr (T9 0) a = 1 from if_neg (by omega)] at this; omega)).symm) (by first | rfl | ((try rw [sT_sT]); congr 1; unfold kAr; (repeat' split) <;> first | rfl | omega))
      · refine r_iconst (pc := 32) dX3_canRatify_32 ?_
        refine r_goto (pc := 33) (tgt := 37) dX3_canRatify_33 (by decide) ?_
        exact e_retXB (pc := 37) dX3_canRatify_37 rfl (by first | (left; rfl) | (right; rfl) | exact bZ_01 _ | omega) hm hE (by first | exact (bZ_t ⟨rfB_0.mp (by omega), if_pos (by omega)⟩).symm | exact (bZ_f (fun q => c29 (rfB_0.mpr q.1))).symm | exact (bZ_f (fun q => by have := q.2; rw [show kAr (T9 0) a = 1 from if_neg (by omega)] at this; omega)).symm) (by first | rfl | ((try rw [sT_sT]); congr 1; unfold kAr; (repeat' split) <;> first | rfl | omega))
  · refine r_iconst (pc := 9) dX3_canRatify_9 ?_
    refine r_goto (pc := 10) (tgt := 14) dX3_canRatify_10 (by decide) ?_
    refine pX3_25 (pc := 14) dX3_canRatify_14 hm.1.1 (by decide) (Nat.le_of_ble_eq_true rfl) ?_
    refine t_put 5 rfl hm (by first | omega | exact rfB_in _ | exact nz_in _ | exact hm.r _ _) (fun h hm => ?_)
    obtain ⟨T, e0, hE, hm⟩ := E2.gen e0 hE hm (by decide)
    refine r_aload_n (pc := 17) dX3_canRatify_17 rfl ?_
    refine gX3_25 (pc := 18) dX3_canRatify_18 hm.1.1 rfl ?_; have r18 := hm.r 5 0
    refine go_nm (fun z18 e18 => ?_)
    have r18 := InR_of e18 r18
    rw [hE 5 (by decide) (by decide)] at e18; simp only [sT_s] at e18
    refine r_if_ne (pc := 21) (tgt := 36) dX3_canRatify_21 (by decide) (by first | omega | exact rfB_in _ | exact nz_in _ | exact hm.r _ _) (fun c21 => ?_) (fun c21 => ?_)
    · refine r_iconst (pc := 36) dX3_canRatify_36 ?_
      exact e_retXB (pc := 37) dX3_canRatify_37 rfl (by first | (left; rfl) | (right; rfl) | exact bZ_01 _ | omega) hm hE (by first | exact (bZ_t ⟨rfB_0.mp (by omega), if_pos (by omega)⟩).symm | exact (bZ_f (fun q => c29 (rfB_0.mpr q.1))).symm | exact (bZ_f (fun q => by have := q.2; rw [show kAr (T9 0) a = 1 from if_neg (by omega)] at this; omega)).symm) (by first | rfl | ((try rw [sT_sT]); congr 1; unfold kAr; (repeat' split) <;> first | rfl | omega))
    · refine r_aload_n (pc := 24) dX3_canRatify_24 rfl ?_
      refine r_iload_n (pc := 25) dX3_canRatify_25 rfl ?_
      refine r_callV (pc := 26) (kb' := 0) dX3_canRatify_26 kX3_isRefusedRatify q2956 (t_isRefusedRatify hm (by rw [e0]; exact hI) (by first | omega | (simp only [e0]; omega))) hm.1.1 rfl (Nat.le_refl _) (Nat.le_of_ble_eq_true rfl) rfl rfl (Nat.le_of_ble_eq_true rfl) (fun _ _ q => q.elim) (fun _ _ hq => go_T hq (fun h hm1 => ?_))
      have hm := hm.tr hm1
      try simp only [e0]
      obtain ⟨T, e0, hE, hm⟩ := E2.genB e0 hE hm
      try simp only [e0]
      refine r_if_ne (pc := 29) (tgt := 36) dX3_canRatify_29 (by decide) (by first | omega | exact rfB_in _ | exact nz_in _ | exact hm.r _ _) (fun c29 => ?_) (fun c29 => ?_)
      · refine r_iconst (pc := 36) dX3_canRatify_36 ?_
        exact e_retXB (pc := 37) dX3_canRatify_37 rfl (by first | (left; rfl) | (right; rfl) | exact bZ_01 _ | omega) hm hE (by first | exact (bZ_t ⟨rfB_0.mp (by omega), if_pos (by omega)⟩).symm | exact (bZ_f (fun q => c29 (rfB_0.mpr q.1))).symm | exact (bZ_f (fun q => by have := q.2; rw [show kAr (T9 0) a = 1 from if_neg (by omega)] at this; omega)).symm) (by first | rfl | ((try rw [sT_sT]); congr 1; unfold kAr; (repeat' split) <;> first | rfl | omega))
      · refine r_iconst (pc := 32) dX3_canRatify_32 ?_
        refine r_goto (pc := 33) (tgt := 37) dX3_canRatify_33 (by decide) ?_
        exact e_retXB (pc := 37) dX3_canRatify_37 rfl (by first | (left; rfl) | (right; rfl) | exact bZ_01 _ | omega) hm hE (by first | exact (bZ_t ⟨rfB_0.mp (by omega), if_pos (by omega)⟩).symm | exact (bZ_f (fun q => c29 (rfB_0.mpr q.1))).symm | exact (bZ_f (fun q => by have := q.2; rw [show kAr (T9 0) a = 1 from if_neg (by omega)] at this; omega)).symm) (by first | rfl | ((try rw [sT_sT]); congr 1; unfold kAr; (repeat' split) <;> first | rfl | omega))
theorem t_amendedBy {G : Gl} {m : Nat} {ad : Nat → Nat} {h0 h9 : Hp} {T9 : TM} (hm : TI m ad h0 T9 h9) {s a : Int} (hI : RI (T9 0)) (hs : InR s) (ha : InR a) : Ct G 5 0 yX3_amendedBy (Cond.code yX3_amendedBy cX3_amendedBy 3 (some .int)) [.ref m, .int (iZ s), .int (iZ a)] h9 (RX m ad h9 (amZ (T9 0) s a) (T9)) noX := by
  have hm := hm.nw
  obtain ⟨T, e0, hE, hm⟩ : ∃ T : TM, T 0 = T9 0 ∧ E2 T T9 ∧ TI m ad h9 T h9 := ⟨T9, rfl, E2.rf, hm⟩
  have hb := hI.1
  have o9 := fun x => onSh_in (r := T9 0) (s := x) (by omega)
  have p9 : ∀ x, InR (plOf (T9 0) x) := fun x => (fnd_in (N := T9 0 1) (p := fun k => T9 0 (12 + k) = x) (by omega)).2.2
  refine Ct.of (own := eM) (nm := "amendedBy") (by decide +kernel) rfl rfl (L := [some (.ref m), some (.int (iZ s)), some (.int (iZ a))]) rfl (Nat.le_of_ble_eq_true rfl) rfl ?_
  refine r_aload_n (pc := 0) dX3_amendedBy_0 rfl ?_
  refine r_iload_n (pc := 1) dX3_amendedBy_1 rfl ?_
  refine r_iload_n (pc := 2) dX3_amendedBy_2 rfl ?_
  refine r_callV (pc := 3) (kb' := 0) dX3_amendedBy_3 kX3_isRefusedCite q2929 (t_isRefusedCite hm (by rw [e0]; exact hI) (by first | omega | (simp only [e0]; omega)) (by first | omega | (simp only [e0]; omega))) hm.1.1 rfl (Nat.le_refl _) (Nat.le_of_ble_eq_true rfl) rfl rfl (Nat.le_of_ble_eq_true rfl) (fun _ _ q => q.elim) (fun _ _ hq => go_T hq (fun h hm1 => ?_))
  have hm := hm.tr hm1
  try simp only [e0]
  obtain ⟨T, e0, hE, hm⟩ := E2.genB e0 hE hm
  try simp only [e0]
  refine r_if_eq (pc := 6) (tgt := 13) dX3_amendedBy_6 (by decide) (by first | omega | exact rfB_in _ | exact nz_in _ | exact hm.r _ _) (fun c6 => ?_) (fun c6 => ?_)
  · have hr := refCite_n (rfB_0.mp c6)
    have ho := hI.2.1 a (by omega) (by omega)
    unfold artOk at ho
    have hs := hI.2.2.1 s (by omega) (by omega)
    unfold shOk at hs
    have h6 : 0 ≤ apt (T9 0) s a ∧ apt (T9 0) s a ≤ 8 := ap_in (by omega) (by omega)
    refine r_aload_n (pc := 13) dX3_amendedBy_13 rfl ?_
    refine r_iload_n (pc := 14) dX3_amendedBy_14 rfl ?_
    refine r_iconst (pc := 15) dX3_amendedBy_15 ?_
    refine r_callV (pc := 16) (kb' := 0) dX3_amendedBy_16 kX3_av q2815 (t_av hm (by first | omega | (simp only [e0]; omega)) (by first | omega | (simp only [e0]; omega))) hm.1.1 rfl (Nat.le_refl _) (Nat.le_of_ble_eq_true rfl) rfl rfl (Nat.le_of_ble_eq_true rfl) (fun _ _ q => q.elim) (fun _ _ hq => go_E hq ?_)
    try simp only [e0]
    refine r_iconst (pc := 19) dX3_amendedBy_19 ?_
    refine r_aload_n (pc := 20) dX3_amendedBy_20 rfl ?_
    refine r_iload_n (pc := 21) dX3_amendedBy_21 rfl ?_
    refine r_iload_n (pc := 22) dX3_amendedBy_22 rfl ?_
    refine r_callV (pc := 23) (kb' := 0) dX3_amendedBy_23 kX3_apart q2937 (t_apart hm (by rw [e0]; exact hI) (by first | omega | (simp only [e0]; omega)) (by first | omega | (simp only [e0]; omega))) hm.1.1 rfl (Nat.le_refl _) (Nat.le_of_ble_eq_true rfl) rfl rfl (Nat.le_of_ble_eq_true rfl) (fun _ _ q => q.elim) (fun _ _ hq => go_E hq ?_)
    try simp only [e0]
    refine r_isub (pc := 26) dX3_amendedBy_26 ?_
    refine r_callS (pc := 27) (kb' := 0) dX3_amendedBy_27 kX3_least q2949 (t_least (by first | omega | (simp only [e0]; omega)) (by first | omega | (simp only [e0]; omega))) (Nat.le_refl _) (Nat.le_of_ble_eq_true rfl) rfl rfl (Nat.le_of_ble_eq_true rfl) (fun _ _ q => q.elim) (fun _ _ hq => go_E hq ?_)
    try simp only [e0]
    exact e_retX (pc := 30) dX3_amendedBy_30 rfl hm hE (by first | exact (if_pos c6).symm | exact (if_neg c6).symm) rfl
  · refine r_iconst (pc := 9) dX3_amendedBy_9 ?_
    refine r_goto (pc := 10) (tgt := 30) dX3_amendedBy_10 (by decide) ?_
    exact e_retX (pc := 30) dX3_amendedBy_30 rfl hm hE (by first | exact (if_pos c6).symm | exact (if_neg c6).symm) rfl
theorem t_amends {G : Gl} {m : Nat} {ad : Nat → Nat} {h0 h9 : Hp} {T9 : TM} (hm : TI m ad h0 T9 h9) {s a : Int} (hI : RI (T9 0)) (hs : InR s) (ha : InR a) : Ct G 6 0 yX3_amends (Cond.code yX3_amends cX3_amends 3 (some .int)) [.ref m, .int (iZ s), .int (iZ a)] h9 (RX m ad h9 (zAmd (T9 0) s a) (sT T9 5 0 (kAmd (T9 0) s a))) noX := by
  have hm := hm.nw
  obtain ⟨T, e0, hE, hm⟩ : ∃ T : TM, T 0 = T9 0 ∧ E2 T T9 ∧ TI m ad h9 T h9 := ⟨T9, rfl, E2.rf, hm⟩
  have hb := hI.1
  have o9 := fun x => onSh_in (r := T9 0) (s := x) (by omega)
  have p9 : ∀ x, InR (plOf (T9 0) x) := fun x => (fnd_in (N := T9 0 1) (p := fun k => T9 0 (12 + k) = x) (by omega)).2.2
  refine Ct.of (own := eM) (nm := "amends") (by decide +kernel) rfl rfl (L := [some (.ref m), some (.int (iZ s)), some (.int (iZ a))]) rfl (Nat.le_of_ble_eq_true rfl) rfl ?_
  refine r_aload_n (pc := 0) dX3_amends_0 rfl ?_
  refine r_aload_n (pc := 1) dX3_amends_1 rfl ?_
  refine r_iload_n (pc := 2) dX3_amends_2 rfl ?_
  refine r_callV (pc := 3) (kb' := 0) dX3_amends_3 kX3_isShard q2933 (t_isShard hm (by rw [e0]; exact hI) (by first | omega | (simp only [e0]; omega))) hm.1.1 rfl (Nat.le_refl _) (Nat.le_of_ble_eq_true rfl) rfl rfl (Nat.le_of_ble_eq_true rfl) (fun _ _ q => q.elim) (fun _ _ hq => go_E hq ?_)
  try simp only [e0]
  refine r_ifB_eq (pc := 6) (tgt := 21) dX3_amends_6 (by decide) (fun c6 => ?_) (fun c6 => ?_)
  · refine r_iconst (pc := 21) dX3_amends_21 ?_
    refine pX3_25 (pc := 22) dX3_amends_22 hm.1.1 (by decide) (Nat.le_of_ble_eq_true rfl) ?_
    refine t_put 5 rfl hm (by first | omega | exact rfB_in _ | exact nz_in _ | exact hm.r _ _) (fun h hm => ?_)
    obtain ⟨T, e0, hE, hm⟩ := E2.gen e0 hE hm (by decide)
    refine r_aload_n (pc := 25) dX3_amends_25 rfl ?_
    refine gX3_25 (pc := 26) dX3_amends_26 hm.1.1 rfl ?_; have r26 := hm.r 5 0
    refine go_nm (fun z26 e26 => ?_)
    have r26 := InR_of e26 r26
    rw [hE 5 (by decide) (by decide)] at e26; simp only [sT_s] at e26
    refine r_if_le (pc := 29) (tgt := 36) dX3_amends_29 (by decide) (by first | omega | exact rfB_in _ | exact nz_in _ | exact hm.r _ _) (fun c29 => ?_) (fun c29 => ?_)
    · refine r_aload_n (pc := 36) dX3_amends_36 rfl ?_
      refine r_iload_n (pc := 37) dX3_amends_37 rfl ?_
      refine r_iload_n (pc := 38) dX3_amends_38 rfl ?_
      refine r_callV (pc := 39) (kb' := 0) dX3_amends_39 kX3_amendedBy q3064 (t_amendedBy hm (by rw [e0]; exact hI) (by first | omega | (simp only [e0]; omega)) (by first | omega | (simp only [e0]; omega))) hm.1.1 rfl (Nat.le_refl _) (Nat.le_of_ble_eq_true rfl) rfl rfl (Nat.le_of_ble_eq_true rfl) (fun _ _ q => q.elim) (fun _ _ hq => go_X hq ?_)
      try simp only [e0]
      intro T h hE1 hm1
      have e0 := hE1.z.trans e0
      have hm := hm.tr hm1
      have hE := hE1.tr hE
      try simp only [e0]
      exact e_retX (pc := 42) dX3_amends_42 rfl hm hE (by first | exact (if_pos (if_pos (by omega))).symm | exact (if_neg (by rw [show kAmd (T9 0) s a = 1 from if_neg (by omega)]; decide)).symm) (by first | rfl | ((try rw [sT_sT]); congr 1; unfold kAmd; (repeat' split) <;> first | rfl | omega))
    · refine r_iconst (pc := 32) dX3_amends_32 ?_
      refine r_goto (pc := 33) (tgt := 42) dX3_amends_33 (by decide) ?_
      exact e_retX (pc := 42) dX3_amends_42 rfl hm hE (by first | exact (if_pos (if_pos (by omega))).symm | exact (if_neg (by rw [show kAmd (T9 0) s a = 1 from if_neg (by omega)]; decide)).symm) (by first | rfl | ((try rw [sT_sT]); congr 1; unfold kAmd; (repeat' split) <;> first | rfl | omega))
  · refine r_aload_n (pc := 9) dX3_amends_9 rfl ?_
    refine r_iload_n (pc := 10) dX3_amends_10 rfl ?_
    refine r_callV (pc := 11) (kb' := 0) dX3_amends_11 kX3_isArticle q2851 (t_isArticle hm (by rw [e0]; exact hI) (by first | omega | (simp only [e0]; omega))) hm.1.1 rfl (Nat.le_refl _) (Nat.le_of_ble_eq_true rfl) rfl rfl (Nat.le_of_ble_eq_true rfl) (fun _ _ q => q.elim) (fun _ _ hq => go_E hq ?_)
    try simp only [e0]
    refine r_ifB_eq (pc := 14) (tgt := 21) dX3_amends_14 (by decide) (fun c14 => ?_) (fun c14 => ?_)
    · refine r_iconst (pc := 21) dX3_amends_21 ?_
      refine pX3_25 (pc := 22) dX3_amends_22 hm.1.1 (by decide) (Nat.le_of_ble_eq_true rfl) ?_
      refine t_put 5 rfl hm (by first | omega | exact rfB_in _ | exact nz_in _ | exact hm.r _ _) (fun h hm => ?_)
      obtain ⟨T, e0, hE, hm⟩ := E2.gen e0 hE hm (by decide)
      refine r_aload_n (pc := 25) dX3_amends_25 rfl ?_
      refine gX3_25 (pc := 26) dX3_amends_26 hm.1.1 rfl ?_; have r26 := hm.r 5 0
      refine go_nm (fun z26 e26 => ?_)
      have r26 := InR_of e26 r26
      rw [hE 5 (by decide) (by decide)] at e26; simp only [sT_s] at e26
      refine r_if_le (pc := 29) (tgt := 36) dX3_amends_29 (by decide) (by first | omega | exact rfB_in _ | exact nz_in _ | exact hm.r _ _) (fun c29 => ?_) (fun c29 => ?_)
      · refine r_aload_n (pc := 36) dX3_amends_36 rfl ?_
        refine r_iload_n (pc := 37) dX3_amends_37 rfl ?_
        refine r_iload_n (pc := 38) dX3_amends_38 rfl ?_
        refine r_callV (pc := 39) (kb' := 0) dX3_amends_39 kX3_amendedBy q3064 (t_amendedBy hm (by rw [e0]; exact hI) (by first | omega | (simp only [e0]; omega)) (by first | omega | (simp only [e0]; omega))) hm.1.1 rfl (Nat.le_refl _) (Nat.le_of_ble_eq_true rfl) rfl rfl (Nat.le_of_ble_eq_true rfl) (fun _ _ q => q.elim) (fun _ _ hq => go_X hq ?_)
        try simp only [e0]
        intro T h hE1 hm1
        have e0 := hE1.z.trans e0
        have hm := hm.tr hm1
        have hE := hE1.tr hE
        try simp only [e0]
        exact e_retX (pc := 42) dX3_amends_42 rfl hm hE (by first | exact (if_pos (if_pos (by omega))).symm | exact (if_neg (by rw [show kAmd (T9 0) s a = 1 from if_neg (by omega)]; decide)).symm) (by first | rfl | ((try rw [sT_sT]); congr 1; unfold kAmd; (repeat' split) <;> first | rfl | omega))
      · refine r_iconst (pc := 32) dX3_amends_32 ?_
        refine r_goto (pc := 33) (tgt := 42) dX3_amends_33 (by decide) ?_
        exact e_retX (pc := 42) dX3_amends_42 rfl hm hE (by first | exact (if_pos (if_pos (by omega))).symm | exact (if_neg (by rw [show kAmd (T9 0) s a = 1 from if_neg (by omega)]; decide)).symm) (by first | rfl | ((try rw [sT_sT]); congr 1; unfold kAmd; (repeat' split) <;> first | rfl | omega))
    · refine r_iconst (pc := 17) dX3_amends_17 ?_
      refine r_goto (pc := 18) (tgt := 22) dX3_amends_18 (by decide) ?_
      refine pX3_25 (pc := 22) dX3_amends_22 hm.1.1 (by decide) (Nat.le_of_ble_eq_true rfl) ?_
      refine t_put 5 rfl hm (by first | omega | exact rfB_in _ | exact nz_in _ | exact hm.r _ _) (fun h hm => ?_)
      obtain ⟨T, e0, hE, hm⟩ := E2.gen e0 hE hm (by decide)
      refine r_aload_n (pc := 25) dX3_amends_25 rfl ?_
      refine gX3_25 (pc := 26) dX3_amends_26 hm.1.1 rfl ?_; have r26 := hm.r 5 0
      refine go_nm (fun z26 e26 => ?_)
      have r26 := InR_of e26 r26
      rw [hE 5 (by decide) (by decide)] at e26; simp only [sT_s] at e26
      refine r_if_le (pc := 29) (tgt := 36) dX3_amends_29 (by decide) (by first | omega | exact rfB_in _ | exact nz_in _ | exact hm.r _ _) (fun c29 => ?_) (fun c29 => ?_)
      · refine r_aload_n (pc := 36) dX3_amends_36 rfl ?_
        refine r_iload_n (pc := 37) dX3_amends_37 rfl ?_
        refine r_iload_n (pc := 38) dX3_amends_38 rfl ?_
        refine r_callV (pc := 39) (kb' := 0) dX3_amends_39 kX3_amendedBy q3064 (t_amendedBy hm (by rw [e0]; exact hI) (by first | omega | (simp only [e0]; omega)) (by first | omega | (simp only [e0]; omega))) hm.1.1 rfl (Nat.le_refl _) (Nat.le_of_ble_eq_true rfl) rfl rfl (Nat.le_of_ble_eq_true rfl) (fun _ _ q => q.elim) (fun _ _ hq => go_X hq ?_)
        try simp only [e0]
        intro T h hE1 hm1
        have e0 := hE1.z.trans e0
        have hm := hm.tr hm1
        have hE := hE1.tr hE
        try simp only [e0]
        exact e_retX (pc := 42) dX3_amends_42 rfl hm hE (by first | exact (if_pos (if_pos (by omega))).symm | exact (if_neg (by rw [show kAmd (T9 0) s a = 1 from if_neg (by omega)]; decide)).symm) (by first | rfl | ((try rw [sT_sT]); congr 1; unfold kAmd; (repeat' split) <;> first | rfl | omega))
      · refine r_iconst (pc := 32) dX3_amends_32 ?_
        refine r_goto (pc := 33) (tgt := 42) dX3_amends_33 (by decide) ?_
        exact e_retX (pc := 42) dX3_amends_42 rfl hm hE (by first | exact (if_pos (if_pos (by omega))).symm | exact (if_neg (by rw [show kAmd (T9 0) s a = 1 from if_neg (by omega)]; decide)).symm) (by first | rfl | ((try rw [sT_sT]); congr 1; unfold kAmd; (repeat' split) <;> first | rfl | omega))
theorem t_bestFor {G : Gl} {m : Nat} {ad : Nat → Nat} {h0 h9 : Hp} {T9 : TM} (hm : TI m ad h0 T9 h9) {a : Int} (hI : RI (T9 0)) (ha : InR a) : Ct G 6 0 yX3_bestFor (Cond.code yX3_bestFor cX3_bestFor 4 (some .int)) [.ref m, .int (iZ a)] h9 (RX m ad h9 (bfZ (T9 0) a) (T9)) noX := by
  have hm := hm.nw
  obtain ⟨T, e0, hE, hm⟩ : ∃ T : TM, T 0 = T9 0 ∧ E2 T T9 ∧ TI m ad h9 T h9 := ⟨T9, rfl, E2.rf, hm⟩
  have hb := hI.1
  have o9 := fun x => onSh_in (r := T9 0) (s := x) (by omega)
  have p9 : ∀ x, InR (plOf (T9 0) x) := fun x => (fnd_in (N := T9 0 1) (p := fun k => T9 0 (12 + k) = x) (by omega)).2.2
  refine Ct.of (own := eM) (nm := "bestFor") (by decide +kernel) rfl rfl (L := [some (.ref m), some (.int (iZ a)), none, none]) rfl (Nat.le_of_ble_eq_true rfl) rfl ?_
  refine r_iconst (pc := 0) dX3_bestFor_0 ?_
  refine r_istore_n (pc := 1) (L' := [_, _, _, _]) dX3_bestFor_1 rfl ?_
  refine r_iconst (pc := 2) dX3_bestFor_2 ?_
  refine r_istore_n (pc := 3) (L' := [_, _, _, _]) dX3_bestFor_3 rfl ?_
  have loop4 : ∀ (n : Nat) (b z : Int) (h : Hp) (T : TM), TI m ad h9 T h → (0 ≤ z ∧ z ≤ T9 0 2) → b = bfS (T9 0) a z.toNat → T 0 = T9 0 → E2 T T9 → T9 0 2 - z < n → Go G eM cX3_bestFor (4, some .int, "bestFor", []) 6 0 (RX m ad h9 (bfZ (T9 0) a) (T9)) noX 0 h 4 [some (.ref m), some (.int (iZ a)), some (.int (iZ b)), some (.int (iZ z))] [] := by
    intro n
    induction n with
    | zero => intro b z h T hm hz hk e0 hE hn; omega
    | succ n ih4 =>
      intro b z h T hm hz hk e0 hE hn
      have ab := am_in (s := b) (a := a) hI
      have az := am_in (s := z) (a := a) hI
      have x0 : InR (fS (T9 0) b 1) := (by rw [← e0]; exact hm.r 0 _)
      have x1 : InR (fS (T9 0) z 1) := (by rw [← e0]; exact hm.r 0 _)
      have hbf := bf_in (r := T9 0) (a := a) z.toNat
      rw [← hk] at hbf
      refine r_iload_n (pc := 4) dX3_bestFor_4 rfl ?_
      refine r_aload_n (pc := 5) dX3_bestFor_5 rfl ?_
      refine gX3_7 (pc := 6) dX3_bestFor_6 hm.1.1 rfl ?_
      refine r_iconst (pc := 9) dX3_bestFor_9 ?_
      refine t_iald (pc := 10) (lim := 140) 0 dX3_bestFor_10 hm (by decide) rfl (by first | omega | exact rfB_in _ | exact nz_in _ | exact hm.r _ _) (fun r10 => ?_)
      rw [e0] at r10 ⊢
      refine r_icmp_ge (pc := 11) (tgt := 83) dX3_bestFor_11 (by decide) (by first | omega | exact rfB_in _ | exact nz_in _ | exact hm.r _ _) (by first | omega | exact rfB_in _ | exact nz_in _ | exact hm.r _ _) (fun c11 => ?_) (fun c11 => ?_)
      · refine r_iload_n (pc := 83) dX3_bestFor_83 rfl ?_
        exact e_retX (pc := 84) dX3_bestFor_84 rfl hm hE (by rw [hk, show z = T9 0 2 by omega]; rfl) rfl
      · refine r_aload_n (pc := 14) dX3_bestFor_14 rfl ?_
        refine r_iload_n (pc := 15) dX3_bestFor_15 rfl ?_
        refine r_iload_n (pc := 16) dX3_bestFor_16 rfl ?_
        refine r_callV (pc := 17) (kb' := 0) dX3_bestFor_17 kX3_amendedBy q3064 (t_amendedBy hm (by rw [e0]; exact hI) (by first | omega | (simp only [e0]; omega)) (by first | omega | (simp only [e0]; omega))) hm.1.1 rfl (Nat.le_refl _) (Nat.le_of_ble_eq_true rfl) rfl rfl (Nat.le_of_ble_eq_true rfl) (fun _ _ q => q.elim) (fun _ _ hq => go_X hq ?_)
        try simp only [e0]
        intro T h hE1 hm1
        have e0 := hE1.z.trans e0
        have hm := hm.tr hm1
        have hE := hE1.tr hE
        try simp only [e0]
        refine r_if_ne (pc := 20) (tgt := 26) dX3_bestFor_20 (by decide) (by first | omega | exact rfB_in _ | exact nz_in _ | exact hm.r _ _) (fun c20 => ?_) (fun c20 => ?_)
        · refine r_iload_n (pc := 26) dX3_bestFor_26 rfl ?_
          refine r_if_lt (pc := 27) (tgt := 75) dX3_bestFor_27 (by decide) (by first | omega | exact rfB_in _ | exact nz_in _ | exact hm.r _ _) (fun c27 => ?_) (fun c27 => ?_)
          · refine r_iload_n (pc := 75) dX3_bestFor_75 rfl ?_
            refine r_istore_n (pc := 76) (L' := [_, _, _, _]) dX3_bestFor_76 rfl ?_
            refine r_iinc (pc := 77) (L' := [_, _, _, _]) dX3_bestFor_77 rfl rfl ?_
            refine r_goto (pc := 80) (tgt := 4) dX3_bestFor_80 (by decide) ?_
            exact ih4 _ _ _ _ hm (by omega) (by first | exact bf_t hz.1 hk (by omega) | exact bf_f hz.1 hk (by omega)) e0 hE (by omega)
          · refine r_aload_n (pc := 30) dX3_bestFor_30 rfl ?_
            refine r_iload_n (pc := 31) dX3_bestFor_31 rfl ?_
            refine r_iload_n (pc := 32) dX3_bestFor_32 rfl ?_
            refine r_callV (pc := 33) (kb' := 0) dX3_bestFor_33 kX3_amendedBy q3064 (t_amendedBy hm (by rw [e0]; exact hI) (by first | omega | (simp only [e0]; omega)) (by first | omega | (simp only [e0]; omega))) hm.1.1 rfl (Nat.le_refl _) (Nat.le_of_ble_eq_true rfl) rfl rfl (Nat.le_of_ble_eq_true rfl) (fun _ _ q => q.elim) (fun _ _ hq => go_X hq ?_)
            try simp only [e0]
            intro T h hE1 hm1
            have e0 := hE1.z.trans e0
            have hm := hm.tr hm1
            have hE := hE1.tr hE
            try simp only [e0]
            refine r_aload_n (pc := 36) dX3_bestFor_36 rfl ?_
            refine r_iload_n (pc := 37) dX3_bestFor_37 rfl ?_
            refine r_iload_n (pc := 38) dX3_bestFor_38 rfl ?_
            refine r_callV (pc := 39) (kb' := 0) dX3_bestFor_39 kX3_amendedBy q3064 (t_amendedBy hm (by rw [e0]; exact hI) (by first | omega | (simp only [e0]; omega)) (by first | omega | (simp only [e0]; omega))) hm.1.1 rfl (Nat.le_refl _) (Nat.le_of_ble_eq_true rfl) rfl rfl (Nat.le_of_ble_eq_true rfl) (fun _ _ q => q.elim) (fun _ _ hq => go_X hq ?_)
            try simp only [e0]
            intro T h hE1 hm1
            have e0 := hE1.z.trans e0
            have hm := hm.tr hm1
            have hE := hE1.tr hE
            try simp only [e0]
            refine r_icmp_gt (pc := 42) (tgt := 75) dX3_bestFor_42 (by decide) (by first | omega | exact rfB_in _ | exact nz_in _ | exact hm.r _ _) (by first | omega | exact rfB_in _ | exact nz_in _ | exact hm.r _ _) (fun c42 => ?_) (fun c42 => ?_)
            · refine r_iload_n (pc := 75) dX3_bestFor_75 rfl ?_
              refine r_istore_n (pc := 76) (L' := [_, _, _, _]) dX3_bestFor_76 rfl ?_
              refine r_iinc (pc := 77) (L' := [_, _, _, _]) dX3_bestFor_77 rfl rfl ?_
              refine r_goto (pc := 80) (tgt := 4) dX3_bestFor_80 (by decide) ?_
              exact ih4 _ _ _ _ hm (by omega) (by first | exact bf_t hz.1 hk (by omega) | exact bf_f hz.1 hk (by omega)) e0 hE (by omega)
            · refine r_aload_n (pc := 45) dX3_bestFor_45 rfl ?_
              refine r_iload_n (pc := 46) dX3_bestFor_46 rfl ?_
              refine r_iload_n (pc := 47) dX3_bestFor_47 rfl ?_
              refine r_callV (pc := 48) (kb' := 0) dX3_bestFor_48 kX3_amendedBy q3064 (t_amendedBy hm (by rw [e0]; exact hI) (by first | omega | (simp only [e0]; omega)) (by first | omega | (simp only [e0]; omega))) hm.1.1 rfl (Nat.le_refl _) (Nat.le_of_ble_eq_true rfl) rfl rfl (Nat.le_of_ble_eq_true rfl) (fun _ _ q => q.elim) (fun _ _ hq => go_X hq ?_)
              try simp only [e0]
              intro T h hE1 hm1
              have e0 := hE1.z.trans e0
              have hm := hm.tr hm1
              have hE := hE1.tr hE
              try simp only [e0]
              refine r_aload_n (pc := 51) dX3_bestFor_51 rfl ?_
              refine r_iload_n (pc := 52) dX3_bestFor_52 rfl ?_
              refine r_iload_n (pc := 53) dX3_bestFor_53 rfl ?_
              refine r_callV (pc := 54) (kb' := 0) dX3_bestFor_54 kX3_amendedBy q3064 (t_amendedBy hm (by rw [e0]; exact hI) (by first | omega | (simp only [e0]; omega)) (by first | omega | (simp only [e0]; omega))) hm.1.1 rfl (Nat.le_refl _) (Nat.le_of_ble_eq_true rfl) rfl rfl (Nat.le_of_ble_eq_true rfl) (fun _ _ q => q.elim) (fun _ _ hq => go_X hq ?_)
              try simp only [e0]
              intro T h hE1 hm1
              have e0 := hE1.z.trans e0
              have hm := hm.tr hm1
              have hE := hE1.tr hE
              try simp only [e0]
              refine r_icmp_ne (pc := 57) (tgt := 77) dX3_bestFor_57 (by decide) (by first | omega | exact rfB_in _ | exact nz_in _ | exact hm.r _ _) (by first | omega | exact rfB_in _ | exact nz_in _ | exact hm.r _ _) (fun c57 => ?_) (fun c57 => ?_)
              · refine r_iinc (pc := 77) (L' := [_, _, _, _]) dX3_bestFor_77 rfl rfl ?_
                refine r_goto (pc := 80) (tgt := 4) dX3_bestFor_80 (by decide) ?_
                exact ih4 _ _ _ _ hm (by omega) (by first | exact bf_t hz.1 hk (by omega) | exact bf_f hz.1 hk (by omega)) e0 hE (by omega)
              · refine r_aload_n (pc := 60) dX3_bestFor_60 rfl ?_
                refine r_iload_n (pc := 61) dX3_bestFor_61 rfl ?_
                refine r_iconst (pc := 62) dX3_bestFor_62 ?_
                refine r_callV (pc := 63) (kb' := 0) dX3_bestFor_63 kX3_hv q2941 (t_hv hm (by first | omega | (simp only [e0]; omega)) (by first | omega | (simp only [e0]; omega))) hm.1.1 rfl (Nat.le_refl _) (Nat.le_of_ble_eq_true rfl) rfl rfl (Nat.le_of_ble_eq_true rfl) (fun _ _ q => q.elim) (fun _ _ hq => go_E hq ?_)
                try simp only [e0]
                refine r_aload_n (pc := 66) dX3_bestFor_66 rfl ?_
                refine r_iload_n (pc := 67) dX3_bestFor_67 rfl ?_
                refine r_iconst (pc := 68) dX3_bestFor_68 ?_
                refine r_callV (pc := 69) (kb' := 0) dX3_bestFor_69 kX3_hv q2941 (t_hv hm (by first | omega | (simp only [e0]; omega)) (by first | omega | (simp only [e0]; omega))) hm.1.1 rfl (Nat.le_refl _) (Nat.le_of_ble_eq_true rfl) rfl rfl (Nat.le_of_ble_eq_true rfl) (fun _ _ q => q.elim) (fun _ _ hq => go_E hq ?_)
                try simp only [e0]
                refine r_icmp_le (pc := 72) (tgt := 77) dX3_bestFor_72 (by decide) (by first | omega | exact rfB_in _ | exact nz_in _ | exact hm.r _ _) (by first | omega | exact rfB_in _ | exact nz_in _ | exact hm.r _ _) (fun c72 => ?_) (fun c72 => ?_)
                · refine r_iinc (pc := 77) (L' := [_, _, _, _]) dX3_bestFor_77 rfl rfl ?_
                  refine r_goto (pc := 80) (tgt := 4) dX3_bestFor_80 (by decide) ?_
                  exact ih4 _ _ _ _ hm (by omega) (by first | exact bf_t hz.1 hk (by omega) | exact bf_f hz.1 hk (by omega)) e0 hE (by omega)
                · refine r_iload_n (pc := 75) dX3_bestFor_75 rfl ?_
                  refine r_istore_n (pc := 76) (L' := [_, _, _, _]) dX3_bestFor_76 rfl ?_
                  refine r_iinc (pc := 77) (L' := [_, _, _, _]) dX3_bestFor_77 rfl rfl ?_
                  refine r_goto (pc := 80) (tgt := 4) dX3_bestFor_80 (by decide) ?_
                  exact ih4 _ _ _ _ hm (by omega) (by first | exact bf_t hz.1 hk (by omega) | exact bf_f hz.1 hk (by omega)) e0 hE (by omega)
        · refine r_goto (pc := 23) (tgt := 77) dX3_bestFor_23 (by decide) ?_
          refine r_iinc (pc := 77) (L' := [_, _, _, _]) dX3_bestFor_77 rfl rfl ?_
          refine r_goto (pc := 80) (tgt := 4) dX3_bestFor_80 (by decide) ?_
          exact ih4 _ _ _ _ hm (by omega) (by first | exact bf_t hz.1 hk (by omega) | exact bf_f hz.1 hk (by omega)) e0 hE (by omega)
  exact loop4 ((T9 0 2).toNat + 1) _ _ _ _ hm (by omega) rfl e0 hE (by omega)
theorem t_bestShard {G : Gl} {m : Nat} {ad : Nat → Nat} {h0 h9 : Hp} {T9 : TM} (hm : TI m ad h0 T9 h9) {a : Int} (hI : RI (T9 0)) (ha : InR a) : Ct G 7 0 yX3_bestShard (Cond.code yX3_bestShard cX3_bestShard 3 (some .int)) [.ref m, .int (iZ a)] h9 (RX m ad h9 (zBes (T9 0) a) (sT T9 5 0 (kBes (T9 0) a))) noX := by
  have hm := hm.nw
  obtain ⟨T, e0, hE, hm⟩ : ∃ T : TM, T 0 = T9 0 ∧ E2 T T9 ∧ TI m ad h9 T h9 := ⟨T9, rfl, E2.rf, hm⟩
  have hb := hI.1
  have o9 := fun x => onSh_in (r := T9 0) (s := x) (by omega)
  have p9 : ∀ x, InR (plOf (T9 0) x) := fun x => (fnd_in (N := T9 0 1) (p := fun k => T9 0 (12 + k) = x) (by omega)).2.2
  refine Ct.of (own := eM) (nm := "bestShard") (by decide +kernel) rfl rfl (L := [some (.ref m), some (.int (iZ a)), none]) rfl (Nat.le_of_ble_eq_true rfl) rfl ?_
  refine r_aload_n (pc := 0) dX3_bestShard_0 rfl ?_
  refine r_aload_n (pc := 1) dX3_bestShard_1 rfl ?_
  refine r_iload_n (pc := 2) dX3_bestShard_2 rfl ?_
  refine r_callV (pc := 3) (kb' := 0) dX3_bestShard_3 kX3_isArticle q2851 (t_isArticle hm (by rw [e0]; exact hI) (by first | omega | (simp only [e0]; omega))) hm.1.1 rfl (Nat.le_refl _) (Nat.le_of_ble_eq_true rfl) rfl rfl (Nat.le_of_ble_eq_true rfl) (fun _ _ q => q.elim) (fun _ _ hq => go_E hq ?_)
  try simp only [e0]
  refine r_ifB_eq (pc := 6) (tgt := 13) dX3_bestShard_6 (by decide) (fun c6 => ?_) (fun c6 => ?_)
  · refine r_iconst (pc := 13) dX3_bestShard_13 ?_
    refine pX3_25 (pc := 14) dX3_bestShard_14 hm.1.1 (by decide) (Nat.le_of_ble_eq_true rfl) ?_
    refine t_put 5 rfl hm (by first | omega | exact rfB_in _ | exact nz_in _ | exact hm.r _ _) (fun h hm => ?_)
    obtain ⟨T, e0, hE, hm⟩ := E2.gen e0 hE hm (by decide)
    refine r_aload_n (pc := 17) dX3_bestShard_17 rfl ?_
    refine gX3_25 (pc := 18) dX3_bestShard_18 hm.1.1 rfl ?_; have r18 := hm.r 5 0
    refine go_nm (fun z18 e18 => ?_)
    have r18 := InR_of e18 r18
    rw [hE 5 (by decide) (by decide)] at e18; simp only [sT_s] at e18
    refine r_if_le (pc := 21) (tgt := 26) dX3_bestShard_21 (by decide) (by first | omega | exact rfB_in _ | exact nz_in _ | exact hm.r _ _) (fun c21 => ?_) (fun c21 => ?_)
    · refine r_aload_n (pc := 26) dX3_bestShard_26 rfl ?_
      refine r_iload_n (pc := 27) dX3_bestShard_27 rfl ?_
      refine r_callV (pc := 28) (kb' := 0) dX3_bestShard_28 kX3_bestFor q3072 (t_bestFor hm (by rw [e0]; exact hI) (by first | omega | (simp only [e0]; omega))) hm.1.1 rfl (Nat.le_refl _) (Nat.le_of_ble_eq_true rfl) rfl rfl (Nat.le_of_ble_eq_true rfl) (fun _ _ q => q.elim) (fun _ _ hq => go_X hq ?_)
      try simp only [e0]
      intro T h hE1 hm1
      have e0 := hE1.z.trans e0
      have hm := hm.tr hm1
      have hE := hE1.tr hE
      try simp only [e0]
      have hbf := bf_in (r := T9 0) (a := a) (T9 0 2).toNat
      rw [show bfS (T9 0) a (T9 0 2).toNat = bfZ (T9 0) a from rfl] at hbf
      refine r_istore_n (pc := 31) (L' := [_, _, _]) dX3_bestShard_31 rfl ?_
      refine r_iload_n (pc := 32) dX3_bestShard_32 rfl ?_
      refine r_if_ge (pc := 33) (tgt := 44) dX3_bestShard_33 (by decide) (by first | omega | exact rfB_in _ | exact nz_in _ | exact hm.r _ _) (fun c33 => ?_) (fun c33 => ?_)
      · refine r_iload_n (pc := 44) dX3_bestShard_44 rfl ?_
        exact e_retX (pc := 45) dX3_bestShard_45 rfl hm hE (by unfold zBes; (repeat' split) <;> first | rfl | omega) (by first | rfl | ((try rw [sT_sT]); congr 1; unfold kBes; (repeat' split) <;> first | rfl | omega))
      · refine r_aload_n (pc := 36) dX3_bestShard_36 rfl ?_
        refine r_iconst (pc := 37) dX3_bestShard_37 ?_
        refine r_callV (pc := 38) (kb' := 0) dX3_bestShard_38 kX3_no q2823 (t_no hm (by first | omega | (simp only [e0]; omega))) hm.1.1 rfl (Nat.le_refl _) (Nat.le_of_ble_eq_true rfl) rfl rfl (Nat.le_of_ble_eq_true rfl) (fun _ _ q => q.elim) (fun _ _ hq => go_T hq (fun h hm1 => ?_))
        have hm := hm.tr hm1
        obtain ⟨T, e0, hE, hm⟩ := E2.gen e0 hE hm (by decide)
        try simp only [e0]
        refine r_goto (pc := 41) (tgt := 45) dX3_bestShard_41 (by decide) ?_
        exact e_retX (pc := 45) dX3_bestShard_45 rfl hm hE (by unfold zBes; (repeat' split) <;> first | rfl | omega) (by first | rfl | ((try rw [sT_sT]); congr 1; unfold kBes; (repeat' split) <;> first | rfl | omega))
    · refine r_iconst (pc := 24) dX3_bestShard_24 ?_
      exact e_retX (pc := 25) dX3_bestShard_25 rfl hm hE (by unfold zBes; (repeat' split) <;> first | rfl | omega) (by first | rfl | ((try rw [sT_sT]); congr 1; unfold kBes; (repeat' split) <;> first | rfl | omega))
  · refine r_iconst (pc := 9) dX3_bestShard_9 ?_
    refine r_goto (pc := 10) (tgt := 14) dX3_bestShard_10 (by decide) ?_
    refine pX3_25 (pc := 14) dX3_bestShard_14 hm.1.1 (by decide) (Nat.le_of_ble_eq_true rfl) ?_
    refine t_put 5 rfl hm (by first | omega | exact rfB_in _ | exact nz_in _ | exact hm.r _ _) (fun h hm => ?_)
    obtain ⟨T, e0, hE, hm⟩ := E2.gen e0 hE hm (by decide)
    refine r_aload_n (pc := 17) dX3_bestShard_17 rfl ?_
    refine gX3_25 (pc := 18) dX3_bestShard_18 hm.1.1 rfl ?_; have r18 := hm.r 5 0
    refine go_nm (fun z18 e18 => ?_)
    have r18 := InR_of e18 r18
    rw [hE 5 (by decide) (by decide)] at e18; simp only [sT_s] at e18
    refine r_if_le (pc := 21) (tgt := 26) dX3_bestShard_21 (by decide) (by first | omega | exact rfB_in _ | exact nz_in _ | exact hm.r _ _) (fun c21 => ?_) (fun c21 => ?_)
    · refine r_aload_n (pc := 26) dX3_bestShard_26 rfl ?_
      refine r_iload_n (pc := 27) dX3_bestShard_27 rfl ?_
      refine r_callV (pc := 28) (kb' := 0) dX3_bestShard_28 kX3_bestFor q3072 (t_bestFor hm (by rw [e0]; exact hI) (by first | omega | (simp only [e0]; omega))) hm.1.1 rfl (Nat.le_refl _) (Nat.le_of_ble_eq_true rfl) rfl rfl (Nat.le_of_ble_eq_true rfl) (fun _ _ q => q.elim) (fun _ _ hq => go_X hq ?_)
      try simp only [e0]
      intro T h hE1 hm1
      have e0 := hE1.z.trans e0
      have hm := hm.tr hm1
      have hE := hE1.tr hE
      try simp only [e0]
      have hbf := bf_in (r := T9 0) (a := a) (T9 0 2).toNat
      rw [show bfS (T9 0) a (T9 0 2).toNat = bfZ (T9 0) a from rfl] at hbf
      refine r_istore_n (pc := 31) (L' := [_, _, _]) dX3_bestShard_31 rfl ?_
      refine r_iload_n (pc := 32) dX3_bestShard_32 rfl ?_
      refine r_if_ge (pc := 33) (tgt := 44) dX3_bestShard_33 (by decide) (by first | omega | exact rfB_in _ | exact nz_in _ | exact hm.r _ _) (fun c33 => ?_) (fun c33 => ?_)
      · refine r_iload_n (pc := 44) dX3_bestShard_44 rfl ?_
        exact e_retX (pc := 45) dX3_bestShard_45 rfl hm hE (by unfold zBes; (repeat' split) <;> first | rfl | omega) (by first | rfl | ((try rw [sT_sT]); congr 1; unfold kBes; (repeat' split) <;> first | rfl | omega))
      · refine r_aload_n (pc := 36) dX3_bestShard_36 rfl ?_
        refine r_iconst (pc := 37) dX3_bestShard_37 ?_
        refine r_callV (pc := 38) (kb' := 0) dX3_bestShard_38 kX3_no q2823 (t_no hm (by first | omega | (simp only [e0]; omega))) hm.1.1 rfl (Nat.le_refl _) (Nat.le_of_ble_eq_true rfl) rfl rfl (Nat.le_of_ble_eq_true rfl) (fun _ _ q => q.elim) (fun _ _ hq => go_T hq (fun h hm1 => ?_))
        have hm := hm.tr hm1
        obtain ⟨T, e0, hE, hm⟩ := E2.gen e0 hE hm (by decide)
        try simp only [e0]
        refine r_goto (pc := 41) (tgt := 45) dX3_bestShard_41 (by decide) ?_
        exact e_retX (pc := 45) dX3_bestShard_45 rfl hm hE (by unfold zBes; (repeat' split) <;> first | rfl | omega) (by first | rfl | ((try rw [sT_sT]); congr 1; unfold kBes; (repeat' split) <;> first | rfl | omega))
    · refine r_iconst (pc := 24) dX3_bestShard_24 ?_
      exact e_retX (pc := 25) dX3_bestShard_25 rfl hm hE (by unfold zBes; (repeat' split) <;> first | rfl | omega) (by first | rfl | ((try rw [sT_sT]); congr 1; unfold kBes; (repeat' split) <;> first | rfl | omega))
theorem t_precedents {G : Gl} {m : Nat} {ad : Nat → Nat} {h0 h9 : Hp} {T9 : TM} (hm : TI m ad h0 T9 h9) {a : Int} (hI : RI (T9 0)) (ha : InR a) : Ct G 6 0 yX3_precedents (Cond.code yX3_precedents cX3_precedents 4 (some .int)) [.ref m, .int (iZ a)] h9 (RX m ad h9 (zPre (T9 0) a) (sT T9 5 0 (kAr (T9 0) a))) noX := by
  have hm := hm.nw
  obtain ⟨T, e0, hE, hm⟩ : ∃ T : TM, T 0 = T9 0 ∧ E2 T T9 ∧ TI m ad h9 T h9 := ⟨T9, rfl, E2.rf, hm⟩
  have hb := hI.1
  have o9 := fun x => onSh_in (r := T9 0) (s := x) (by omega)
  have p9 : ∀ x, InR (plOf (T9 0) x) := fun x => (fnd_in (N := T9 0 1) (p := fun k => T9 0 (12 + k) = x) (by omega)).2.2
  refine Ct.of (own := eM) (nm := "precedents") (by decide +kernel) rfl rfl (L := [some (.ref m), some (.int (iZ a)), none, none]) rfl (Nat.le_of_ble_eq_true rfl) rfl ?_
  refine r_aload_n (pc := 0) dX3_precedents_0 rfl ?_
  refine r_aload_n (pc := 1) dX3_precedents_1 rfl ?_
  refine r_iload_n (pc := 2) dX3_precedents_2 rfl ?_
  refine r_callV (pc := 3) (kb' := 0) dX3_precedents_3 kX3_isArticle q2851 (t_isArticle hm (by rw [e0]; exact hI) (by first | omega | (simp only [e0]; omega))) hm.1.1 rfl (Nat.le_refl _) (Nat.le_of_ble_eq_true rfl) rfl rfl (Nat.le_of_ble_eq_true rfl) (fun _ _ q => q.elim) (fun _ _ hq => go_E hq ?_)
  try simp only [e0]
  refine r_ifB_eq (pc := 6) (tgt := 13) dX3_precedents_6 (by decide) (fun c6 => ?_) (fun c6 => ?_)
  · refine r_iconst (pc := 13) dX3_precedents_13 ?_
    refine pX3_25 (pc := 14) dX3_precedents_14 hm.1.1 (by decide) (Nat.le_of_ble_eq_true rfl) ?_
    refine t_put 5 rfl hm (by first | omega | exact rfB_in _ | exact nz_in _ | exact hm.r _ _) (fun h hm => ?_)
    obtain ⟨T, e0, hE, hm⟩ := E2.gen e0 hE hm (by decide)
    refine r_iconst (pc := 17) dX3_precedents_17 ?_
    refine r_istore_n (pc := 18) (L' := [_, _, _, _]) dX3_precedents_18 rfl ?_
    refine r_iconst (pc := 19) dX3_precedents_19 ?_
    refine r_istore_n (pc := 20) (L' := [_, _, _, _]) dX3_precedents_20 rfl ?_
    have loop21 : ∀ (n : Nat) (w : Int32) (z : Int) (h : Hp) (T : TM), TI m ad h9 T h → (0 ≤ z ∧ z ≤ T9 0 2) → w = btW (fun s => 0 < amZ (T9 0) s a) z.toNat → (kAr (T9 0) a = 0 ∨ z = 0) → T 0 = T9 0 → E2 T (sT T9 5 0 (kAr (T9 0) a)) → T9 0 2 - z < n → Go G eM cX3_precedents (4, some .int, "precedents", []) 6 0 (RX m ad h9 (zPre (T9 0) a) (sT T9 5 0 (kAr (T9 0) a))) noX 0 h 21 [some (.ref m), some (.int (iZ a)), some (.int w), some (.int (iZ z))] [] := by
      intro n
      induction n with
      | zero => intro w z h T hm hz hw h5 e0 hE hn; omega
      | succ n ih21 =>
        intro w z h T hm hz hw h5 e0 hE hn
        have az := am_in (s := z) (a := a) hI
        have kA : (kAr (T9 0) a = 0 ∧ 0 ≤ a ∧ a ≤ T9 0 0 - 1) ∨ (kAr (T9 0) a = 1 ∧ ¬ (0 ≤ a ∧ a ≤ T9 0 0 - 1)) := (by unfold kAr; split <;> omega)
        refine r_iload_n (pc := 21) dX3_precedents_21 rfl ?_
        refine r_aload_n (pc := 22) dX3_precedents_22 rfl ?_
        refine gX3_7 (pc := 23) dX3_precedents_23 hm.1.1 rfl ?_
        refine r_iconst (pc := 26) dX3_precedents_26 ?_
        refine t_iald (pc := 27) (lim := 140) 0 dX3_precedents_27 hm (by decide) rfl (by first | omega | exact rfB_in _ | exact nz_in _ | exact hm.r _ _) (fun r27 => ?_)
        rw [e0] at r27 ⊢
        refine r_icmp_ge (pc := 28) (tgt := 63) dX3_precedents_28 (by decide) (by first | omega | exact rfB_in _ | exact nz_in _ | exact hm.r _ _) (by first | omega | exact rfB_in _ | exact nz_in _ | exact hm.r _ _) (fun c28 => ?_) (fun c28 => ?_)
        · refine r_iload_n (pc := 63) dX3_precedents_63 rfl ?_
          exact e_retXW (pc := 64) dX3_precedents_64 rfl hm hE (by first | (exfalso; omega) | (rw [show zPre (T9 0) a = btZ (fun s => 0 < amZ (T9 0) s a) (T9 0 2) from if_pos (by omega), hw, show z = T9 0 2 by omega]; exact btZ_e) | (rw [show zPre (T9 0) a = 0 from if_neg (by omega), hw, show z = 0 by omega]; rfl)) (by first | rfl | ((try rw [sT_sT]); congr 1; unfold kAr; (repeat' split) <;> first | rfl | omega))
        · refine r_aload_n (pc := 31) dX3_precedents_31 rfl ?_
          refine gX3_25 (pc := 32) dX3_precedents_32 hm.1.1 rfl ?_; have r32 := hm.r 5 0
          refine go_nm (fun z32 e32 => ?_)
          have r32 := InR_of e32 r32
          rw [hE 5 (by decide) (by decide)] at e32; simp only [sT_s] at e32
          refine r_if_ne (pc := 35) (tgt := 63) dX3_precedents_35 (by decide) (by first | omega | exact rfB_in _ | exact nz_in _ | exact hm.r _ _) (fun c35 => ?_) (fun c35 => ?_)
          · refine r_iload_n (pc := 63) dX3_precedents_63 rfl ?_
            exact e_retXW (pc := 64) dX3_precedents_64 rfl hm hE (by first | (exfalso; omega) | (rw [show zPre (T9 0) a = btZ (fun s => 0 < amZ (T9 0) s a) (T9 0 2) from if_pos (by omega), hw, show z = T9 0 2 by omega]; exact btZ_e) | (rw [show zPre (T9 0) a = 0 from if_neg (by omega), hw, show z = 0 by omega]; rfl)) (by first | rfl | ((try rw [sT_sT]); congr 1; unfold kAr; (repeat' split) <;> first | rfl | omega))
          · refine r_iload_n (pc := 38) dX3_precedents_38 rfl ?_
            refine r_aload_n (pc := 39) dX3_precedents_39 rfl ?_
            refine r_iload_n (pc := 40) dX3_precedents_40 rfl ?_
            refine r_iload_n (pc := 41) dX3_precedents_41 rfl ?_
            refine r_callV (pc := 42) (kb' := 0) dX3_precedents_42 kX3_amendedBy q3064 (t_amendedBy hm (by rw [e0]; exact hI) (by first | omega | (simp only [e0]; omega)) (by first | omega | (simp only [e0]; omega))) hm.1.1 rfl (Nat.le_refl _) (Nat.le_of_ble_eq_true rfl) rfl rfl (Nat.le_of_ble_eq_true rfl) (fun _ _ q => q.elim) (fun _ _ hq => go_X hq ?_)
            try simp only [e0]
            intro T h hE1 hm1
            have e0 := hE1.z.trans e0
            have hm := hm.tr hm1
            have hE := hE1.tr hE
            try simp only [e0]
            refine r_if_le (pc := 45) (tgt := 54) dX3_precedents_45 (by decide) (by first | omega | exact rfB_in _ | exact nz_in _ | exact hm.r _ _) (fun c45 => ?_) (fun c45 => ?_)
            · refine r_iconst (pc := 54) dX3_precedents_54 ?_
              refine q_ior (pc := 55) dX3_precedents_55 ?_
              refine r_istore_n (pc := 56) (L' := [_, _, _, _]) dX3_precedents_56 rfl ?_
              refine r_iinc (pc := 57) (L' := [_, _, _, _]) dX3_precedents_57 rfl rfl ?_
              refine r_goto (pc := 60) (tgt := 21) dX3_precedents_60 (by decide) ?_
              exact ih21 _ _ _ _ hm (by omega) (by first | exact bt_t (p := (fun s => 0 < amZ (T9 0) s a)) hz.1 hw (by omega) | exact bt_f (p := (fun s => 0 < amZ (T9 0) s a)) hz.1 hw (by omega) | (exfalso; omega)) (by first | (exfalso; omega) | exact Or.inl (if_pos (by omega))) e0 hE (by omega)
            · refine r_iconst (pc := 48) dX3_precedents_48 ?_
              refine r_iload_n (pc := 49) dX3_precedents_49 rfl ?_
              refine q_ishl (pc := 50) dX3_precedents_50 ?_
              refine r_goto (pc := 51) (tgt := 55) dX3_precedents_51 (by decide) ?_
              refine q_ior (pc := 55) dX3_precedents_55 ?_
              refine r_istore_n (pc := 56) (L' := [_, _, _, _]) dX3_precedents_56 rfl ?_
              refine r_iinc (pc := 57) (L' := [_, _, _, _]) dX3_precedents_57 rfl rfl ?_
              refine r_goto (pc := 60) (tgt := 21) dX3_precedents_60 (by decide) ?_
              exact ih21 _ _ _ _ hm (by omega) (by first | exact bt_t (p := (fun s => 0 < amZ (T9 0) s a)) hz.1 hw (by omega) | exact bt_f (p := (fun s => 0 < amZ (T9 0) s a)) hz.1 hw (by omega) | (exfalso; omega)) (by first | (exfalso; omega) | exact Or.inl (if_pos (by omega))) e0 hE (by omega)
    exact loop21 ((T9 0 2).toNat + 1) _ _ _ _ hm (by omega) rfl (Or.inr rfl) e0 (by first | (rw [show kAr (T9 0) a = 0 from if_pos (by omega)]; exact hE) | (rw [show kAr (T9 0) a = 1 from if_neg (by omega)]; exact hE)) (by omega)
  · refine r_iconst (pc := 9) dX3_precedents_9 ?_
    refine r_goto (pc := 10) (tgt := 14) dX3_precedents_10 (by decide) ?_
    refine pX3_25 (pc := 14) dX3_precedents_14 hm.1.1 (by decide) (Nat.le_of_ble_eq_true rfl) ?_
    refine t_put 5 rfl hm (by first | omega | exact rfB_in _ | exact nz_in _ | exact hm.r _ _) (fun h hm => ?_)
    obtain ⟨T, e0, hE, hm⟩ := E2.gen e0 hE hm (by decide)
    refine r_iconst (pc := 17) dX3_precedents_17 ?_
    refine r_istore_n (pc := 18) (L' := [_, _, _, _]) dX3_precedents_18 rfl ?_
    refine r_iconst (pc := 19) dX3_precedents_19 ?_
    refine r_istore_n (pc := 20) (L' := [_, _, _, _]) dX3_precedents_20 rfl ?_
    have loop21 : ∀ (n : Nat) (w : Int32) (z : Int) (h : Hp) (T : TM), TI m ad h9 T h → (0 ≤ z ∧ z ≤ T9 0 2) → w = btW (fun s => 0 < amZ (T9 0) s a) z.toNat → (kAr (T9 0) a = 0 ∨ z = 0) → T 0 = T9 0 → E2 T (sT T9 5 0 (kAr (T9 0) a)) → T9 0 2 - z < n → Go G eM cX3_precedents (4, some .int, "precedents", []) 6 0 (RX m ad h9 (zPre (T9 0) a) (sT T9 5 0 (kAr (T9 0) a))) noX 0 h 21 [some (.ref m), some (.int (iZ a)), some (.int w), some (.int (iZ z))] [] := by
      intro n
      induction n with
      | zero => intro w z h T hm hz hw h5 e0 hE hn; omega
      | succ n ih21 =>
        intro w z h T hm hz hw h5 e0 hE hn
        have az := am_in (s := z) (a := a) hI
        have kA : (kAr (T9 0) a = 0 ∧ 0 ≤ a ∧ a ≤ T9 0 0 - 1) ∨ (kAr (T9 0) a = 1 ∧ ¬ (0 ≤ a ∧ a ≤ T9 0 0 - 1)) := (by unfold kAr; split <;> omega)
        refine r_iload_n (pc := 21) dX3_precedents_21 rfl ?_
        refine r_aload_n (pc := 22) dX3_precedents_22 rfl ?_
        refine gX3_7 (pc := 23) dX3_precedents_23 hm.1.1 rfl ?_
        refine r_iconst (pc := 26) dX3_precedents_26 ?_
        refine t_iald (pc := 27) (lim := 140) 0 dX3_precedents_27 hm (by decide) rfl (by first | omega | exact rfB_in _ | exact nz_in _ | exact hm.r _ _) (fun r27 => ?_)
        rw [e0] at r27 ⊢
        refine r_icmp_ge (pc := 28) (tgt := 63) dX3_precedents_28 (by decide) (by first | omega | exact rfB_in _ | exact nz_in _ | exact hm.r _ _) (by first | omega | exact rfB_in _ | exact nz_in _ | exact hm.r _ _) (fun c28 => ?_) (fun c28 => ?_)
        · refine r_iload_n (pc := 63) dX3_precedents_63 rfl ?_
          exact e_retXW (pc := 64) dX3_precedents_64 rfl hm hE (by first | (exfalso; omega) | (rw [show zPre (T9 0) a = btZ (fun s => 0 < amZ (T9 0) s a) (T9 0 2) from if_pos (by omega), hw, show z = T9 0 2 by omega]; exact btZ_e) | (rw [show zPre (T9 0) a = 0 from if_neg (by omega), hw, show z = 0 by omega]; rfl)) (by first | rfl | ((try rw [sT_sT]); congr 1; unfold kAr; (repeat' split) <;> first | rfl | omega))
        · refine r_aload_n (pc := 31) dX3_precedents_31 rfl ?_
          refine gX3_25 (pc := 32) dX3_precedents_32 hm.1.1 rfl ?_; have r32 := hm.r 5 0
          refine go_nm (fun z32 e32 => ?_)
          have r32 := InR_of e32 r32
          rw [hE 5 (by decide) (by decide)] at e32; simp only [sT_s] at e32
          refine r_if_ne (pc := 35) (tgt := 63) dX3_precedents_35 (by decide) (by first | omega | exact rfB_in _ | exact nz_in _ | exact hm.r _ _) (fun c35 => ?_) (fun c35 => ?_)
          · refine r_iload_n (pc := 63) dX3_precedents_63 rfl ?_
            exact e_retXW (pc := 64) dX3_precedents_64 rfl hm hE (by first | (exfalso; omega) | (rw [show zPre (T9 0) a = btZ (fun s => 0 < amZ (T9 0) s a) (T9 0 2) from if_pos (by omega), hw, show z = T9 0 2 by omega]; exact btZ_e) | (rw [show zPre (T9 0) a = 0 from if_neg (by omega), hw, show z = 0 by omega]; rfl)) (by first | rfl | ((try rw [sT_sT]); congr 1; unfold kAr; (repeat' split) <;> first | rfl | omega))
          · refine r_iload_n (pc := 38) dX3_precedents_38 rfl ?_
            refine r_aload_n (pc := 39) dX3_precedents_39 rfl ?_
            refine r_iload_n (pc := 40) dX3_precedents_40 rfl ?_
            refine r_iload_n (pc := 41) dX3_precedents_41 rfl ?_
            refine r_callV (pc := 42) (kb' := 0) dX3_precedents_42 kX3_amendedBy q3064 (t_amendedBy hm (by rw [e0]; exact hI) (by first | omega | (simp only [e0]; omega)) (by first | omega | (simp only [e0]; omega))) hm.1.1 rfl (Nat.le_refl _) (Nat.le_of_ble_eq_true rfl) rfl rfl (Nat.le_of_ble_eq_true rfl) (fun _ _ q => q.elim) (fun _ _ hq => go_X hq ?_)
            try simp only [e0]
            intro T h hE1 hm1
            have e0 := hE1.z.trans e0
            have hm := hm.tr hm1
            have hE := hE1.tr hE
            try simp only [e0]
            refine r_if_le (pc := 45) (tgt := 54) dX3_precedents_45 (by decide) (by first | omega | exact rfB_in _ | exact nz_in _ | exact hm.r _ _) (fun c45 => ?_) (fun c45 => ?_)
            · refine r_iconst (pc := 54) dX3_precedents_54 ?_
              refine q_ior (pc := 55) dX3_precedents_55 ?_
              refine r_istore_n (pc := 56) (L' := [_, _, _, _]) dX3_precedents_56 rfl ?_
              refine r_iinc (pc := 57) (L' := [_, _, _, _]) dX3_precedents_57 rfl rfl ?_
              refine r_goto (pc := 60) (tgt := 21) dX3_precedents_60 (by decide) ?_
              exact ih21 _ _ _ _ hm (by omega) (by first | exact bt_t (p := (fun s => 0 < amZ (T9 0) s a)) hz.1 hw (by omega) | exact bt_f (p := (fun s => 0 < amZ (T9 0) s a)) hz.1 hw (by omega) | (exfalso; omega)) (by first | (exfalso; omega) | exact Or.inl (if_pos (by omega))) e0 hE (by omega)
            · refine r_iconst (pc := 48) dX3_precedents_48 ?_
              refine r_iload_n (pc := 49) dX3_precedents_49 rfl ?_
              refine q_ishl (pc := 50) dX3_precedents_50 ?_
              refine r_goto (pc := 51) (tgt := 55) dX3_precedents_51 (by decide) ?_
              refine q_ior (pc := 55) dX3_precedents_55 ?_
              refine r_istore_n (pc := 56) (L' := [_, _, _, _]) dX3_precedents_56 rfl ?_
              refine r_iinc (pc := 57) (L' := [_, _, _, _]) dX3_precedents_57 rfl rfl ?_
              refine r_goto (pc := 60) (tgt := 21) dX3_precedents_60 (by decide) ?_
              exact ih21 _ _ _ _ hm (by omega) (by first | exact bt_t (p := (fun s => 0 < amZ (T9 0) s a)) hz.1 hw (by omega) | exact bt_f (p := (fun s => 0 < amZ (T9 0) s a)) hz.1 hw (by omega) | (exfalso; omega)) (by first | (exfalso; omega) | exact Or.inl (if_pos (by omega))) e0 hE (by omega)
    exact loop21 ((T9 0 2).toNat + 1) _ _ _ _ hm (by omega) rfl (Or.inr rfl) e0 (by first | (rw [show kAr (T9 0) a = 0 from if_pos (by omega)]; exact hE) | (rw [show kAr (T9 0) a = 1 from if_neg (by omega)]; exact hE)) (by omega)
