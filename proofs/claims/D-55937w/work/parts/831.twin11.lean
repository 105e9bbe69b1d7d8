set_option maxRecDepth 100000
theorem t_articleOf {G : Gl} {m : Nat} {ad : Nat → Nat} {h0 h9 : Hp} {T : TM} (hm : TI m ad h0 T h9) {a w : Int} (hI : RI (T 0)) (ha : InR a) (hw : InR w) : Ct G 3 0 yX3_articleOf (Cond.code yX3_articleOf cX3_articleOf 3 (some .int)) [.ref m, .int (iZ a), .int (iZ w)] h9 (RT m ad h9 (zArt (T 0) a w) (sT T 5 0 (kArt (T 0) a w))) noX := by
  have hm := hm.nw
  have hb := hI.1
  have o9 := fun x => onSh_in (r := T 0) (s := x) (by omega)
  have p9 : ∀ x, InR (plOf (T 0) x) := fun x => (fnd_in (N := T 0 1) (p := fun k => T 0 (12 + k) = x) (by omega)).2.2
  refine Ct.of (own := eM) (nm := "articleOf") (by decide +kernel) rfl rfl (L := [some (.ref m), some (.int (iZ a)), some (.int (iZ w))]) rfl (Nat.le_of_ble_eq_true rfl) rfl ?_
  refine r_aload_n (pc := 0) dX3_articleOf_0 rfl ?_
  refine r_iconst (pc := 1) dX3_articleOf_1 ?_
  refine pX3_25 (pc := 2) dX3_articleOf_2 hm.1.1 (by decide) (Nat.le_of_ble_eq_true rfl) ?_
  refine t_put 5 rfl hm (by first | omega | exact rfB_in _ | exact nz_in _ | exact hm.r _ _) (fun h hm => ?_)
  refine r_aload_n (pc := 5) dX3_articleOf_5 rfl ?_
  refine r_iload_n (pc := 6) dX3_articleOf_6 rfl ?_
  refine r_callV (pc := 7) (kb' := 0) dX3_articleOf_7 kX3_isArticle q2851 (t_isArticle hm (by first | exact hI | (rw [th0]; exact hI)) (by first | omega | (simp only [th0]; omega))) hm.1.1 rfl (Nat.le_refl _) (Nat.le_of_ble_eq_true rfl) rfl rfl (Nat.le_of_ble_eq_true rfl) (fun _ _ q => q.elim) (fun _ _ hq => go_E hq ?_)
  try simp only [th0]
  refine r_ifB_ne (pc := 10) (tgt := 19) dX3_articleOf_10 (by decide) (fun c10 => ?_) (fun c10 => ?_)
  · have ho := hI.2.1 a (by omega) (by omega)
    unfold artOk at ho
    refine r_iload_n (pc := 19) dX3_articleOf_19 rfl ?_
    by_cases w20_0 : w = 0
    · refine r_tableIn (pc := 20) (off := 48) (tgt := 68) dX3_articleOf_20 (by omega) (by omega) (by omega) (by rw [w20_0]; rfl) (by decide) ?_
      refine r_aload_n (pc := 68) dX3_articleOf_68 rfl ?_
      refine r_iload_n (pc := 69) dX3_articleOf_69 rfl ?_
      refine r_iconst (pc := 70) dX3_articleOf_70 ?_
      refine r_callV (pc := 71) (kb' := 0) dX3_articleOf_71 kX3_av q2815 (t_av hm (by first | omega | (simp only [th0]; omega)) (by first | omega | (simp only [th0]; omega))) hm.1.1 rfl (Nat.le_refl _) (Nat.le_of_ble_eq_true rfl) rfl rfl (Nat.le_of_ble_eq_true rfl) (fun _ _ q => q.elim) (fun _ _ hq => go_E hq ?_)
      try simp only [th0]
      exact e_retT (pc := 74) dX3_articleOf_74 rfl hm (by unfold zArt; (repeat' split) <;> first | rfl | omega) (by first | (rw [sT_sT]; congr 1; unfold kArt; (repeat' split) <;> first | rfl | omega) | (congr 1; unfold kArt; (repeat' split) <;> first | rfl | omega))
    by_cases w20_1 : w = 1
    · refine r_tableIn (pc := 20) (off := 55) (tgt := 75) dX3_articleOf_20 (by omega) (by omega) (by omega) (by rw [w20_1]; rfl) (by decide) ?_
      refine r_aload_n (pc := 75) dX3_articleOf_75 rfl ?_
      refine r_iload_n (pc := 76) dX3_articleOf_76 rfl ?_
      refine r_iconst (pc := 77) dX3_articleOf_77 ?_
      refine r_callV (pc := 78) (kb' := 0) dX3_articleOf_78 kX3_av q2815 (t_av hm (by first | omega | (simp only [th0]; omega)) (by first | omega | (simp only [th0]; omega))) hm.1.1 rfl (Nat.le_refl _) (Nat.le_of_ble_eq_true rfl) rfl rfl (Nat.le_of_ble_eq_true rfl) (fun _ _ q => q.elim) (fun _ _ hq => go_E hq ?_)
      try simp only [th0]
      exact e_retT (pc := 81) dX3_articleOf_81 rfl hm (by unfold zArt; (repeat' split) <;> first | rfl | omega) (by first | (rw [sT_sT]; congr 1; unfold kArt; (repeat' split) <;> first | rfl | omega) | (congr 1; unfold kArt; (repeat' split) <;> first | rfl | omega))
    by_cases w20_2 : w = 2
    · refine r_tableIn (pc := 20) (off := 62) (tgt := 82) dX3_articleOf_20 (by omega) (by omega) (by omega) (by rw [w20_2]; rfl) (by decide) ?_
      refine r_aload_n (pc := 82) dX3_articleOf_82 rfl ?_
      refine r_iload_n (pc := 83) dX3_articleOf_83 rfl ?_
      refine r_iconst (pc := 84) dX3_articleOf_84 ?_
      refine r_callV (pc := 85) (kb' := 0) dX3_articleOf_85 kX3_av q2815 (t_av hm (by first | omega | (simp only [th0]; omega)) (by first | omega | (simp only [th0]; omega))) hm.1.1 rfl (Nat.le_refl _) (Nat.le_of_ble_eq_true rfl) rfl rfl (Nat.le_of_ble_eq_true rfl) (fun _ _ q => q.elim) (fun _ _ hq => go_E hq ?_)
      try simp only [th0]
      exact e_retT (pc := 88) dX3_articleOf_88 rfl hm (by unfold zArt; (repeat' split) <;> first | rfl | omega) (by first | (rw [sT_sT]; congr 1; unfold kArt; (repeat' split) <;> first | rfl | omega) | (congr 1; unfold kArt; (repeat' split) <;> first | rfl | omega))
    by_cases w20_3 : w = 3
    · refine r_tableIn (pc := 20) (off := 69) (tgt := 89) dX3_articleOf_20 (by omega) (by omega) (by omega) (by rw [w20_3]; rfl) (by decide) ?_
      refine r_aload_n (pc := 89) dX3_articleOf_89 rfl ?_
      refine r_iload_n (pc := 90) dX3_articleOf_90 rfl ?_
      refine r_iconst (pc := 91) dX3_articleOf_91 ?_
      refine r_callV (pc := 92) (kb' := 0) dX3_articleOf_92 kX3_av q2815 (t_av hm (by first | omega | (simp only [th0]; omega)) (by first | omega | (simp only [th0]; omega))) hm.1.1 rfl (Nat.le_refl _) (Nat.le_of_ble_eq_true rfl) rfl rfl (Nat.le_of_ble_eq_true rfl) (fun _ _ q => q.elim) (fun _ _ hq => go_E hq ?_)
      try simp only [th0]
      exact e_retT (pc := 95) dX3_articleOf_95 rfl hm (by unfold zArt; (repeat' split) <;> first | rfl | omega) (by first | (rw [sT_sT]; congr 1; unfold kArt; (repeat' split) <;> first | rfl | omega) | (congr 1; unfold kArt; (repeat' split) <;> first | rfl | omega))
    by_cases w20_4 : w = 4
    · refine r_tableIn (pc := 20) (off := 76) (tgt := 96) dX3_articleOf_20 (by omega) (by omega) (by omega) (by rw [w20_4]; rfl) (by decide) ?_
      refine r_aload_n (pc := 96) dX3_articleOf_96 rfl ?_
      refine r_iload_n (pc := 97) dX3_articleOf_97 rfl ?_
      refine r_iconst (pc := 98) dX3_articleOf_98 ?_
      refine r_callV (pc := 99) (kb' := 0) dX3_articleOf_99 kX3_av q2815 (t_av hm (by first | omega | (simp only [th0]; omega)) (by first | omega | (simp only [th0]; omega))) hm.1.1 rfl (Nat.le_refl _) (Nat.le_of_ble_eq_true rfl) rfl rfl (Nat.le_of_ble_eq_true rfl) (fun _ _ q => q.elim) (fun _ _ hq => go_E hq ?_)
      try simp only [th0]
      exact e_retT (pc := 102) dX3_articleOf_102 rfl hm (by unfold zArt; (repeat' split) <;> first | rfl | omega) (by first | (rw [sT_sT]; congr 1; unfold kArt; (repeat' split) <;> first | rfl | omega) | (congr 1; unfold kArt; (repeat' split) <;> first | rfl | omega))
    by_cases w20_5 : w = 5
    · refine r_tableIn (pc := 20) (off := 83) (tgt := 103) dX3_articleOf_20 (by omega) (by omega) (by omega) (by rw [w20_5]; rfl) (by decide) ?_
      refine r_aload_n (pc := 103) dX3_articleOf_103 rfl ?_
      refine r_iload_n (pc := 104) dX3_articleOf_104 rfl ?_
      refine r_callV (pc := 105) (kb' := 0) dX3_articleOf_105 kX3_placeOf q2859 (t_placeOf hm (by first | exact hI | (rw [th0]; exact hI)) (by first | omega | (simp only [th0]; omega))) hm.1.1 rfl (Nat.le_refl _) (Nat.le_of_ble_eq_true rfl) rfl rfl (Nat.le_of_ble_eq_true rfl) (fun _ _ q => q.elim) (fun _ _ hq => go_E hq ?_)
      try simp only [th0]
      exact e_retT (pc := 108) dX3_articleOf_108 rfl hm (by unfold zArt; (repeat' split) <;> first | rfl | omega) (by first | (rw [sT_sT]; congr 1; unfold kArt; (repeat' split) <;> first | rfl | omega) | (congr 1; unfold kArt; (repeat' split) <;> first | rfl | omega))
    by_cases w20_6 : w = 6
    · refine r_tableIn (pc := 20) (off := 89) (tgt := 109) dX3_articleOf_20 (by omega) (by omega) (by omega) (by rw [w20_6]; rfl) (by decide) ?_
      refine r_aload_n (pc := 109) dX3_articleOf_109 rfl ?_
      refine r_iload_n (pc := 110) dX3_articleOf_110 rfl ?_
      refine r_callV (pc := 111) (kb' := 0) dX3_articleOf_111 kX3_limitOf q2905 (t_limitOf hm (by first | exact hI | (rw [th0]; exact hI)) (by first | omega | (simp only [th0]; omega))) hm.1.1 rfl (Nat.le_refl _) (Nat.le_of_ble_eq_true rfl) rfl rfl (Nat.le_of_ble_eq_true rfl) (fun _ _ q => q.elim) (fun _ _ hq => go_E hq ?_)
      try simp only [th0]
      exact e_retT (pc := 114) dX3_articleOf_114 rfl hm (by unfold zArt; (repeat' split) <;> first | rfl | omega) (by first | (rw [sT_sT]; congr 1; unfold kArt; (repeat' split) <;> first | rfl | omega) | (congr 1; unfold kArt; (repeat' split) <;> first | rfl | omega))
    by_cases w20_7 : w = 7
    · refine r_tableIn (pc := 20) (off := 95) (tgt := 115) dX3_articleOf_20 (by omega) (by omega) (by omega) (by rw [w20_7]; rfl) (by decide) ?_
      refine r_aload_n (pc := 115) dX3_articleOf_115 rfl ?_
      refine r_iload_n (pc := 116) dX3_articleOf_116 rfl ?_
      refine r_iconst (pc := 117) dX3_articleOf_117 ?_
      refine r_callV (pc := 118) (kb' := 0) dX3_articleOf_118 kX3_av q2815 (t_av hm (by first | omega | (simp only [th0]; omega)) (by first | omega | (simp only [th0]; omega))) hm.1.1 rfl (Nat.le_refl _) (Nat.le_of_ble_eq_true rfl) rfl rfl (Nat.le_of_ble_eq_true rfl) (fun _ _ q => q.elim) (fun _ _ hq => go_E hq ?_)
      try simp only [th0]
      exact e_retT (pc := 121) dX3_articleOf_121 rfl hm (by unfold zArt; (repeat' split) <;> first | rfl | omega) (by first | (rw [sT_sT]; congr 1; unfold kArt; (repeat' split) <;> first | rfl | omega) | (congr 1; unfold kArt; (repeat' split) <;> first | rfl | omega))
    refine r_tableOut (pc := 20) (tgt := 122) dX3_articleOf_20 (by first | omega | exact rfB_in _ | exact nz_in _ | exact hm.r _ _) (by omega) (by decide) ?_
    refine r_aload_n (pc := 122) dX3_articleOf_122 rfl ?_
    refine r_iconst (pc := 123) dX3_articleOf_123 ?_
    refine r_callV (pc := 124) (kb' := 0) dX3_articleOf_124 kX3_no q2823 (t_no hm (by first | omega | (simp only [th0]; omega))) hm.1.1 rfl (Nat.le_refl _) (Nat.le_of_ble_eq_true rfl) rfl rfl (Nat.le_of_ble_eq_true rfl) (fun _ _ q => q.elim) (fun _ _ hq => go_T hq (fun h hm1 => ?_))
    have hm := hm.tr hm1
    try simp only [th0]
    exact e_retT (pc := 127) dX3_articleOf_127 rfl hm (by unfold zArt; (repeat' split) <;> first | rfl | omega) (by first | (rw [sT_sT]; congr 1; unfold kArt; (repeat' split) <;> first | rfl | omega) | (congr 1; unfold kArt; (repeat' split) <;> first | rfl | omega))
  · refine r_aload_n (pc := 13) dX3_articleOf_13 rfl ?_
    refine r_iconst (pc := 14) dX3_articleOf_14 ?_
    refine r_callV (pc := 15) (kb' := 0) dX3_articleOf_15 kX3_no q2823 (t_no hm (by first | omega | (simp only [th0]; omega))) hm.1.1 rfl (Nat.le_refl _) (Nat.le_of_ble_eq_true rfl) rfl rfl (Nat.le_of_ble_eq_true rfl) (fun _ _ q => q.elim) (fun _ _ hq => go_T hq (fun h hm1 => ?_))
    have hm := hm.tr hm1
    try simp only [th0]
    exact e_retT (pc := 18) dX3_articleOf_18 rfl hm (by unfold zArt; (repeat' split) <;> first | rfl | omega) (by first | (rw [sT_sT]; congr 1; unfold kArt; (repeat' split) <;> first | rfl | omega) | (congr 1; unfold kArt; (repeat' split) <;> first | rfl | omega))
theorem t_shardOf {G : Gl} {m : Nat} {ad : Nat → Nat} {h0 h9 : Hp} {T : TM} (hm : TI m ad h0 T h9) {s w : Int} (hI : RI (T 0)) (hs : InR s) (hw : InR w) : Ct G 3 0 yX3_shardOf (Cond.code yX3_shardOf cX3_shardOf 3 (some .int)) [.ref m, .int (iZ s), .int (iZ w)] h9 (RT m ad h9 (zShd (T 0) s w) (sT T 5 0 (kShd (T 0) s w))) noX := by
  have hm := hm.nw
  have hb := hI.1
  have o9 := fun x => onSh_in (r := T 0) (s := x) (by omega)
  have p9 : ∀ x, InR (plOf (T 0) x) := fun x => (fnd_in (N := T 0 1) (p := fun k => T 0 (12 + k) = x) (by omega)).2.2
  refine Ct.of (own := eM) (nm := "shardOf") (by decide +kernel) rfl rfl (L := [some (.ref m), some (.int (iZ s)), some (.int (iZ w))]) rfl (Nat.le_of_ble_eq_true rfl) rfl ?_
  refine r_aload_n (pc := 0) dX3_shardOf_0 rfl ?_
  refine r_iconst (pc := 1) dX3_shardOf_1 ?_
  refine pX3_25 (pc := 2) dX3_shardOf_2 hm.1.1 (by decide) (Nat.le_of_ble_eq_true rfl) ?_
  refine t_put 5 rfl hm (by first | omega | exact rfB_in _ | exact nz_in _ | exact hm.r _ _) (fun h hm => ?_)
  refine r_aload_n (pc := 5) dX3_shardOf_5 rfl ?_
  refine r_iload_n (pc := 6) dX3_shardOf_6 rfl ?_
  refine r_callV (pc := 7) (kb' := 0) dX3_shardOf_7 kX3_isShard q2933 (t_isShard hm (by first | exact hI | (rw [th0]; exact hI)) (by first | omega | (simp only [th0]; omega))) hm.1.1 rfl (Nat.le_refl _) (Nat.le_of_ble_eq_true rfl) rfl rfl (Nat.le_of_ble_eq_true rfl) (fun _ _ q => q.elim) (fun _ _ hq => go_E hq ?_)
  try simp only [th0]
  refine r_ifB_ne (pc := 10) (tgt := 19) dX3_shardOf_10 (by decide) (fun c10 => ?_) (fun c10 => ?_)
  · refine r_iload_n (pc := 19) dX3_shardOf_19 rfl ?_
    refine r_iconst (pc := 20) dX3_shardOf_20 ?_
    refine r_iconst (pc := 21) dX3_shardOf_21 ?_
    refine r_callS (pc := 22) (kb' := 0) dX3_shardOf_22 kX3_in q2794 (t_in (by first | omega | (simp only [th0]; omega)) (by first | omega | (simp only [th0]; omega)) (by first | omega | (simp only [th0]; omega))) (Nat.le_refl _) (Nat.le_of_ble_eq_true rfl) rfl rfl (Nat.le_of_ble_eq_true rfl) (fun _ _ q => q.elim) (fun _ _ hq => go_E hq ?_)
    try simp only [th0]
    refine r_ifB_eq (pc := 25) (tgt := 37) dX3_shardOf_25 (by decide) (fun c25 => ?_) (fun c25 => ?_)
    · refine r_aload_n (pc := 37) dX3_shardOf_37 rfl ?_
      refine r_iconst (pc := 38) dX3_shardOf_38 ?_
      refine r_callV (pc := 39) (kb' := 0) dX3_shardOf_39 kX3_no q2823 (t_no hm (by first | omega | (simp only [th0]; omega))) hm.1.1 rfl (Nat.le_refl _) (Nat.le_of_ble_eq_true rfl) rfl rfl (Nat.le_of_ble_eq_true rfl) (fun _ _ q => q.elim) (fun _ _ hq => go_T hq (fun h hm1 => ?_))
      have hm := hm.tr hm1
      try simp only [th0]
      exact e_retT (pc := 42) dX3_shardOf_42 rfl hm (by unfold zShd kShd; (repeat' split) <;> first | rfl | omega) (by first | (rw [sT_sT]; congr 1; unfold kShd; (repeat' split) <;> first | rfl | omega) | (congr 1; unfold kShd; (repeat' split) <;> first | rfl | omega))
    · refine r_aload_n (pc := 28) dX3_shardOf_28 rfl ?_
      refine r_iload_n (pc := 29) dX3_shardOf_29 rfl ?_
      refine r_iload_n (pc := 30) dX3_shardOf_30 rfl ?_
      refine r_callV (pc := 31) (kb' := 0) dX3_shardOf_31 kX3_hv q2941 (t_hv hm (by first | omega | (simp only [th0]; omega)) (by first | omega | (simp only [th0]; omega))) hm.1.1 rfl (Nat.le_refl _) (Nat.le_of_ble_eq_true rfl) rfl rfl (Nat.le_of_ble_eq_true rfl) (fun _ _ q => q.elim) (fun _ _ hq => go_E hq ?_)
      try simp only [th0]
      refine r_goto (pc := 34) (tgt := 42) dX3_shardOf_34 (by decide) ?_
      exact e_retT (pc := 42) dX3_shardOf_42 rfl hm (by unfold zShd kShd; (repeat' split) <;> first | rfl | omega) (by first | (rw [sT_sT]; congr 1; unfold kShd; (repeat' split) <;> first | rfl | omega) | (congr 1; unfold kShd; (repeat' split) <;> first | rfl | omega))
  · refine r_aload_n (pc := 13) dX3_shardOf_13 rfl ?_
    refine r_iconst (pc := 14) dX3_shardOf_14 ?_
    refine r_callV (pc := 15) (kb' := 0) dX3_shardOf_15 kX3_no q2823 (t_no hm (by first | omega | (simp only [th0]; omega))) hm.1.1 rfl (Nat.le_refl _) (Nat.le_of_ble_eq_true rfl) rfl rfl (Nat.le_of_ble_eq_true rfl) (fun _ _ q => q.elim) (fun _ _ hq => go_T hq (fun h hm1 => ?_))
    have hm := hm.tr hm1
    try simp only [th0]
    exact e_retT (pc := 18) dX3_shardOf_18 rfl hm (by unfold zShd kShd; (repeat' split) <;> first | rfl | omega) (by first | (rw [sT_sT]; congr 1; unfold kShd; (repeat' split) <;> first | rfl | omega) | (congr 1; unfold kShd; (repeat' split) <;> first | rfl | omega))
theorem t_rawOn {G : Gl} {m : Nat} {ad : Nat → Nat} {h0 h : Hp} {T : TM} (hm : TI m ad h0 T h) {s : Int} (hI : RI (T 0)) (hs : InR s) : Ct G 2 0 yX3_rawOn (Cond.code yX3_rawOn cX3_rawOn 4 (some .int)) [.ref m, .int (iZ s)] h (RE (rawSh (T 0) s) h) noX := by
  have hm := hm.nw
  have hb := hI.1
  refine Ct.of (own := eM) (nm := "rawOn") (by decide +kernel) rfl rfl (L := [some (.ref m), some (.int (iZ s)), none, none]) rfl (Nat.le_of_ble_eq_true rfl) rfl ?_
  refine r_iconst (pc := 0) dX3_rawOn_0 ?_
  refine r_istore_n (pc := 1) (L' := [_, _, _, _]) dX3_rawOn_1 rfl ?_
  refine r_iconst (pc := 2) dX3_rawOn_2 ?_
  refine r_istore_n (pc := 3) (L' := [_, _, _, _]) dX3_rawOn_3 rfl ?_
  have loop4 : ∀ (n : Nat) (k z : Int) , (0 ≤ z ∧ z ≤ T 0 0) → k = sumI z (fun a => bZ (fA (T 0) a 4 = s ∧ fA (T 0) a 3 = 0)) → T 0 0 - z < n → Go G eM cX3_rawOn (4, some .int, "rawOn", []) 2 0 (RE (rawSh (T 0) s) h) noX 0 h 4 [some (.ref m), some (.int (iZ s)), some (.int (iZ k)), some (.int (iZ z))] [] := by
    intro n
    induction n with
    | zero => intro k z hz hk hn; omega
    | succ n ih4 =>
      intro k z hz hk hn
      refine r_iload_n (pc := 4) dX3_rawOn_4 rfl ?_
      refine r_aload_n (pc := 5) dX3_rawOn_5 rfl ?_
      refine gX3_7 (pc := 6) dX3_rawOn_6 hm.1.1 rfl ?_
      refine r_iconst (pc := 9) dX3_rawOn_9 ?_
      refine t_iald (pc := 10) (lim := 140) 0 dX3_rawOn_10 hm (by decide) rfl (by first | omega | exact rfB_in _ | exact nz_in _ | exact hm.r _ _) (fun r10 => ?_)
      refine r_icmp_ge (pc := 11) (tgt := 47) dX3_rawOn_11 (by decide) (by first | omega | exact rfB_in _ | exact nz_in _ | exact hm.r _ _) (by first | omega | exact rfB_in _ | exact nz_in _ | exact hm.r _ _) (fun c11 => ?_) (fun c11 => ?_)
      · refine r_iload_n (pc := 47) dX3_rawOn_47 rfl ?_
        exact e_ret (pc := 48) dX3_rawOn_48 rfl (by rw [hk, show z = T 0 0 by omega]; rfl)
      · refine r_iload_n (pc := 14) dX3_rawOn_14 rfl ?_
        refine r_aload_n (pc := 15) dX3_rawOn_15 rfl ?_
        refine r_iload_n (pc := 16) dX3_rawOn_16 rfl ?_
        refine r_iconst (pc := 17) dX3_rawOn_17 ?_
        refine r_callV (pc := 18) (kb' := 0) dX3_rawOn_18 kX3_av q2815 (t_av hm (by omega) (by omega)) hm.1.1 rfl (Nat.le_refl _) (Nat.le_of_ble_eq_true rfl) rfl rfl (Nat.le_of_ble_eq_true rfl) (fun _ _ q => q.elim) (fun _ _ hq => go_E hq ?_)
        refine r_iload_n (pc := 21) dX3_rawOn_21 rfl ?_
        refine r_icmp_ne (pc := 22) (tgt := 38) dX3_rawOn_22 (by decide) (by first | omega | exact rfB_in _ | exact nz_in _ | exact hm.r _ _) (by first | omega | exact rfB_in _ | exact nz_in _ | exact hm.r _ _) (fun c22 => ?_) (fun c22 => ?_)
        · refine r_iconst (pc := 38) dX3_rawOn_38 ?_
          refine r_iadd (pc := 39) dX3_rawOn_39 ?_
          refine r_istore_n (pc := 40) (L' := [_, _, _, _]) dX3_rawOn_40 rfl ?_
          refine r_iinc (pc := 41) (L' := [_, _, _, _]) dX3_rawOn_41 rfl rfl ?_
          refine r_goto (pc := 44) (tgt := 4) dX3_rawOn_44 (by decide) ?_
          exact ih4 _ _ (by omega) (by rw [sumI_s hz.1, hk]; congr 1; first | exact (bZ_t (by omega)).symm | exact (bZ_f (by omega)).symm) (by omega)
        · refine r_aload_n (pc := 25) dX3_rawOn_25 rfl ?_
          refine r_iload_n (pc := 26) dX3_rawOn_26 rfl ?_
          refine r_iconst (pc := 27) dX3_rawOn_27 ?_
          refine r_callV (pc := 28) (kb' := 0) dX3_rawOn_28 kX3_av q2815 (t_av hm (by omega) (by omega)) hm.1.1 rfl (Nat.le_refl _) (Nat.le_of_ble_eq_true rfl) rfl rfl (Nat.le_of_ble_eq_true rfl) (fun _ _ q => q.elim) (fun _ _ hq => go_E hq ?_)
          refine r_if_ne (pc := 31) (tgt := 38) dX3_rawOn_31 (by decide) (by first | omega | exact rfB_in _ | exact nz_in _ | exact hm.r _ _) (fun c31 => ?_) (fun c31 => ?_)
          · refine r_iconst (pc := 38) dX3_rawOn_38 ?_
            refine r_iadd (pc := 39) dX3_rawOn_39 ?_
            refine r_istore_n (pc := 40) (L' := [_, _, _, _]) dX3_rawOn_40 rfl ?_
            refine r_iinc (pc := 41) (L' := [_, _, _, _]) dX3_rawOn_41 rfl rfl ?_
            refine r_goto (pc := 44) (tgt := 4) dX3_rawOn_44 (by decide) ?_
            exact ih4 _ _ (by omega) (by rw [sumI_s hz.1, hk]; congr 1; first | exact (bZ_t (by omega)).symm | exact (bZ_f (by omega)).symm) (by omega)
          · refine r_iconst (pc := 34) dX3_rawOn_34 ?_
            refine r_goto (pc := 35) (tgt := 39) dX3_rawOn_35 (by decide) ?_
            refine r_iadd (pc := 39) dX3_rawOn_39 ?_
            refine r_istore_n (pc := 40) (L' := [_, _, _, _]) dX3_rawOn_40 rfl ?_
            refine r_iinc (pc := 41) (L' := [_, _, _, _]) dX3_rawOn_41 rfl rfl ?_
            refine r_goto (pc := 44) (tgt := 4) dX3_rawOn_44 (by decide) ?_
            exact ih4 _ _ (by omega) (by rw [sumI_s hz.1, hk]; congr 1; first | exact (bZ_t (by omega)).symm | exact (bZ_f (by omega)).symm) (by omega)
  exact loop4 ((T 0 0).toNat + 1) _ _ (by omega) sumI_0.symm (by omega)
theorem t_cracksOn {G : Gl} {m : Nat} {ad : Nat → Nat} {h0 h : Hp} {T : TM} (hm : TI m ad h0 T h) {s : Int} (hI : RI (T 0)) (hs : InR s) : Ct G 2 0 yX3_cracksOn (Cond.code yX3_cracksOn cX3_cracksOn 4 (some .int)) [.ref m, .int (iZ s)] h (RE (crkSh (T 0) s) h) noX := by
  have hm := hm.nw
  have hb := hI.1
  refine Ct.of (own := eM) (nm := "cracksOn") (by decide +kernel) rfl rfl (L := [some (.ref m), some (.int (iZ s)), none, none]) rfl (Nat.le_of_ble_eq_true rfl) rfl ?_
  refine r_iconst (pc := 0) dX3_cracksOn_0 ?_
  refine r_istore_n (pc := 1) (L' := [_, _, _, _]) dX3_cracksOn_1 rfl ?_
  refine r_iconst (pc := 2) dX3_cracksOn_2 ?_
  refine r_istore_n (pc := 3) (L' := [_, _, _, _]) dX3_cracksOn_3 rfl ?_
  have loop4 : ∀ (n : Nat) (k z : Int) , (0 ≤ z ∧ z ≤ T 0 0) → k = sumI z (fun a => if fA (T 0) a 4 = s then fA (T 0) a 2 else 0) → T 0 0 - z < n → Go G eM cX3_cracksOn (4, some .int, "cracksOn", []) 2 0 (RE (crkSh (T 0) s) h) noX 0 h 4 [some (.ref m), some (.int (iZ s)), some (.int (iZ k)), some (.int (iZ z))] [] := by
    intro n
    induction n with
    | zero => intro k z hz hk hn; omega
    | succ n ih4 =>
      intro k z hz hk hn
      refine r_iload_n (pc := 4) dX3_cracksOn_4 rfl ?_
      refine r_aload_n (pc := 5) dX3_cracksOn_5 rfl ?_
      refine gX3_7 (pc := 6) dX3_cracksOn_6 hm.1.1 rfl ?_
      refine r_iconst (pc := 9) dX3_cracksOn_9 ?_
      refine t_iald (pc := 10) (lim := 140) 0 dX3_cracksOn_10 hm (by decide) rfl (by first | omega | exact rfB_in _ | exact nz_in _ | exact hm.r _ _) (fun r10 => ?_)
      refine r_icmp_ge (pc := 11) (tgt := 43) dX3_cracksOn_11 (by decide) (by first | omega | exact rfB_in _ | exact nz_in _ | exact hm.r _ _) (by first | omega | exact rfB_in _ | exact nz_in _ | exact hm.r _ _) (fun c11 => ?_) (fun c11 => ?_)
      · refine r_iload_n (pc := 43) dX3_cracksOn_43 rfl ?_
        exact e_ret (pc := 44) dX3_cracksOn_44 rfl (by rw [hk, show z = T 0 0 by omega]; rfl)
      · refine r_iload_n (pc := 14) dX3_cracksOn_14 rfl ?_
        refine r_aload_n (pc := 15) dX3_cracksOn_15 rfl ?_
        refine r_iload_n (pc := 16) dX3_cracksOn_16 rfl ?_
        refine r_iconst (pc := 17) dX3_cracksOn_17 ?_
        refine r_callV (pc := 18) (kb' := 0) dX3_cracksOn_18 kX3_av q2815 (t_av hm (by omega) (by omega)) hm.1.1 rfl (Nat.le_refl _) (Nat.le_of_ble_eq_true rfl) rfl rfl (Nat.le_of_ble_eq_true rfl) (fun _ _ q => q.elim) (fun _ _ hq => go_E hq ?_)
        refine r_iload_n (pc := 21) dX3_cracksOn_21 rfl ?_
        refine r_icmp_ne (pc := 22) (tgt := 34) dX3_cracksOn_22 (by decide) (by first | omega | exact rfB_in _ | exact nz_in _ | exact hm.r _ _) (by first | omega | exact rfB_in _ | exact nz_in _ | exact hm.r _ _) (fun c22 => ?_) (fun c22 => ?_)
        · refine r_iconst (pc := 34) dX3_cracksOn_34 ?_
          refine r_iadd (pc := 35) dX3_cracksOn_35 ?_
          refine r_istore_n (pc := 36) (L' := [_, _, _, _]) dX3_cracksOn_36 rfl ?_
          refine r_iinc (pc := 37) (L' := [_, _, _, _]) dX3_cracksOn_37 rfl rfl ?_
          refine r_goto (pc := 40) (tgt := 4) dX3_cracksOn_40 (by decide) ?_
          exact ih4 _ _ (by omega) (by rw [sumI_s hz.1, hk]; congr 1; first | exact (if_pos (by omega)).symm | exact (if_neg (by omega)).symm) (by omega)
        · refine r_aload_n (pc := 25) dX3_cracksOn_25 rfl ?_
          refine r_iload_n (pc := 26) dX3_cracksOn_26 rfl ?_
          refine r_iconst (pc := 27) dX3_cracksOn_27 ?_
          refine r_callV (pc := 28) (kb' := 0) dX3_cracksOn_28 kX3_av q2815 (t_av hm (by omega) (by omega)) hm.1.1 rfl (Nat.le_refl _) (Nat.le_of_ble_eq_true rfl) rfl rfl (Nat.le_of_ble_eq_true rfl) (fun _ _ q => q.elim) (fun _ _ hq => go_E hq ?_)
          refine r_goto (pc := 31) (tgt := 35) dX3_cracksOn_31 (by decide) ?_
          refine r_iadd (pc := 35) dX3_cracksOn_35 ?_
          refine r_istore_n (pc := 36) (L' := [_, _, _, _]) dX3_cracksOn_36 rfl ?_
          refine r_iinc (pc := 37) (L' := [_, _, _, _]) dX3_cracksOn_37 rfl rfl ?_
          refine r_goto (pc := 40) (tgt := 4) dX3_cracksOn_40 (by decide) ?_
          exact ih4 _ _ (by omega) (by rw [sumI_s hz.1, hk]; congr 1; first | exact (if_pos (by omega)).symm | exact (if_neg (by omega)).symm) (by omega)
  exact loop4 ((T 0 0).toNat + 1) _ _ (by omega) sumI_0.symm (by omega)
theorem t_shelfOf {G : Gl} {m : Nat} {ad : Nat → Nat} {h0 h9 : Hp} {T : TM} (hm : TI m ad h0 T h9) {s w : Int} (hI : RI (T 0)) (hs : InR s) (hw : InR w) : Ct G 3 0 yX3_shelfOf (Cond.code yX3_shelfOf cX3_shelfOf 3 (some .int)) [.ref m, .int (iZ s), .int (iZ w)] h9 (RT m ad h9 (zShf (T 0) s w) (sT T 5 0 (kShf s w))) noX := by
  have hm := hm.nw
  have hb := hI.1
  have o9 := fun x => onSh_in (r := T 0) (s := x) (by omega)
  have p9 : ∀ x, InR (plOf (T 0) x) := fun x => (fnd_in (N := T 0 1) (p := fun k => T 0 (12 + k) = x) (by omega)).2.2
  have o7 := fun x => crkSh_in (s := x) hI
  have o6 := fun x => rawSh_in (r := T 0) (s := x) (by omega)
  refine Ct.of (own := eM) (nm := "shelfOf") (by decide +kernel) rfl rfl (L := [some (.ref m), some (.int (iZ s)), some (.int (iZ w))]) rfl (Nat.le_of_ble_eq_true rfl) rfl ?_
  refine r_aload_n (pc := 0) dX3_shelfOf_0 rfl ?_
  refine r_iconst (pc := 1) dX3_shelfOf_1 ?_
  refine pX3_25 (pc := 2) dX3_shelfOf_2 hm.1.1 (by decide) (Nat.le_of_ble_eq_true rfl) ?_
  refine t_put 5 rfl hm (by first | omega | exact rfB_in _ | exact nz_in _ | exact hm.r _ _) (fun h hm => ?_)
  refine r_iload_n (pc := 5) dX3_shelfOf_5 rfl ?_
  refine r_callS (pc := 6) (kb' := 0) dX3_shelfOf_6 kX3_isShelf q2804 (t_isShelf (by first | omega | (simp only [th0]; omega))) (Nat.le_refl _) (Nat.le_of_ble_eq_true rfl) rfl rfl (Nat.le_of_ble_eq_true rfl) (fun _ _ q => q.elim) (fun _ _ hq => go_E hq ?_)
  try simp only [th0]
  refine r_ifB_ne (pc := 9) (tgt := 18) dX3_shelfOf_9 (by decide) (fun c9 => ?_) (fun c9 => ?_)
  · have o8 := o9 s
    have o5 := o7 s
    have o4 := o6 s
    refine r_iload_n (pc := 18) dX3_shelfOf_18 rfl ?_
    by_cases w19_0 : w = 0
    · refine r_tableIn (pc := 19) (off := 29) (tgt := 48) dX3_shelfOf_19 (by omega) (by omega) (by omega) (by rw [w19_0]; rfl) (by decide) ?_
      refine r_aload_n (pc := 48) dX3_shelfOf_48 rfl ?_
      refine r_iload_n (pc := 49) dX3_shelfOf_49 rfl ?_
      refine r_callV (pc := 50) (kb' := 0) dX3_shelfOf_50 kX3_onShelf q2811 (t_onShelf hm (by first | exact hI | (rw [th0]; exact hI)) (by first | omega | (simp only [th0]; omega))) hm.1.1 rfl (Nat.le_refl _) (Nat.le_of_ble_eq_true rfl) rfl rfl (Nat.le_of_ble_eq_true rfl) (fun _ _ q => q.elim) (fun _ _ hq => go_E hq ?_)
      try simp only [th0]
      exact e_retT (pc := 53) dX3_shelfOf_53 rfl hm (by unfold zShf; (repeat' split) <;> first | rfl | omega) (by first | (rw [sT_sT]; congr 1; unfold kShf; (repeat' split) <;> first | rfl | omega) | (congr 1; unfold kShf; (repeat' split) <;> first | rfl | omega))
    by_cases w19_1 : w = 1
    · refine r_tableIn (pc := 19) (off := 35) (tgt := 54) dX3_shelfOf_19 (by omega) (by omega) (by omega) (by rw [w19_1]; rfl) (by decide) ?_
      refine r_aload_n (pc := 54) dX3_shelfOf_54 rfl ?_
      refine r_iload_n (pc := 55) dX3_shelfOf_55 rfl ?_
      refine r_callV (pc := 56) (kb' := 0) dX3_shelfOf_56 kX3_rawOn q3000 (t_rawOn hm (by first | exact hI | (rw [th0]; exact hI)) (by first | omega | (simp only [th0]; omega))) hm.1.1 rfl (Nat.le_refl _) (Nat.le_of_ble_eq_true rfl) rfl rfl (Nat.le_of_ble_eq_true rfl) (fun _ _ q => q.elim) (fun _ _ hq => go_E hq ?_)
      try simp only [th0]
      exact e_retT (pc := 59) dX3_shelfOf_59 rfl hm (by unfold zShf; (repeat' split) <;> first | rfl | omega) (by first | (rw [sT_sT]; congr 1; unfold kShf; (repeat' split) <;> first | rfl | omega) | (congr 1; unfold kShf; (repeat' split) <;> first | rfl | omega))
    by_cases w19_2 : w = 2
    · refine r_tableIn (pc := 19) (off := 41) (tgt := 60) dX3_shelfOf_19 (by omega) (by omega) (by omega) (by rw [w19_2]; rfl) (by decide) ?_
      refine r_aload_n (pc := 60) dX3_shelfOf_60 rfl ?_
      refine r_iload_n (pc := 61) dX3_shelfOf_61 rfl ?_
      refine r_callV (pc := 62) (kb' := 0) dX3_shelfOf_62 kX3_cracksOn q3004 (t_cracksOn hm (by first | exact hI | (rw [th0]; exact hI)) (by first | omega | (simp only [th0]; omega))) hm.1.1 rfl (Nat.le_refl _) (Nat.le_of_ble_eq_true rfl) rfl rfl (Nat.le_of_ble_eq_true rfl) (fun _ _ q => q.elim) (fun _ _ hq => go_E hq ?_)
      try simp only [th0]
      exact e_retT (pc := 65) dX3_shelfOf_65 rfl hm (by unfold zShf; (repeat' split) <;> first | rfl | omega) (by first | (rw [sT_sT]; congr 1; unfold kShf; (repeat' split) <;> first | rfl | omega) | (congr 1; unfold kShf; (repeat' split) <;> first | rfl | omega))
    by_cases w19_3 : w = 3
    · refine r_tableIn (pc := 19) (off := 47) (tgt := 66) dX3_shelfOf_19 (by omega) (by omega) (by omega) (by rw [w19_3]; rfl) (by decide) ?_
      refine r_iconst (pc := 66) dX3_shelfOf_66 ?_
      refine r_aload_n (pc := 67) dX3_shelfOf_67 rfl ?_
      refine r_iload_n (pc := 68) dX3_shelfOf_68 rfl ?_
      refine r_callV (pc := 69) (kb' := 0) dX3_shelfOf_69 kX3_onShelf q2811 (t_onShelf hm (by first | exact hI | (rw [th0]; exact hI)) (by first | omega | (simp only [th0]; omega))) hm.1.1 rfl (Nat.le_refl _) (Nat.le_of_ble_eq_true rfl) rfl rfl (Nat.le_of_ble_eq_true rfl) (fun _ _ q => q.elim) (fun _ _ hq => go_E hq ?_)
      try simp only [th0]
      refine r_isub (pc := 72) dX3_shelfOf_72 ?_
      exact e_retT (pc := 73) dX3_shelfOf_73 rfl hm (by unfold zShf; (repeat' split) <;> first | rfl | omega) (by first | (rw [sT_sT]; congr 1; unfold kShf; (repeat' split) <;> first | rfl | omega) | (congr 1; unfold kShf; (repeat' split) <;> first | rfl | omega))
    refine r_tableOut (pc := 19) (tgt := 74) dX3_shelfOf_19 (by first | omega | exact rfB_in _ | exact nz_in _ | exact hm.r _ _) (by omega) (by decide) ?_
    refine r_aload_n (pc := 74) dX3_shelfOf_74 rfl ?_
    refine r_iconst (pc := 75) dX3_shelfOf_75 ?_
    refine r_callV (pc := 76) (kb' := 0) dX3_shelfOf_76 kX3_no q2823 (t_no hm (by first | omega | (simp only [th0]; omega))) hm.1.1 rfl (Nat.le_refl _) (Nat.le_of_ble_eq_true rfl) rfl rfl (Nat.le_of_ble_eq_true rfl) (fun _ _ q => q.elim) (fun _ _ hq => go_T hq (fun h hm1 => ?_))
    have hm := hm.tr hm1
    try simp only [th0]
    exact e_retT (pc := 79) dX3_shelfOf_79 rfl hm (by unfold zShf; (repeat' split) <;> first | rfl | omega) (by first | (rw [sT_sT]; congr 1; unfold kShf; (repeat' split) <;> first | rfl | omega) | (congr 1; unfold kShf; (repeat' split) <;> first | rfl | omega))
  · refine r_aload_n (pc := 12) dX3_shelfOf_12 rfl ?_
    refine r_iconst (pc := 13) dX3_shelfOf_13 ?_
    refine r_callV (pc := 14) (kb' := 0) dX3_shelfOf_14 kX3_no q2823 (t_no hm (by first | omega | (simp only [th0]; omega))) hm.1.1 rfl (Nat.le_refl _) (Nat.le_of_ble_eq_true rfl) rfl rfl (Nat.le_of_ble_eq_true rfl) (fun _ _ q => q.elim) (fun _ _ hq => go_T hq (fun h hm1 => ?_))
    have hm := hm.tr hm1
    try simp only [th0]
    exact e_retT (pc := 17) dX3_shelfOf_17 rfl hm (by unfold zShf; (repeat' split) <;> first | rfl | omega) (by first | (rw [sT_sT]; congr 1; unfold kShf; (repeat' split) <;> first | rfl | omega) | (congr 1; unfold kShf; (repeat' split) <;> first | rfl | omega))
theorem t_law {G : Gl} {m : Nat} {ad : Nat → Nat} {h0 h9 : Hp} {T : TM} (hm : TI m ad h0 T h9) {p : Int} (hI : RI (T 0)) (hp : InR p) : Ct G 2 0 yX3_law (Cond.code yX3_law cX3_law 2 (some .int)) [.ref m, .int (iZ p)] h9 (RT m ad h9 (zLaw (T 0) p) (sT T 5 0 (kLaw (T 0) p))) noX := by
  have hm := hm.nw
  have hb := hI.1
  have o9 := fun x => onSh_in (r := T 0) (s := x) (by omega)
  have p9 : ∀ x, InR (plOf (T 0) x) := fun x => (fnd_in (N := T 0 1) (p := fun k => T 0 (12 + k) = x) (by omega)).2.2
  refine Ct.of (own := eM) (nm := "law") (by decide +kernel) rfl rfl (L := [some (.ref m), some (.int (iZ p))]) rfl (Nat.le_of_ble_eq_true rfl) rfl ?_
  refine r_aload_n (pc := 0) dX3_law_0 rfl ?_
  refine r_iload_n (pc := 1) dX3_law_1 rfl ?_
  refine r_iconst (pc := 2) dX3_law_2 ?_
  refine r_aload_n (pc := 3) dX3_law_3 rfl ?_
  refine gX3_7 (pc := 4) dX3_law_4 hm.1.1 rfl ?_
  refine r_iconst (pc := 7) dX3_law_7 ?_
  refine t_iald (pc := 8) (lim := 140) 0 dX3_law_8 hm (by decide) rfl (by first | omega | exact rfB_in _ | exact nz_in _ | exact hm.r _ _) (fun r8 => ?_)
  refine r_iconst (pc := 9) dX3_law_9 ?_
  refine r_isub (pc := 10) dX3_law_10 ?_
  refine r_callS (pc := 11) (kb' := 0) dX3_law_11 kX3_in q2794 (t_in (by first | omega | (simp only [th0]; omega)) (by first | omega | (simp only [th0]; omega)) (by first | omega | (simp only [th0]; omega))) (Nat.le_refl _) (Nat.le_of_ble_eq_true rfl) rfl rfl (Nat.le_of_ble_eq_true rfl) (fun _ _ q => q.elim) (fun _ _ hq => go_E hq ?_)
  try simp only [th0]
  refine r_ifB_eq (pc := 14) (tgt := 21) dX3_law_14 (by decide) (fun c14 => ?_) (fun c14 => ?_)
  · refine r_iconst (pc := 21) dX3_law_21 ?_
    refine pX3_25 (pc := 22) dX3_law_22 hm.1.1 (by decide) (Nat.le_of_ble_eq_true rfl) ?_
    refine t_put 5 rfl hm (by first | omega | exact rfB_in _ | exact nz_in _ | exact hm.r _ _) (fun h hm => ?_)
    refine r_aload_n (pc := 25) dX3_law_25 rfl ?_
    refine gX3_25 (pc := 26) dX3_law_26 hm.1.1 rfl ?_; have r26 := hm.r 5 0
    refine go_nm (fun z26 e26 => ?_)
    have r26 := InR_of e26 r26
    rw [sT_s] at e26
    refine r_if_le (pc := 29) (tgt := 36) dX3_law_29 (by decide) (by first | omega | exact rfB_in _ | exact nz_in _ | exact hm.r _ _) (fun c29 => ?_) (fun c29 => ?_)
    · refine r_aload_n (pc := 36) dX3_law_36 rfl ?_
      refine gX3_7 (pc := 37) dX3_law_37 hm.1.1 rfl ?_
      refine r_bipush (pc := 40) dX3_law_40 (by decide) ?_
      refine r_iload_n (pc := 42) dX3_law_42 rfl ?_
      refine r_iadd (pc := 43) dX3_law_43 ?_
      refine t_iald (pc := 44) (lim := 140) 0 dX3_law_44 hm (by decide) rfl (by first | omega | exact rfB_in _ | exact nz_in _ | exact hm.r _ _) (fun r44 => ?_)
      exact e_retT (pc := 45) dX3_law_45 rfl hm (by unfold zLaw; (repeat' split) <;> first | rfl | omega) (by first | (rw [sT_sT]; congr 1; unfold kLaw; (repeat' split) <;> first | rfl | omega) | (congr 1; unfold kLaw; (repeat' split) <;> first | rfl | omega))
    · refine r_iconst (pc := 32) dX3_law_32 ?_
      refine r_goto (pc := 33) (tgt := 45) dX3_law_33 (by decide) ?_
      exact e_retT (pc := 45) dX3_law_45 rfl hm (by unfold zLaw; (repeat' split) <;> first | rfl | omega) (by first | (rw [sT_sT]; congr 1; unfold kLaw; (repeat' split) <;> first | rfl | omega) | (congr 1; unfold kLaw; (repeat' split) <;> first | rfl | omega))
  · refine r_iconst (pc := 17) dX3_law_17 ?_
    refine r_goto (pc := 18) (tgt := 22) dX3_law_18 (by decide) ?_
    refine pX3_25 (pc := 22) dX3_law_22 hm.1.1 (by decide) (Nat.le_of_ble_eq_true rfl) ?_
    refine t_put 5 rfl hm (by first | omega | exact rfB_in _ | exact nz_in _ | exact hm.r _ _) (fun h hm => ?_)
    refine r_aload_n (pc := 25) dX3_law_25 rfl ?_
    refine gX3_25 (pc := 26) dX3_law_26 hm.1.1 rfl ?_; have r26 := hm.r 5 0
    refine go_nm (fun z26 e26 => ?_)
    have r26 := InR_of e26 r26
    rw [sT_s] at e26
    refine r_if_le (pc := 29) (tgt := 36) dX3_law_29 (by decide) (by first | omega | exact rfB_in _ | exact nz_in _ | exact hm.r _ _) (fun c29 => ?_) (fun c29 => ?_)
    · refine r_aload_n (pc := 36) dX3_law_36 rfl ?_
      refine gX3_7 (pc := 37) dX3_law_37 hm.1.1 rfl ?_
      refine r_bipush (pc := 40) dX3_law_40 (by decide) ?_
      refine r_iload_n (pc := 42) dX3_law_42 rfl ?_
      refine r_iadd (pc := 43) dX3_law_43 ?_
      refine t_iald (pc := 44) (lim := 140) 0 dX3_law_44 hm (by decide) rfl (by first | omega | exact rfB_in _ | exact nz_in _ | exact hm.r _ _) (fun r44 => ?_)
      exact e_retT (pc := 45) dX3_law_45 rfl hm (by unfold zLaw; (repeat' split) <;> first | rfl | omega) (by first | (rw [sT_sT]; congr 1; unfold kLaw; (repeat' split) <;> first | rfl | omega) | (congr 1; unfold kLaw; (repeat' split) <;> first | rfl | omega))
    · refine r_iconst (pc := 32) dX3_law_32 ?_
      refine r_goto (pc := 33) (tgt := 45) dX3_law_33 (by decide) ?_
      exact e_retT (pc := 45) dX3_law_45 rfl hm (by unfold zLaw; (repeat' split) <;> first | rfl | omega) (by first | (rw [sT_sT]; congr 1; unfold kLaw; (repeat' split) <;> first | rfl | omega) | (congr 1; unfold kLaw; (repeat' split) <;> first | rfl | omega))
theorem t_heatAt {G : Gl} {m : Nat} {ad : Nat → Nat} {h0 h9 : Hp} {T : TM} (hm : TI m ad h0 T h9) {s x : Int} (hI : RI (T 0)) (hs : InR s) (hx : InR x) : Ct G 3 0 yX3_heatAt (Cond.code yX3_heatAt cX3_heatAt 3 (some .int)) [.ref m, .int (iZ s), .int (iZ x)] h9 (RT m ad h9 (zHeat s x) (sT T 5 0 (kHeat s x))) noX := by
  have hm := hm.nw
  have hb := hI.1
  have o9 := fun x => onSh_in (r := T 0) (s := x) (by omega)
  have p9 : ∀ x, InR (plOf (T 0) x) := fun x => (fnd_in (N := T 0 1) (p := fun k => T 0 (12 + k) = x) (by omega)).2.2
  refine Ct.of (own := eM) (nm := "heatAt") (by decide +kernel) rfl rfl (L := [some (.ref m), some (.int (iZ s)), some (.int (iZ x))]) rfl (Nat.le_of_ble_eq_true rfl) rfl ?_
  refine r_aload_n (pc := 0) dX3_heatAt_0 rfl ?_
  refine r_iload_n (pc := 1) dX3_heatAt_1 rfl ?_
  refine r_callS (pc := 2) (kb' := 0) dX3_heatAt_2 kX3_isShelf q2804 (t_isShelf (by first | omega | (simp only [th0]; omega))) (Nat.le_refl _) (Nat.le_of_ble_eq_true rfl) rfl rfl (Nat.le_of_ble_eq_true rfl) (fun _ _ q => q.elim) (fun _ _ hq => go_E hq ?_)
  try simp only [th0]
  refine r_ifB_ne (pc := 5) (tgt := 12) dX3_heatAt_5 (by decide) (fun c5 => ?_) (fun c5 => ?_)
  · refine r_iload_n (pc := 12) dX3_heatAt_12 rfl ?_
    refine r_callS (pc := 13) (kb' := 0) dX3_heatAt_13 kX3_isHeat q2887 (t_isHeat (by first | omega | (simp only [th0]; omega))) (Nat.le_refl _) (Nat.le_of_ble_eq_true rfl) rfl rfl (Nat.le_of_ble_eq_true rfl) (fun _ _ q => q.elim) (fun _ _ hq => go_E hq ?_)
    try simp only [th0]
    refine r_ifB_eq (pc := 16) (tgt := 23) dX3_heatAt_16 (by decide) (fun c16 => ?_) (fun c16 => ?_)
    · refine r_iconst (pc := 23) dX3_heatAt_23 ?_
      refine pX3_25 (pc := 24) dX3_heatAt_24 hm.1.1 (by decide) (Nat.le_of_ble_eq_true rfl) ?_
      refine t_put 5 rfl hm (by first | omega | exact rfB_in _ | exact nz_in _ | exact hm.r _ _) (fun h hm => ?_)
      refine r_aload_n (pc := 27) dX3_heatAt_27 rfl ?_
      refine gX3_25 (pc := 28) dX3_heatAt_28 hm.1.1 rfl ?_; have r28 := hm.r 5 0
      refine go_nm (fun z28 e28 => ?_)
      have r28 := InR_of e28 r28
      rw [sT_s] at e28
      refine r_if_le (pc := 31) (tgt := 38) dX3_heatAt_31 (by decide) (by first | omega | exact rfB_in _ | exact nz_in _ | exact hm.r _ _) (fun c31 => ?_) (fun c31 => ?_)
      · refine r_iload_n (pc := 38) dX3_heatAt_38 rfl ?_
        refine r_iload_n (pc := 39) dX3_heatAt_39 rfl ?_
        refine r_callS (pc := 40) (kb' := 0) dX3_heatAt_40 kX3_heatOn q2902 (t_heatOn (by first | omega | (simp only [th0]; omega)) (by first | omega | (simp only [th0]; omega))) (Nat.le_refl _) (Nat.le_of_ble_eq_true rfl) rfl rfl (Nat.le_of_ble_eq_true rfl) (fun _ _ q => q.elim) (fun _ _ hq => go_E hq ?_)
        try simp only [th0]
        exact e_retT (pc := 43) dX3_heatAt_43 rfl hm (by unfold zHeat kHeat; (repeat' split) <;> first | rfl | omega) (by first | (rw [sT_sT]; congr 1; unfold kHeat; (repeat' split) <;> first | rfl | omega) | (congr 1; unfold kHeat; (repeat' split) <;> first | rfl | omega))
      · refine r_iconst (pc := 34) dX3_heatAt_34 ?_
        refine r_goto (pc := 35) (tgt := 43) dX3_heatAt_35 (by decide) ?_
        exact e_retT (pc := 43) dX3_heatAt_43 rfl hm (by unfold zHeat kHeat; (repeat' split) <;> first | rfl | omega) (by first | (rw [sT_sT]; congr 1; unfold kHeat; (repeat' split) <;> first | rfl | omega) | (congr 1; unfold kHeat; (repeat' split) <;> first | rfl | omega))
    · refine r_iconst (pc := 19) dX3_heatAt_19 ?_
      refine r_goto (pc := 20) (tgt := 24) dX3_heatAt_20 (by decide) ?_
      refine pX3_25 (pc := 24) dX3_heatAt_24 hm.1.1 (by decide) (Nat.le_of_ble_eq_true rfl) ?_
      refine t_put 5 rfl hm (by first | omega | exact rfB_in _ | exact nz_in _ | exact hm.r _ _) (fun h hm => ?_)
      refine r_aload_n (pc := 27) dX3_heatAt_27 rfl ?_
      refine gX3_25 (pc := 28) dX3_heatAt_28 hm.1.1 rfl ?_; have r28 := hm.r 5 0
      refine go_nm (fun z28 e28 => ?_)
      have r28 := InR_of e28 r28
      rw [sT_s] at e28
      refine r_if_le (pc := 31) (tgt := 38) dX3_heatAt_31 (by decide) (by first | omega | exact rfB_in _ | exact nz_in _ | exact hm.r _ _) (fun c31 => ?_) (fun c31 => ?_)
      · refine r_iload_n (pc := 38) dX3_heatAt_38 rfl ?_
        refine r_iload_n (pc := 39) dX3_heatAt_39 rfl ?_
        refine r_callS (pc := 40) (kb' := 0) dX3_heatAt_40 kX3_heatOn q2902 (t_heatOn (by first | omega | (simp only [th0]; omega)) (by first | omega | (simp only [th0]; omega))) (Nat.le_refl _) (Nat.le_of_ble_eq_true rfl) rfl rfl (Nat.le_of_ble_eq_true rfl) (fun _ _ q => q.elim) (fun _ _ hq => go_E hq ?_)
        try simp only [th0]
        exact e_retT (pc := 43) dX3_heatAt_43 rfl hm (by unfold zHeat kHeat; (repeat' split) <;> first | rfl | omega) (by first | (rw [sT_sT]; congr 1; unfold kHeat; (repeat' split) <;> first | rfl | omega) | (congr 1; unfold kHeat; (repeat' split) <;> first | rfl | omega))
      · refine r_iconst (pc := 34) dX3_heatAt_34 ?_
        refine r_goto (pc := 35) (tgt := 43) dX3_heatAt_35 (by decide) ?_
        exact e_retT (pc := 43) dX3_heatAt_43 rfl hm (by unfold zHeat kHeat; (repeat' split) <;> first | rfl | omega) (by first | (rw [sT_sT]; congr 1; unfold kHeat; (repeat' split) <;> first | rfl | omega) | (congr 1; unfold kHeat; (repeat' split) <;> first | rfl | omega))
  · refine r_iconst (pc := 8) dX3_heatAt_8 ?_
    refine r_goto (pc := 9) (tgt := 24) dX3_heatAt_9 (by decide) ?_
    refine pX3_25 (pc := 24) dX3_heatAt_24 hm.1.1 (by decide) (Nat.le_of_ble_eq_true rfl) ?_
    refine t_put 5 rfl hm (by first | omega | exact rfB_in _ | exact nz_in _ | exact hm.r _ _) (fun h hm => ?_)
    refine r_aload_n (pc := 27) dX3_heatAt_27 rfl ?_
    refine gX3_25 (pc := 28) dX3_heatAt_28 hm.1.1 rfl ?_; have r28 := hm.r 5 0
    refine go_nm (fun z28 e28 => ?_)
    have r28 := InR_of e28 r28
    rw [sT_s] at e28
    refine r_if_le (pc := 31) (tgt := 38) dX3_heatAt_31 (by decide) (by first | omega | exact rfB_in _ | exact nz_in _ | exact hm.r _ _) (fun c31 => ?_) (fun c31 => ?_)
    · refine r_iload_n (pc := 38) dX3_heatAt_38 rfl ?_
      refine r_iload_n (pc := 39) dX3_heatAt_39 rfl ?_
      refine r_callS (pc := 40) (kb' := 0) dX3_heatAt_40 kX3_heatOn q2902 (t_heatOn (by first | omega | (simp only [th0]; omega)) (by first | omega | (simp only [th0]; omega))) (Nat.le_refl _) (Nat.le_of_ble_eq_true rfl) rfl rfl (Nat.le_of_ble_eq_true rfl) (fun _ _ q => q.elim) (fun _ _ hq => go_E hq ?_)
      try simp only [th0]
      exact e_retT (pc := 43) dX3_heatAt_43 rfl hm (by unfold zHeat kHeat; (repeat' split) <;> first | rfl | omega) (by first | (rw [sT_sT]; congr 1; unfold kHeat; (repeat' split) <;> first | rfl | omega) | (congr 1; unfold kHeat; (repeat' split) <;> first | rfl | omega))
    · refine r_iconst (pc := 34) dX3_heatAt_34 ?_
      refine r_goto (pc := 35) (tgt := 43) dX3_heatAt_35 (by decide) ?_
      exact e_retT (pc := 43) dX3_heatAt_43 rfl hm (by unfold zHeat kHeat; (repeat' split) <;> first | rfl | omega) (by first | (rw [sT_sT]; congr 1; unfold kHeat; (repeat' split) <;> first | rfl | omega) | (congr 1; unfold kHeat; (repeat' split) <;> first | rfl | omega))
theorem t_cracksOf {G : Gl} {m : Nat} {ad : Nat → Nat} {h0 h9 : Hp} {T : TM} (hm : TI m ad h0 T h9) {a x : Int} (hI : RI (T 0)) (ha : InR a) (hx : InR x) : Ct G 4 0 yX3_cracksOf (Cond.code yX3_cracksOf cX3_cracksOf 3 (some .int)) [.ref m, .int (iZ a), .int (iZ x)] h9 (RT m ad h9 (zCrk (T 0) a x) (sT T 5 0 (kCrk (T 0) a x))) noX := by
  have hm := hm.nw
  have hb := hI.1
  have o9 := fun x => onSh_in (r := T 0) (s := x) (by omega)
  have p9 : ∀ x, InR (plOf (T 0) x) := fun x => (fnd_in (N := T 0 1) (p := fun k => T 0 (12 + k) = x) (by omega)).2.2
  refine Ct.of (own := eM) (nm := "cracksOf") (by decide +kernel) rfl rfl (L := [some (.ref m), some (.int (iZ a)), some (.int (iZ x))]) rfl (Nat.le_of_ble_eq_true rfl) rfl ?_
  refine r_aload_n (pc := 0) dX3_cracksOf_0 rfl ?_
  refine r_aload_n (pc := 1) dX3_cracksOf_1 rfl ?_
  refine r_iload_n (pc := 2) dX3_cracksOf_2 rfl ?_
  refine r_callV (pc := 3) (kb' := 0) dX3_cracksOf_3 kX3_isArticle q2851 (t_isArticle hm (by first | exact hI | (rw [th0]; exact hI)) (by first | omega | (simp only [th0]; omega))) hm.1.1 rfl (Nat.le_refl _) (Nat.le_of_ble_eq_true rfl) rfl rfl (Nat.le_of_ble_eq_true rfl) (fun _ _ q => q.elim) (fun _ _ hq => go_E hq ?_)
  try simp only [th0]
  refine r_ifB_ne (pc := 6) (tgt := 13) dX3_cracksOf_6 (by decide) (fun c6 => ?_) (fun c6 => ?_)
  · refine r_iload_n (pc := 13) dX3_cracksOf_13 rfl ?_
    refine r_callS (pc := 14) (kb' := 0) dX3_cracksOf_14 kX3_isHeat q2887 (t_isHeat (by first | omega | (simp only [th0]; omega))) (Nat.le_refl _) (Nat.le_of_ble_eq_true rfl) rfl rfl (Nat.le_of_ble_eq_true rfl) (fun _ _ q => q.elim) (fun _ _ hq => go_E hq ?_)
    try simp only [th0]
    refine r_ifB_eq (pc := 17) (tgt := 24) dX3_cracksOf_17 (by decide) (fun c17 => ?_) (fun c17 => ?_)
    · refine r_iconst (pc := 24) dX3_cracksOf_24 ?_
      refine pX3_25 (pc := 25) dX3_cracksOf_25 hm.1.1 (by decide) (Nat.le_of_ble_eq_true rfl) ?_
      refine t_put 5 rfl hm (by first | omega | exact rfB_in _ | exact nz_in _ | exact hm.r _ _) (fun h hm => ?_)
      refine r_aload_n (pc := 28) dX3_cracksOf_28 rfl ?_
      refine gX3_25 (pc := 29) dX3_cracksOf_29 hm.1.1 rfl ?_; have r29 := hm.r 5 0
      refine go_nm (fun z29 e29 => ?_)
      have r29 := InR_of e29 r29
      rw [sT_s] at e29
      refine r_if_le (pc := 32) (tgt := 39) dX3_cracksOf_32 (by decide) (by first | omega | exact rfB_in _ | exact nz_in _ | exact hm.r _ _) (fun c32 => ?_) (fun c32 => ?_)
      · have h0a : 0 ≤ a ∧ a < T 0 0 := (by omega)
        have h0b : 10 ≤ x ∧ x ≤ 99 := (by omega)
        have h9 := cr_in (hI.2.1 a h0a.1 h0a.2) h0b
        refine r_aload_n (pc := 39) dX3_cracksOf_39 rfl ?_
        refine r_iload_n (pc := 40) dX3_cracksOf_40 rfl ?_
        refine r_iload_n (pc := 41) dX3_cracksOf_41 rfl ?_
        refine r_callV (pc := 42) (kb' := 0) dX3_cracksOf_42 kX3_crackedBy q2898 (t_crackedBy hm (by first | exact hI | (rw [th0]; exact hI)) (by first | omega | (simp only [th0]; omega)) (by first | omega | (simp only [th0]; omega))) hm.1.1 rfl (Nat.le_refl _) (Nat.le_of_ble_eq_true rfl) rfl rfl (Nat.le_of_ble_eq_true rfl) (fun _ _ q => q.elim) (fun _ _ hq => go_E hq ?_)
        try simp only [th0]
        exact e_retT (pc := 45) dX3_cracksOf_45 rfl hm (by unfold zCrk kCrk; (repeat' split) <;> first | rfl | omega) (by first | (rw [sT_sT]; congr 1; unfold kCrk; (repeat' split) <;> first | rfl | omega) | (congr 1; unfold kCrk; (repeat' split) <;> first | rfl | omega))
      · refine r_iconst (pc := 35) dX3_cracksOf_35 ?_
        refine r_goto (pc := 36) (tgt := 45) dX3_cracksOf_36 (by decide) ?_
        exact e_retT (pc := 45) dX3_cracksOf_45 rfl hm (by unfold zCrk kCrk; (repeat' split) <;> first | rfl | omega) (by first | (rw [sT_sT]; congr 1; unfold kCrk; (repeat' split) <;> first | rfl | omega) | (congr 1; unfold kCrk; (repeat' split) <;> first | rfl | omega))
    · refine r_iconst (pc := 20) dX3_cracksOf_20 ?_
      refine r_goto (pc := 21) (tgt := 25) dX3_cracksOf_21 (by decide) ?_
      refine pX3_25 (pc := 25) dX3_cracksOf_25 hm.1.1 (by decide) (Nat.le_of_ble_eq_true rfl) ?_
      refine t_put 5 rfl hm (by first | omega | exact rfB_in _ | exact nz_in _ | exact hm.r _ _) (fun h hm => ?_)
      refine r_aload_n (pc := 28) dX3_cracksOf_28 rfl ?_
      refine gX3_25 (pc := 29) dX3_cracksOf_29 hm.1.1 rfl ?_; have r29 := hm.r 5 0
      refine go_nm (fun z29 e29 => ?_)
      have r29 := InR_of e29 r29
      rw [sT_s] at e29
      refine r_if_le (pc := 32) (tgt := 39) dX3_cracksOf_32 (by decide) (by first | omega | exact rfB_in _ | exact nz_in _ | exact hm.r _ _) (fun c32 => ?_) (fun c32 => ?_)
      · have h0a : 0 ≤ a ∧ a < T 0 0 := (by omega)
        have h0b : 10 ≤ x ∧ x ≤ 99 := (by omega)
        have h9 := cr_in (hI.2.1 a h0a.1 h0a.2) h0b
        refine r_aload_n (pc := 39) dX3_cracksOf_39 rfl ?_
        refine r_iload_n (pc := 40) dX3_cracksOf_40 rfl ?_
        refine r_iload_n (pc := 41) dX3_cracksOf_41 rfl ?_
        refine r_callV (pc := 42) (kb' := 0) dX3_cracksOf_42 kX3_crackedBy q2898 (t_crackedBy hm (by first | exact hI | (rw [th0]; exact hI)) (by first | omega | (simp only [th0]; omega)) (by first | omega | (simp only [th0]; omega))) hm.1.1 rfl (Nat.le_refl _) (Nat.le_of_ble_eq_true rfl) rfl rfl (Nat.le_of_ble_eq_true rfl) (fun _ _ q => q.elim) (fun _ _ hq => go_E hq ?_)
        try simp only [th0]
        exact e_retT (pc := 45) dX3_cracksOf_45 rfl hm (by unfold zCrk kCrk; (repeat' split) <;> first | rfl | omega) (by first | (rw [sT_sT]; congr 1; unfold kCrk; (repeat' split) <;> first | rfl | omega) | (congr 1; unfold kCrk; (repeat' split) <;> first | rfl | omega))
      · refine r_iconst (pc := 35) dX3_cracksOf_35 ?_
        refine r_goto (pc := 36) (tgt := 45) dX3_cracksOf_36 (by decide) ?_
        exact e_retT (pc := 45) dX3_cracksOf_45 rfl hm (by unfold zCrk kCrk; (repeat' split) <;> first | rfl | omega) (by first | (rw [sT_sT]; congr 1; unfold kCrk; (repeat' split) <;> first | rfl | omega) | (congr 1; unfold kCrk; (repeat' split) <;> first | rfl | omega))
  · refine r_iconst (pc := 9) dX3_cracksOf_9 ?_
    refine r_goto (pc := 10) (tgt := 25) dX3_cracksOf_10 (by decide) ?_
    refine pX3_25 (pc := 25) dX3_cracksOf_25 hm.1.1 (by decide) (Nat.le_of_ble_eq_true rfl) ?_
    refine t_put 5 rfl hm (by first | omega | exact rfB_in _ | exact nz_in _ | exact hm.r _ _) (fun h hm => ?_)
    refine r_aload_n (pc := 28) dX3_cracksOf_28 rfl ?_
    refine gX3_25 (pc := 29) dX3_cracksOf_29 hm.1.1 rfl ?_; have r29 := hm.r 5 0
    refine go_nm (fun z29 e29 => ?_)
    have r29 := InR_of e29 r29
    rw [sT_s] at e29
    refine r_if_le (pc := 32) (tgt := 39) dX3_cracksOf_32 (by decide) (by first | omega | exact rfB_in _ | exact nz_in _ | exact hm.r _ _) (fun c32 => ?_) (fun c32 => ?_)
    · have h0a : 0 ≤ a ∧ a < T 0 0 := (by omega)
      have h0b : 10 ≤ x ∧ x ≤ 99 := (by omega)
      have h9 := cr_in (hI.2.1 a h0a.1 h0a.2) h0b
      refine r_aload_n (pc := 39) dX3_cracksOf_39 rfl ?_
      refine r_iload_n (pc := 40) dX3_cracksOf_40 rfl ?_
      refine r_iload_n (pc := 41) dX3_cracksOf_41 rfl ?_
      refine r_callV (pc := 42) (kb' := 0) dX3_cracksOf_42 kX3_crackedBy q2898 (t_crackedBy hm (by first | exact hI | (rw [th0]; exact hI)) (by first | omega | (simp only [th0]; omega)) (by first | omega | (simp only [th0]; omega))) hm.1.1 rfl (Nat.le_refl _) (Nat.le_of_ble_eq_true rfl) rfl rfl (Nat.le_of_ble_eq_true rfl) (fun _ _ q => q.elim) (fun _ _ hq => go_E hq ?_)
      try simp only [th0]
      exact e_retT (pc := 45) dX3_cracksOf_45 rfl hm (by unfold zCrk kCrk; (repeat' split) <;> first | rfl | omega) (by first | (rw [sT_sT]; congr 1; unfold kCrk; (repeat' split) <;> first | rfl | omega) | (congr 1; unfold kCrk; (repeat' split) <;> first | rfl | omega))
    · refine r_iconst (pc := 35) dX3_cracksOf_35 ?_
      refine r_goto (pc := 36) (tgt := 45) dX3_cracksOf_36 (by decide) ?_
      exact e_retT (pc := 45) dX3_cracksOf_45 rfl hm (by unfold zCrk kCrk; (repeat' split) <;> first | rfl | omega) (by first | (rw [sT_sT]; congr 1; unfold kCrk; (repeat' split) <;> first | rfl | omega) | (congr 1; unfold kCrk; (repeat' split) <;> first | rfl | omega))
theorem t_cracksBy {G : Gl} {m : Nat} {ad : Nat → Nat} {h0 h : Hp} {T : TM} (hm : TI m ad h0 T h) {a x : Int} (hI : RI (T 0)) (ha : InR a) (hx : InR x) : Ct G 5 0 yX3_cracksBy (Cond.code yX3_cracksBy cX3_cracksBy 3 (some .int)) [.ref m, .int (iZ a), .int (iZ x)] h (RT m ad h (zCrk (T 0) a x) (sT T 5 0 (kCrk (T 0) a x))) noX := by
  have hm := hm.nw
  refine Ct.of (own := eM) (nm := "cracksBy") (by decide +kernel) rfl rfl (L := [some (.ref m), some (.int (iZ a)), some (.int (iZ x))]) rfl (Nat.le_of_ble_eq_true rfl) rfl ?_
  refine r_aload_n (pc := 0) dX3_cracksBy_0 rfl ?_
  refine r_iload_n (pc := 1) dX3_cracksBy_1 rfl ?_
  refine r_iload_n (pc := 2) dX3_cracksBy_2 rfl ?_
  refine r_callV (pc := 3) (kb' := 0) dX3_cracksBy_3 kX3_cracksOf q3024 (t_cracksOf hm hI (by omega) (by omega)) hm.1.1 rfl (Nat.le_refl _) (Nat.le_of_ble_eq_true rfl) rfl rfl (Nat.le_of_ble_eq_true rfl) (fun _ _ q => q.elim) (fun _ _ hq => go_T hq (fun h hm1 => ?_))
  have hm := hm.tr hm1
  exact e_retT (pc := 6) dX3_cracksBy_6 rfl hm rfl rfl
theorem t_cracksAgain {G : Gl} {m : Nat} {ad : Nat → Nat} {h0 h : Hp} {T : TM} (hm : TI m ad h0 T h) {a x : Int} (hI : RI (T 0)) (ha : InR a) (hx : InR x) : Ct G 5 0 yX3_cracksAgain (Cond.code yX3_cracksAgain cX3_cracksAgain 3 (some .int)) [.ref m, .int (iZ a), .int (iZ x)] h (RT m ad h (zCrk (T 0) a x) (sT T 5 0 (kCrk (T 0) a x))) noX := by
  have hm := hm.nw
  refine Ct.of (own := eM) (nm := "cracksAgain") (by decide +kernel) rfl rfl (L := [some (.ref m), some (.int (iZ a)), some (.int (iZ x))]) rfl (Nat.le_of_ble_eq_true rfl) rfl ?_
  refine r_aload_n (pc := 0) dX3_cracksAgain_0 rfl ?_
  refine r_iload_n (pc := 1) dX3_cracksAgain_1 rfl ?_
  refine r_iload_n (pc := 2) dX3_cracksAgain_2 rfl ?_
  refine r_callV (pc := 3) (kb' := 0) dX3_cracksAgain_3 kX3_cracksOf q3024 (t_cracksOf hm hI (by omega) (by omega)) hm.1.1 rfl (Nat.le_refl _) (Nat.le_of_ble_eq_true rfl) rfl rfl (Nat.le_of_ble_eq_true rfl) (fun _ _ q => q.elim) (fun _ _ hq => go_T hq (fun h hm1 => ?_))
  have hm := hm.tr hm1
  exact e_retT (pc := 6) dX3_cracksAgain_6 rfl hm rfl rfl
