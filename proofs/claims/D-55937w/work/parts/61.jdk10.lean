set_option maxRecDepth 100000
/-! JDK, part 10: BitSet: setting, clearing, counting, seeking -/
theorem bsI {n : Nat} (h : n ≠ 0) : (if n = 0 then (0 : Int) else 1) = 1 := if_neg h
theorem p2pos (k : Nat) : 0 < 2 ^ k := Nat.two_pow_pos k
theorem p2lt {z k : Nat} (hk : k < 12) (hz : z < 2 ^ k) : z + 2 ^ k < 4096 := by
  have : (2 : Nat) ^ (k + 1) ≤ 2 ^ 12 := Nat.pow_le_pow_right (by omega) (by omega)
  rw [Nat.pow_succ] at this
  omega

theorem t_J14_set_2 {G : Gl} {h : Hp} {a z k : Nat} {t : Tg} (hA : BS t a z h) (ht : t ≠ frz) (hk : k < 12) (hz : z < 2 ^ k) : Ct G 3 0 yJ14_set_2 (Cond.code yJ14_set_2 cJ14_set_2 3 (none)) [.ref a, .int (iZ k)] h (jN (fun h' => BS t a (z + 2 ^ k) h' ∧ Fr (fun x => x = t) h h')) noX := by
  have hA0 := hA
  obtain ⟨w, f, s, q1, q2, q3, q4⟩ := hA0
  have zi := bZn_in z
  have pk := p2pos k
  have pl := p2lt hk hz
  refine Ct.of (own := "java/util/BitSet") (nm := "set") (by decide +kernel) rfl rfl (L := [some (.ref a), some (.int (iZ k)), none]) rfl (Nat.le_of_ble_eq_true rfl) rfl ?_
  refine r_iload_n (pc := 0) dJ14_set_2_0 rfl ?_
  refine r_if_ge (pc := 1) (tgt := 31) dJ14_set_2_1 (by decide) (by omega) (fun c1 => ?_) (fun c1 => absurd (by omega) c1)
  refine r_iload_n (pc := 31) dJ14_set_2_31 rfl ?_
  refine r_callS (pc := 32) (kb' := 0) dJ14_set_2_32 kJ14_wordIndex q1595 (t_J14_wordIndex (by omega)) (Nat.le_refl _) (Nat.le_of_ble_eq_true rfl) rfl rfl (Nat.le_of_ble_eq_true rfl) (fun _ _ q => q.elim) (fun _ _ hq => ?_)
  refine go_jE hq ?_
  refine r_istore_n (pc := 35) (L' := [_, _, _]) dJ14_set_2_35 rfl ?_
  refine r_aload_n (pc := 36) dJ14_set_2_36 rfl ?_
  refine r_iload_n (pc := 37) dJ14_set_2_37 rfl ?_
  refine r_callV (pc := 38) (kb' := 0) dJ14_set_2_38 kJ14_expandTo q1626 (t_J14_expandTo hA ht) q1 rfl (Nat.le_refl _) (Nat.le_of_ble_eq_true rfl) rfl rfl (Nat.le_of_ble_eq_true rfl) (fun _ _ q => q.elim) (fun _ h hq => ?_)
  refine go_jN hq (fun hq => ?_)
  obtain ⟨w, f, s, q3, q4, q1, q2, hp⟩ := hq
  refine r_aload_n (pc := 41) dJ14_set_2_41 rfl ?_
  refine gJ14_11 (pc := 42) dJ14_set_2_42 (hp.at 0 rfl) rfl ?_
  refine r_iload_n (pc := 45) dJ14_set_2_45 rfl ?_
  refine r_dup2 (pc := 46) dJ14_set_2_46 rfl rfl ?_
  refine r_lald (pc := 47) dJ14_set_2_47 (hp.at 1 rfl) (by omega) (by omega) (by omega) ?_
  refine go_jv (y := lN z) q3 ?_
  refine r_lconst (pc := 48) dJ14_set_2_48 ?_
  refine r_iload_n (pc := 49) dJ14_set_2_49 rfl ?_
  refine q_lshl (pc := 50) dJ14_set_2_50 rfl ?_
  refine q_lor (pc := 51) dJ14_set_2_51 ?_
  refine go_jv (sbB k hk z hz) ?_
  refine r_last (pc := 52) dJ14_set_2_52 (hp.at 1 rfl) ht (by omega) (by omega) (by omega) ?_
  refine go_pw (hp.put 1 rfl) (fun h hp => ?_)
  refine r_aload_n (pc := 53) dJ14_set_2_53 rfl ?_
  refine r_callV (pc := 54) (kb' := 0) dJ14_set_2_54 kJ14_checkInvariants q1643 (t_J14_checkInvariants ) (hp.at 0 rfl) rfl (Nat.le_refl _) (Nat.le_of_ble_eq_true rfl) rfl rfl (Nat.le_of_ble_eq_true rfl) (fun _ _ q => q.elim) (fun _ h hq => ?_)
  refine go_jN hq (fun e => ?_)
  subst e
  exact r_vret (pc := 57) dJ14_set_2_57 rfl ⟨rfl, ⟨w, _, _, bsE (hp.at 0 rfl) (congrArg (fun q => Value.int (iZ q)) (bsI (by omega)).symm), hp.at 1 rfl, rfl, pl⟩, hp.fr ⟨FA.t q1, FA.t q2, trivial⟩⟩
theorem t_J14_recalculateWordsInUse {G : Gl} {h : Hp} {a z w : Nat} {t : Tg} {f : Nat → Int64} {s : Int32} (q1 : h a = some (t, ob 16 [.ref w, .int (iZ 1), .int s])) (q2 : h w = some (t, aJ 1 f)) (q3 : f 0 = lN z) (q4 : z < 4096) (hz : z ≠ 0) (ht : t ≠ frz) : Ct G 1 0 yJ14_recalculateWordsInUse (Cond.code yJ14_recalculateWordsInUse cJ14_recalculateWordsInUse 2 (none)) [.ref a] h (jN (fun h' => h' = up h a (t, ob 16 [.ref w, .int (iZ 1), .int s]))) noX := by
  have hp := PW.one q1
  refine Ct.of (own := "java/util/BitSet") (nm := "recalculateWordsInUse") (by decide +kernel) rfl rfl (L := [some (.ref a), none]) rfl (Nat.le_of_ble_eq_true rfl) rfl ?_
  refine r_aload_n (pc := 0) dJ14_recalculateWordsInUse_0 rfl ?_
  refine gJ14_7 (pc := 1) dJ14_recalculateWordsInUse_1 (hp.at 0 rfl) rfl ?_
  refine r_iconst (pc := 4) dJ14_recalculateWordsInUse_4 ?_
  refine r_isub (pc := 5) dJ14_recalculateWordsInUse_5 ?_
  refine go_cz (w := 0) rfl ?_
  refine r_istore_n (pc := 6) (L' := [_, _]) dJ14_recalculateWordsInUse_6 rfl ?_
  refine r_iload_n (pc := 7) dJ14_recalculateWordsInUse_7 rfl ?_
  refine r_if_lt (pc := 8) (tgt := 31) dJ14_recalculateWordsInUse_8 (by decide) (by omega) (fun c8 => absurd c8 (by omega)) (fun c8 => ?_)
  refine r_aload_n (pc := 11) dJ14_recalculateWordsInUse_11 rfl ?_
  refine gJ14_11 (pc := 12) dJ14_recalculateWordsInUse_12 (hp.at 0 rfl) rfl ?_
  refine r_iload_n (pc := 15) dJ14_recalculateWordsInUse_15 rfl ?_
  refine r_lald (pc := 16) dJ14_recalculateWordsInUse_16 q2 (by omega) (by omega) (by omega) ?_
  refine go_jv (y := lN z) q3 ?_
  refine r_lconst (pc := 17) dJ14_recalculateWordsInUse_17 ?_
  refine r_lcmp (pc := 18) dJ14_recalculateWordsInUse_18 ?_
  refine go_ci (lcB z q4) ?_
  rw [if_neg hz]
  refine r_if_eq (pc := 19) (tgt := 25) dJ14_recalculateWordsInUse_19 (by decide) (by decide) (fun q => absurd q (by decide)) (fun _ => ?_)
  refine r_goto (pc := 22) (tgt := 31) dJ14_recalculateWordsInUse_22 (by decide) ?_
  refine r_aload_n (pc := 31) dJ14_recalculateWordsInUse_31 rfl ?_
  refine r_iload_n (pc := 32) dJ14_recalculateWordsInUse_32 rfl ?_
  refine r_iconst (pc := 33) dJ14_recalculateWordsInUse_33 ?_
  refine r_iadd (pc := 34) dJ14_recalculateWordsInUse_34 ?_
  refine go_cz (w := 1) rfl ?_
  refine pJ14_7 (pc := 35) dJ14_recalculateWordsInUse_35 (hp.at 0 rfl) ht (Nat.le_of_ble_eq_true rfl) ?_
  refine go_pw (hp.put 0 rfl) (fun h hp => ?_)
  exact r_vret (pc := 38) dJ14_recalculateWordsInUse_38 rfl ⟨rfl, hp.eq1⟩
theorem t_J14_clear {G : Gl} {h : Hp} {a z k : Nat} {t : Tg} (hA : BS t a z h) (ht : t ≠ frz) (hk : k < 12) (hz : z < 2 ^ k) : Ct G 2 0 yJ14_clear (Cond.code yJ14_clear cJ14_clear 3 (none)) [.ref a, .int (iZ k)] h (jN (fun h' => BS t a z h' ∧ Fr (fun x => x = t) h h')) noX := by
  have hA0 := hA
  obtain ⟨w, f, s, q1, q2, q3, q4⟩ := hA0
  have zi := bZn_in z
  have hp := PW.two q1 q2 (ne_of q1 q2 (by intro e; simp [ob, aJ] at e))
  by_cases z0 : z = 0
  rw [if_pos z0] at hp
  rotate_left
  rw [if_neg z0] at hp
  · refine Ct.of (own := "java/util/BitSet") (nm := "clear") (by decide +kernel) rfl rfl (L := [some (.ref a), some (.int (iZ k)), none]) rfl (Nat.le_of_ble_eq_true rfl) rfl ?_
    refine r_iload_n (pc := 0) dJ14_clear_0 rfl ?_
    refine r_if_ge (pc := 1) (tgt := 31) dJ14_clear_1 (by decide) (by omega) (fun c1 => ?_) (fun c1 => absurd (by omega) c1)
    refine r_iload_n (pc := 31) dJ14_clear_31 rfl ?_
    refine r_callS (pc := 32) (kb' := 0) dJ14_clear_32 kJ14_wordIndex q1595 (t_J14_wordIndex (by omega)) (Nat.le_refl _) (Nat.le_of_ble_eq_true rfl) rfl rfl (Nat.le_of_ble_eq_true rfl) (fun _ _ q => q.elim) (fun _ _ hq => ?_)
    refine go_jE hq ?_
    refine r_istore_n (pc := 35) (L' := [_, _, _]) dJ14_clear_35 rfl ?_
    refine r_iload_n (pc := 36) dJ14_clear_36 rfl ?_
    refine r_aload_n (pc := 37) dJ14_clear_37 rfl ?_
    refine gJ14_7 (pc := 38) dJ14_clear_38 (hp.at 0 rfl) rfl ?_
    refine r_icmp_lt (pc := 41) (tgt := 45) dJ14_clear_41 (by decide) (by omega) (by omega) (fun c41 => ?_) (fun c41 => absurd (by omega) c41)
    refine r_aload_n (pc := 45) dJ14_clear_45 rfl ?_
    refine gJ14_11 (pc := 46) dJ14_clear_46 (hp.at 0 rfl) rfl ?_
    refine r_iload_n (pc := 49) dJ14_clear_49 rfl ?_
    refine r_dup2 (pc := 50) dJ14_clear_50 rfl rfl ?_
    refine r_lald (pc := 51) dJ14_clear_51 (hp.at 1 rfl) (by omega) (by omega) (by omega) ?_
    refine go_jv (y := lN z) q3 ?_
    refine r_lconst (pc := 52) dJ14_clear_52 ?_
    refine r_iload_n (pc := 53) dJ14_clear_53 rfl ?_
    refine q_lshl (pc := 54) dJ14_clear_54 rfl ?_
    refine r_ldc2 (pc := 55) dJ14_clear_55 q1653 ?_
    refine q_lxor (pc := 58) dJ14_clear_58 ?_
    refine q_land (pc := 59) dJ14_clear_59 ?_
    refine go_jv (clB k hk z hz) ?_
    refine r_last (pc := 60) dJ14_clear_60 (hp.at 1 rfl) ht (by omega) (by omega) (by omega) ?_
    refine go_pw (hp.put 1 rfl) (fun h hp => ?_)
    refine r_aload_n (pc := 61) dJ14_clear_61 rfl ?_
    refine r_callV (pc := 62) (kb' := 0) dJ14_clear_62 kJ14_recalculateWordsInUse q1654 (t_J14_recalculateWordsInUse (hp.at 0 rfl) (hp.at 1 rfl) (z := z) rfl q4 z0 ht) (hp.at 0 rfl) rfl (Nat.le_refl _) (Nat.le_of_ble_eq_true rfl) rfl rfl (Nat.le_of_ble_eq_true rfl) (fun _ _ q => q.elim) (fun _ h hq => ?_)
    refine go_jN hq (fun e9 => ?_)
    subst e9
    refine go_pw (hp.put 0 rfl) (fun h hp => ?_)
    refine r_aload_n (pc := 65) dJ14_clear_65 rfl ?_
    refine r_callV (pc := 66) (kb' := 0) dJ14_clear_66 kJ14_checkInvariants q1643 (t_J14_checkInvariants ) (hp.at 0 rfl) rfl (Nat.le_refl _) (Nat.le_of_ble_eq_true rfl) rfl rfl (Nat.le_of_ble_eq_true rfl) (fun _ _ q => q.elim) (fun _ h hq => ?_)
    refine go_jN hq (fun e => ?_)
    subst e
    exact r_vret (pc := 69) dJ14_clear_69 rfl ⟨rfl, ⟨w, _, _, bsE (hp.at 0 rfl) (congrArg (fun q => Value.int (iZ q)) (bsI z0).symm), hp.at 1 rfl, rfl, q4⟩, hp.fr ⟨FA.t q1, FA.t q2, trivial⟩⟩
  · refine Ct.of (own := "java/util/BitSet") (nm := "clear") (by decide +kernel) rfl rfl (L := [some (.ref a), some (.int (iZ k)), none]) rfl (Nat.le_of_ble_eq_true rfl) rfl ?_
    refine r_iload_n (pc := 0) dJ14_clear_0 rfl ?_
    refine r_if_ge (pc := 1) (tgt := 31) dJ14_clear_1 (by decide) (by omega) (fun c1 => ?_) (fun c1 => absurd (by omega) c1)
    refine r_iload_n (pc := 31) dJ14_clear_31 rfl ?_
    refine r_callS (pc := 32) (kb' := 0) dJ14_clear_32 kJ14_wordIndex q1595 (t_J14_wordIndex (by omega)) (Nat.le_refl _) (Nat.le_of_ble_eq_true rfl) rfl rfl (Nat.le_of_ble_eq_true rfl) (fun _ _ q => q.elim) (fun _ _ hq => ?_)
    refine go_jE hq ?_
    refine r_istore_n (pc := 35) (L' := [_, _, _]) dJ14_clear_35 rfl ?_
    refine r_iload_n (pc := 36) dJ14_clear_36 rfl ?_
    refine r_aload_n (pc := 37) dJ14_clear_37 rfl ?_
    refine gJ14_7 (pc := 38) dJ14_clear_38 (hp.at 0 rfl) rfl ?_
    refine r_icmp_lt (pc := 41) (tgt := 45) dJ14_clear_41 (by decide) (by omega) (by omega) (fun c41 => absurd c41 (by omega)) (fun c41 => ?_)
    exact r_vret (pc := 44) dJ14_clear_44 rfl ⟨rfl, hA, Fr.rf⟩
theorem t_J14_set {G : Gl} {h : Hp} {a z k : Nat} {t : Tg} {p : Prop} [Decidable p] (hA : BS t a z h) (ht : t ≠ frz) (hk : k < 12) (hz : z < 2 ^ k) : Ct G 4 0 yJ14_set (Cond.code yJ14_set cJ14_set 3 (none)) [.ref a, .int (iZ k), .int (iZ (bZ p))] h (jN (fun h' => BS t a (if p then z + 2 ^ k else z) h' ∧ Fr (fun x => x = t) h h')) noX := by
  have hA0 := hA
  obtain ⟨w, f, s, q1, q2, q3, q4⟩ := hA0
  have zi := bZn_in z
  refine Ct.of (own := "java/util/BitSet") (nm := "set") (by decide +kernel) rfl rfl (L := [some (.ref a), some (.int (iZ k)), some (.int (iZ (bZ p)))]) rfl (Nat.le_of_ble_eq_true rfl) rfl ?_
  refine r_iload_n (pc := 0) dJ14_set_0 rfl ?_
  refine r_ifB_eq (pc := 1) (tgt := 12) dJ14_set_1 (by decide) (fun c1 => ?_) (fun c1 => ?_)
  · refine r_aload_n (pc := 12) dJ14_set_12 rfl ?_
    refine r_iload_n (pc := 13) dJ14_set_13 rfl ?_
    refine r_callV (pc := 14) (kb' := 0) dJ14_set_14 kJ14_clear q1649 (t_J14_clear hA ht hk hz) q1 rfl (Nat.le_refl _) (Nat.le_of_ble_eq_true rfl) rfl rfl (Nat.le_of_ble_eq_true rfl) (fun _ _ q => q.elim) (fun _ h hq => ?_)
    refine go_jN hq (fun hq => ?_)
    exact r_vret (pc := 17) dJ14_set_17 rfl ⟨rfl, by first | (rw [if_pos (by assumption)]; exact hq) | (rw [if_neg (by assumption)]; exact hq)⟩
  · refine r_aload_n (pc := 4) dJ14_set_4 rfl ?_
    refine r_iload_n (pc := 5) dJ14_set_5 rfl ?_
    refine r_callV (pc := 6) (kb' := 0) dJ14_set_6 kJ14_set_2 q1614 (t_J14_set_2 hA ht hk hz) q1 rfl (Nat.le_refl _) (Nat.le_of_ble_eq_true rfl) rfl rfl (Nat.le_of_ble_eq_true rfl) (fun _ _ q => q.elim) (fun _ h hq => ?_)
    refine go_jN hq (fun hq => ?_)
    refine r_goto (pc := 9) (tgt := 17) dJ14_set_9 (by decide) ?_
    exact r_vret (pc := 17) dJ14_set_17 rfl ⟨rfl, by first | (rw [if_pos (by assumption)]; exact hq) | (rw [if_neg (by assumption)]; exact hq)⟩
theorem t_J25_bitCount {G : Gl} {h : Hp} {z : Nat} (hz : z < 4096) : Ct G 1 0 yJ25_bitCount (Cond.code yJ25_bitCount cJ25_bitCount 2 (some .int)) [.long (lN z)] h (jE (.int (iZ (pcN 12 z : Nat))) h) noX := by
  refine Ct.of (own := "java/lang/Long") (nm := "bitCount") (by decide +kernel) rfl rfl (L := [some (.long (lN z)), none]) rfl (Nat.le_of_ble_eq_true rfl) rfl ?_
  refine r_lload_n (pc := 0) dJ25_bitCount_0 rfl ?_
  refine r_lload_n (pc := 1) dJ25_bitCount_1 rfl ?_
  refine r_iconst (pc := 2) dJ25_bitCount_2 ?_
  refine q_lushr (pc := 3) dJ25_bitCount_3 rfl ?_
  refine r_ldc2 (pc := 4) dJ25_bitCount_4 q1665 ?_
  refine q_land (pc := 7) dJ25_bitCount_7 ?_
  refine q_lsub (pc := 8) dJ25_bitCount_8 ?_
  refine r_lstore_n (pc := 9) (L' := [_, _]) dJ25_bitCount_9 rfl ?_
  refine r_lload_n (pc := 10) dJ25_bitCount_10 rfl ?_
  refine r_ldc2 (pc := 11) dJ25_bitCount_11 q1666 ?_
  refine q_land (pc := 14) dJ25_bitCount_14 ?_
  refine r_lload_n (pc := 15) dJ25_bitCount_15 rfl ?_
  refine r_iconst (pc := 16) dJ25_bitCount_16 ?_
  refine q_lushr (pc := 17) dJ25_bitCount_17 rfl ?_
  refine r_ldc2 (pc := 18) dJ25_bitCount_18 q1666 ?_
  refine q_land (pc := 21) dJ25_bitCount_21 ?_
  refine q_ladd (pc := 22) dJ25_bitCount_22 ?_
  refine r_lstore_n (pc := 23) (L' := [_, _]) dJ25_bitCount_23 rfl ?_
  refine r_lload_n (pc := 24) dJ25_bitCount_24 rfl ?_
  refine r_lload_n (pc := 25) dJ25_bitCount_25 rfl ?_
  refine r_iconst (pc := 26) dJ25_bitCount_26 ?_
  refine q_lushr (pc := 27) dJ25_bitCount_27 rfl ?_
  refine q_ladd (pc := 28) dJ25_bitCount_28 ?_
  refine r_ldc2 (pc := 29) dJ25_bitCount_29 q1667 ?_
  refine q_land (pc := 32) dJ25_bitCount_32 ?_
  refine r_lstore_n (pc := 33) (L' := [_, _]) dJ25_bitCount_33 rfl ?_
  refine r_lload_n (pc := 34) dJ25_bitCount_34 rfl ?_
  refine r_lload_n (pc := 35) dJ25_bitCount_35 rfl ?_
  refine r_bipush (pc := 36) dJ25_bitCount_36 (by decide) ?_
  refine q_lushr (pc := 38) dJ25_bitCount_38 rfl ?_
  refine q_ladd (pc := 39) dJ25_bitCount_39 ?_
  refine r_lstore_n (pc := 40) (L' := [_, _]) dJ25_bitCount_40 rfl ?_
  refine r_lload_n (pc := 41) dJ25_bitCount_41 rfl ?_
  refine r_lload_n (pc := 42) dJ25_bitCount_42 rfl ?_
  refine r_bipush (pc := 43) dJ25_bitCount_43 (by decide) ?_
  refine q_lushr (pc := 45) dJ25_bitCount_45 rfl ?_
  refine q_ladd (pc := 46) dJ25_bitCount_46 ?_
  refine r_lstore_n (pc := 47) (L' := [_, _]) dJ25_bitCount_47 rfl ?_
  refine r_lload_n (pc := 48) dJ25_bitCount_48 rfl ?_
  refine r_lload_n (pc := 49) dJ25_bitCount_49 rfl ?_
  refine r_bipush (pc := 50) dJ25_bitCount_50 (by decide) ?_
  refine q_lushr (pc := 52) dJ25_bitCount_52 rfl ?_
  refine q_ladd (pc := 53) dJ25_bitCount_53 ?_
  refine r_lstore_n (pc := 54) (L' := [_, _]) dJ25_bitCount_54 rfl ?_
  refine r_lload_n (pc := 55) dJ25_bitCount_55 rfl ?_
  refine r_l2i (pc := 56) dJ25_bitCount_56 rfl ?_
  refine r_bipush (pc := 57) dJ25_bitCount_57 (by decide) ?_
  refine q_iand (pc := 59) dJ25_bitCount_59 ?_
  exact r_iret (pc := 60) dJ25_bitCount_60 rfl rfl ⟨congrArg (fun x => some (Value.int x)) (bc_ok z hz), rfl⟩
