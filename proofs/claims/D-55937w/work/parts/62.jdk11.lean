set_option maxRecDepth 100000
/-! JDK, part 11: BitSet: counting, seeking -/
theorem pcN_le : ∀ n z, pcN n z ≤ n
  | 0, _ => Nat.le_refl _
  | n + 1, z => by
    have := pcN_le n (z / 2)
    show z % 2 + pcN n (z / 2) ≤ n + 1
    omega
theorem pc_le (z : Nat) : pcN 12 z ≤ 12 := pcN_le 12 z
theorem t_J14_cardinality {G : Gl} {h : Hp} {a z : Nat} {t : Tg} (hA : BS t a z h) : Ct G 2 0 yJ14_cardinality (Cond.code yJ14_cardinality cJ14_cardinality 3 (some .int)) [.ref a] h (jE (.int (iZ (pcN 12 z : Nat))) h) noX := by
  have hA0 := hA
  obtain ⟨w, f, s, q1, q2, q3, q4⟩ := hA0
  have zi := bZn_in z
  by_cases z0 : z = 0
  rw [if_pos z0] at q1
  rotate_left
  rw [if_neg z0] at q1
  · refine Ct.of (own := "java/util/BitSet") (nm := "cardinality") (by decide +kernel) rfl rfl (L := [some (.ref a), none, none]) rfl (Nat.le_of_ble_eq_true rfl) rfl ?_
    refine r_iconst (pc := 0) dJ14_cardinality_0 ?_
    refine r_istore_n (pc := 1) (L' := [_, _, _]) dJ14_cardinality_1 rfl ?_
    refine r_iconst (pc := 2) dJ14_cardinality_2 ?_
    refine r_istore_n (pc := 3) (L' := [_, _, _]) dJ14_cardinality_3 rfl ?_
    refine r_iload_n (pc := 4) dJ14_cardinality_4 rfl ?_
    refine r_aload_n (pc := 5) dJ14_cardinality_5 rfl ?_
    refine gJ14_7 (pc := 6) dJ14_cardinality_6 q1 rfl ?_
    refine r_icmp_ge (pc := 9) (tgt := 30) dJ14_cardinality_9 (by decide) (by omega) (by omega) (fun c9 => absurd c9 (by omega)) (fun c9 => ?_)
    have p12 : (pcN 12 z : Int) ≤ 12 ∧ 0 ≤ (pcN 12 z : Int) := by have := pc_le z; omega
    refine r_iload_n (pc := 12) dJ14_cardinality_12 rfl ?_
    refine r_aload_n (pc := 13) dJ14_cardinality_13 rfl ?_
    refine gJ14_11 (pc := 14) dJ14_cardinality_14 q1 rfl ?_
    refine r_iload_n (pc := 17) dJ14_cardinality_17 rfl ?_
    refine r_lald (pc := 18) dJ14_cardinality_18 q2 (by omega) (by omega) (by omega) ?_
    refine go_jv (y := lN z) q3 ?_
    refine r_callS (pc := 19) (kb' := 0) dJ14_cardinality_19 kJ25_bitCount q1662 (t_J25_bitCount q4) (Nat.le_refl _) (Nat.le_of_ble_eq_true rfl) rfl rfl (Nat.le_of_ble_eq_true rfl) (fun _ _ q => q.elim) (fun _ _ hq => ?_)
    refine go_jE hq ?_
    refine r_iadd (pc := 22) dJ14_cardinality_22 ?_
    refine go_cz (w := ((pcN 12 z : Nat) : Int)) (by omega) ?_
    refine r_istore_n (pc := 23) (L' := [_, _, _]) dJ14_cardinality_23 rfl ?_
    refine r_iinc (pc := 24) (L' := [_, _, _]) dJ14_cardinality_24 rfl rfl ?_
    refine r_goto (pc := 27) (tgt := 4) dJ14_cardinality_27 (by decide) ?_
    refine r_iload_n (pc := 4) dJ14_cardinality_4 rfl ?_
    refine r_aload_n (pc := 5) dJ14_cardinality_5 rfl ?_
    refine gJ14_7 (pc := 6) dJ14_cardinality_6 q1 rfl ?_
    refine r_icmp_ge (pc := 9) (tgt := 30) dJ14_cardinality_9 (by decide) (by omega) (by omega) (fun c9 => ?_) (fun c9 => absurd (by omega) c9)
    refine r_iload_n (pc := 30) dJ14_cardinality_30 rfl ?_
    exact r_iret (pc := 31) dJ14_cardinality_31 rfl rfl ⟨rfl, rfl⟩
  · refine Ct.of (own := "java/util/BitSet") (nm := "cardinality") (by decide +kernel) rfl rfl (L := [some (.ref a), none, none]) rfl (Nat.le_of_ble_eq_true rfl) rfl ?_
    refine r_iconst (pc := 0) dJ14_cardinality_0 ?_
    refine r_istore_n (pc := 1) (L' := [_, _, _]) dJ14_cardinality_1 rfl ?_
    refine r_iconst (pc := 2) dJ14_cardinality_2 ?_
    refine r_istore_n (pc := 3) (L' := [_, _, _]) dJ14_cardinality_3 rfl ?_
    refine r_iload_n (pc := 4) dJ14_cardinality_4 rfl ?_
    refine r_aload_n (pc := 5) dJ14_cardinality_5 rfl ?_
    refine gJ14_7 (pc := 6) dJ14_cardinality_6 q1 rfl ?_
    refine r_icmp_ge (pc := 9) (tgt := 30) dJ14_cardinality_9 (by decide) (by omega) (by omega) (fun c9 => ?_) (fun c9 => absurd (by omega) c9)
    refine r_iload_n (pc := 30) dJ14_cardinality_30 rfl ?_
    exact r_iret (pc := 31) dJ14_cardinality_31 rfl rfl ⟨by subst z0; rfl, rfl⟩
theorem t_J23_numberOfTrailingZeros {G : Gl} {h : Hp} {z : Nat} (hz : z < 4096) (h0 : z ≠ 0) : Ct G 1 0 yJ23_numberOfTrailingZeros (Cond.code yJ23_numberOfTrailingZeros cJ23_numberOfTrailingZeros 2 (some .int)) [.int (iZ z)] h (jE (.int (iZ (nsB z 0))) h) noX := by
  have hb := ntB z hz h0
  have he := eP2 hb rfl
  generalize hk9 : nsB z 0 = k9 at hb he
  generalize he9 : (2 : Int) ^ k9.toNat - 1 = e9 at he
  refine Ct.of (own := "java/lang/Integer") (nm := "numberOfTrailingZeros") (by decide +kernel) rfl rfl (L := [some (.int (iZ z)), none]) rfl (Nat.le_of_ble_eq_true rfl) rfl ?_
  refine r_iload_n (pc := 0) dJ23_numberOfTrailingZeros_0 rfl ?_
  refine r_iconst (pc := 1) dJ23_numberOfTrailingZeros_1 ?_
  refine q_ixor (pc := 2) dJ23_numberOfTrailingZeros_2 ?_
  refine r_iload_n (pc := 3) dJ23_numberOfTrailingZeros_3 rfl ?_
  refine r_iconst (pc := 4) dJ23_numberOfTrailingZeros_4 ?_
  refine r_isub (pc := 5) dJ23_numberOfTrailingZeros_5 ?_
  refine q_iand (pc := 6) dJ23_numberOfTrailingZeros_6 ?_
  refine go_ci (z := e9) ((ntA z hz h0).trans (by rw [hk9, he9])) ?_
  refine r_istore_n (pc := 7) (L' := [_, _]) dJ23_numberOfTrailingZeros_7 rfl ?_
  refine r_iload_n (pc := 8) dJ23_numberOfTrailingZeros_8 rfl ?_
  refine r_if_gt (pc := 9) (tgt := 17) dJ23_numberOfTrailingZeros_9 (by decide) (by omega) (fun c9 => ?_) (fun c9 => ?_)
  · refine r_iconst (pc := 17) dJ23_numberOfTrailingZeros_17 ?_
    refine r_istore_n (pc := 18) (L' := [_, _]) dJ23_numberOfTrailingZeros_18 rfl ?_
    refine r_iload_n (pc := 19) dJ23_numberOfTrailingZeros_19 rfl ?_
    refine r_ldcw (pc := 20) dJ23_numberOfTrailingZeros_20 q2008 ?_
    refine go_ci (z := 65536) rfl ?_
    refine r_icmp_le (pc := 23) (tgt := 34) dJ23_numberOfTrailingZeros_23 (by decide) (by omega) (by omega) (fun c23 => ?_) (fun c23 => absurd (by omega) c23)
    refine r_iload_n (pc := 34) dJ23_numberOfTrailingZeros_34 rfl ?_
    refine r_sipush (pc := 35) dJ23_numberOfTrailingZeros_35 (by decide) ?_
    refine r_icmp_le (pc := 38) (tgt := 49) dJ23_numberOfTrailingZeros_38 (by decide) (by omega) (by omega) (fun c38 => ?_) (fun c38 => ?_)
    · refine r_iload_n (pc := 49) dJ23_numberOfTrailingZeros_49 rfl ?_
      refine r_bipush (pc := 50) dJ23_numberOfTrailingZeros_50 (by decide) ?_
      refine r_icmp_le (pc := 52) (tgt := 62) dJ23_numberOfTrailingZeros_52 (by decide) (by omega) (by omega) (fun c52 => ?_) (fun c52 => ?_)
      · refine r_iload_n (pc := 62) dJ23_numberOfTrailingZeros_62 rfl ?_
        refine r_iconst (pc := 63) dJ23_numberOfTrailingZeros_63 ?_
        refine r_icmp_le (pc := 64) (tgt := 74) dJ23_numberOfTrailingZeros_64 (by decide) (by omega) (by omega) (fun c64 => ?_) (fun c64 => ?_)
        · refine r_iload_n (pc := 74) dJ23_numberOfTrailingZeros_74 rfl ?_
          refine r_iload_n (pc := 75) dJ23_numberOfTrailingZeros_75 rfl ?_
          refine r_iconst (pc := 76) dJ23_numberOfTrailingZeros_76 ?_
          refine r_iushr1 (pc := 77) dJ23_numberOfTrailingZeros_77 (by omega) ?_
          refine r_iadd (pc := 78) dJ23_numberOfTrailingZeros_78 ?_
          exact r_iret (pc := 79) dJ23_numberOfTrailingZeros_79 rfl rfl ⟨congrArg (fun q : Int => some (Value.int (iZ q))) (by omega), rfl⟩
        · refine r_iinc (pc := 67) (L' := [_, _]) dJ23_numberOfTrailingZeros_67 rfl rfl ?_
          refine r_iload_n (pc := 70) dJ23_numberOfTrailingZeros_70 rfl ?_
          refine r_iconst (pc := 71) dJ23_numberOfTrailingZeros_71 ?_
          refine r_iushr2 (pc := 72) dJ23_numberOfTrailingZeros_72 (by omega) ?_
          refine r_istore_n (pc := 73) (L' := [_, _]) dJ23_numberOfTrailingZeros_73 rfl ?_
          refine r_iload_n (pc := 74) dJ23_numberOfTrailingZeros_74 rfl ?_
          refine r_iload_n (pc := 75) dJ23_numberOfTrailingZeros_75 rfl ?_
          refine r_iconst (pc := 76) dJ23_numberOfTrailingZeros_76 ?_
          refine r_iushr1 (pc := 77) dJ23_numberOfTrailingZeros_77 (by omega) ?_
          refine r_iadd (pc := 78) dJ23_numberOfTrailingZeros_78 ?_
          exact r_iret (pc := 79) dJ23_numberOfTrailingZeros_79 rfl rfl ⟨congrArg (fun q : Int => some (Value.int (iZ q))) (by omega), rfl⟩
      · refine r_iinc (pc := 55) (L' := [_, _]) dJ23_numberOfTrailingZeros_55 rfl rfl ?_
        refine r_iload_n (pc := 58) dJ23_numberOfTrailingZeros_58 rfl ?_
        refine r_iconst (pc := 59) dJ23_numberOfTrailingZeros_59 ?_
        refine r_iushr4 (pc := 60) dJ23_numberOfTrailingZeros_60 (by omega) ?_
        refine r_istore_n (pc := 61) (L' := [_, _]) dJ23_numberOfTrailingZeros_61 rfl ?_
        refine r_iload_n (pc := 62) dJ23_numberOfTrailingZeros_62 rfl ?_
        refine r_iconst (pc := 63) dJ23_numberOfTrailingZeros_63 ?_
        refine r_icmp_le (pc := 64) (tgt := 74) dJ23_numberOfTrailingZeros_64 (by decide) (by omega) (by omega) (fun c64 => ?_) (fun c64 => ?_)
        · refine r_iload_n (pc := 74) dJ23_numberOfTrailingZeros_74 rfl ?_
          refine r_iload_n (pc := 75) dJ23_numberOfTrailingZeros_75 rfl ?_
          refine r_iconst (pc := 76) dJ23_numberOfTrailingZeros_76 ?_
          refine r_iushr1 (pc := 77) dJ23_numberOfTrailingZeros_77 (by omega) ?_
          refine r_iadd (pc := 78) dJ23_numberOfTrailingZeros_78 ?_
          exact r_iret (pc := 79) dJ23_numberOfTrailingZeros_79 rfl rfl ⟨congrArg (fun q : Int => some (Value.int (iZ q))) (by omega), rfl⟩
        · refine r_iinc (pc := 67) (L' := [_, _]) dJ23_numberOfTrailingZeros_67 rfl rfl ?_
          refine r_iload_n (pc := 70) dJ23_numberOfTrailingZeros_70 rfl ?_
          refine r_iconst (pc := 71) dJ23_numberOfTrailingZeros_71 ?_
          refine r_iushr2 (pc := 72) dJ23_numberOfTrailingZeros_72 (by omega) ?_
          refine r_istore_n (pc := 73) (L' := [_, _]) dJ23_numberOfTrailingZeros_73 rfl ?_
          refine r_iload_n (pc := 74) dJ23_numberOfTrailingZeros_74 rfl ?_
          refine r_iload_n (pc := 75) dJ23_numberOfTrailingZeros_75 rfl ?_
          refine r_iconst (pc := 76) dJ23_numberOfTrailingZeros_76 ?_
          refine r_iushr1 (pc := 77) dJ23_numberOfTrailingZeros_77 (by omega) ?_
          refine r_iadd (pc := 78) dJ23_numberOfTrailingZeros_78 ?_
          exact r_iret (pc := 79) dJ23_numberOfTrailingZeros_79 rfl rfl ⟨congrArg (fun q : Int => some (Value.int (iZ q))) (by omega), rfl⟩
    · refine r_iinc (pc := 41) (L' := [_, _]) dJ23_numberOfTrailingZeros_41 rfl rfl ?_
      refine r_iload_n (pc := 44) dJ23_numberOfTrailingZeros_44 rfl ?_
      refine r_bipush (pc := 45) dJ23_numberOfTrailingZeros_45 (by decide) ?_
      refine r_iushr8 (pc := 47) dJ23_numberOfTrailingZeros_47 (by omega) ?_
      refine r_istore_n (pc := 48) (L' := [_, _]) dJ23_numberOfTrailingZeros_48 rfl ?_
      refine r_iload_n (pc := 49) dJ23_numberOfTrailingZeros_49 rfl ?_
      refine r_bipush (pc := 50) dJ23_numberOfTrailingZeros_50 (by decide) ?_
      refine r_icmp_le (pc := 52) (tgt := 62) dJ23_numberOfTrailingZeros_52 (by decide) (by omega) (by omega) (fun c52 => ?_) (fun c52 => ?_)
      · refine r_iload_n (pc := 62) dJ23_numberOfTrailingZeros_62 rfl ?_
        refine r_iconst (pc := 63) dJ23_numberOfTrailingZeros_63 ?_
        refine r_icmp_le (pc := 64) (tgt := 74) dJ23_numberOfTrailingZeros_64 (by decide) (by omega) (by omega) (fun c64 => ?_) (fun c64 => ?_)
        · refine r_iload_n (pc := 74) dJ23_numberOfTrailingZeros_74 rfl ?_
          refine r_iload_n (pc := 75) dJ23_numberOfTrailingZeros_75 rfl ?_
          refine r_iconst (pc := 76) dJ23_numberOfTrailingZeros_76 ?_
          refine r_iushr1 (pc := 77) dJ23_numberOfTrailingZeros_77 (by omega) ?_
          refine r_iadd (pc := 78) dJ23_numberOfTrailingZeros_78 ?_
          exact r_iret (pc := 79) dJ23_numberOfTrailingZeros_79 rfl rfl ⟨congrArg (fun q : Int => some (Value.int (iZ q))) (by omega), rfl⟩
        · refine r_iinc (pc := 67) (L' := [_, _]) dJ23_numberOfTrailingZeros_67 rfl rfl ?_
          refine r_iload_n (pc := 70) dJ23_numberOfTrailingZeros_70 rfl ?_
          refine r_iconst (pc := 71) dJ23_numberOfTrailingZeros_71 ?_
          refine r_iushr2 (pc := 72) dJ23_numberOfTrailingZeros_72 (by omega) ?_
          refine r_istore_n (pc := 73) (L' := [_, _]) dJ23_numberOfTrailingZeros_73 rfl ?_
          refine r_iload_n (pc := 74) dJ23_numberOfTrailingZeros_74 rfl ?_
          refine r_iload_n (pc := 75) dJ23_numberOfTrailingZeros_75 rfl ?_
          refine r_iconst (pc := 76) dJ23_numberOfTrailingZeros_76 ?_
          refine r_iushr1 (pc := 77) dJ23_numberOfTrailingZeros_77 (by omega) ?_
          refine r_iadd (pc := 78) dJ23_numberOfTrailingZeros_78 ?_
          exact r_iret (pc := 79) dJ23_numberOfTrailingZeros_79 rfl rfl ⟨congrArg (fun q : Int => some (Value.int (iZ q))) (by omega), rfl⟩
      · refine r_iinc (pc := 55) (L' := [_, _]) dJ23_numberOfTrailingZeros_55 rfl rfl ?_
        refine r_iload_n (pc := 58) dJ23_numberOfTrailingZeros_58 rfl ?_
        refine r_iconst (pc := 59) dJ23_numberOfTrailingZeros_59 ?_
        refine r_iushr4 (pc := 60) dJ23_numberOfTrailingZeros_60 (by omega) ?_
        refine r_istore_n (pc := 61) (L' := [_, _]) dJ23_numberOfTrailingZeros_61 rfl ?_
        refine r_iload_n (pc := 62) dJ23_numberOfTrailingZeros_62 rfl ?_
        refine r_iconst (pc := 63) dJ23_numberOfTrailingZeros_63 ?_
        refine r_icmp_le (pc := 64) (tgt := 74) dJ23_numberOfTrailingZeros_64 (by decide) (by omega) (by omega) (fun c64 => ?_) (fun c64 => ?_)
        · refine r_iload_n (pc := 74) dJ23_numberOfTrailingZeros_74 rfl ?_
          refine r_iload_n (pc := 75) dJ23_numberOfTrailingZeros_75 rfl ?_
          refine r_iconst (pc := 76) dJ23_numberOfTrailingZeros_76 ?_
          refine r_iushr1 (pc := 77) dJ23_numberOfTrailingZeros_77 (by omega) ?_
          refine r_iadd (pc := 78) dJ23_numberOfTrailingZeros_78 ?_
          exact r_iret (pc := 79) dJ23_numberOfTrailingZeros_79 rfl rfl ⟨congrArg (fun q : Int => some (Value.int (iZ q))) (by omega), rfl⟩
        · refine r_iinc (pc := 67) (L' := [_, _]) dJ23_numberOfTrailingZeros_67 rfl rfl ?_
          refine r_iload_n (pc := 70) dJ23_numberOfTrailingZeros_70 rfl ?_
          refine r_iconst (pc := 71) dJ23_numberOfTrailingZeros_71 ?_
          refine r_iushr2 (pc := 72) dJ23_numberOfTrailingZeros_72 (by omega) ?_
          refine r_istore_n (pc := 73) (L' := [_, _]) dJ23_numberOfTrailingZeros_73 rfl ?_
          refine r_iload_n (pc := 74) dJ23_numberOfTrailingZeros_74 rfl ?_
          refine r_iload_n (pc := 75) dJ23_numberOfTrailingZeros_75 rfl ?_
          refine r_iconst (pc := 76) dJ23_numberOfTrailingZeros_76 ?_
          refine r_iushr1 (pc := 77) dJ23_numberOfTrailingZeros_77 (by omega) ?_
          refine r_iadd (pc := 78) dJ23_numberOfTrailingZeros_78 ?_
          exact r_iret (pc := 79) dJ23_numberOfTrailingZeros_79 rfl rfl ⟨congrArg (fun q : Int => some (Value.int (iZ q))) (by omega), rfl⟩
  · refine r_iload_n (pc := 12) dJ23_numberOfTrailingZeros_12 rfl ?_
    refine r_bipush (pc := 13) dJ23_numberOfTrailingZeros_13 (by decide) ?_
    refine q_iand (pc := 15) dJ23_numberOfTrailingZeros_15 ?_
    exact r_iret (pc := 16) dJ23_numberOfTrailingZeros_16 rfl rfl ⟨by rw [show e9 = 0 by omega, show k9 = 0 by omega]; decide, rfl⟩
theorem t_J25_numberOfTrailingZeros {G : Gl} {h : Hp} {z : Nat} (hz : z < 4096) (h0 : z ≠ 0) : Ct G 2 0 yJ25_numberOfTrailingZeros (Cond.code yJ25_numberOfTrailingZeros cJ25_numberOfTrailingZeros 3 (some .int)) [.long (lN z)] h (jE (.int (iZ (nsB z 0))) h) noX := by
  refine Ct.of (own := "java/lang/Long") (nm := "numberOfTrailingZeros") (by decide +kernel) rfl rfl (L := [some (.long (lN z)), none, none]) rfl (Nat.le_of_ble_eq_true rfl) rfl ?_
  refine r_lload_n (pc := 0) dJ25_numberOfTrailingZeros_0 rfl ?_
  refine r_l2i (pc := 1) dJ25_numberOfTrailingZeros_1 rfl ?_
  refine go_ci (z := (z : Int)) ((lN_i z).trans (iZ_nI (Int.natCast_nonneg _)).symm) ?_
  refine r_istore_n (pc := 2) (L' := [_, _, _]) dJ25_numberOfTrailingZeros_2 rfl ?_
  refine r_iload_n (pc := 3) dJ25_numberOfTrailingZeros_3 rfl ?_
  refine r_if_ne (pc := 4) (tgt := 21) dJ25_numberOfTrailingZeros_4 (by decide) (by omega) (fun c4 => ?_) (fun c4 => absurd (by omega) h0)
  refine r_iload_n (pc := 21) dJ25_numberOfTrailingZeros_21 rfl ?_
  refine r_callS (pc := 22) (kb' := 0) dJ25_numberOfTrailingZeros_22 kJ23_numberOfTrailingZeros q2005 (t_J23_numberOfTrailingZeros hz h0) (Nat.le_refl _) (Nat.le_of_ble_eq_true rfl) rfl rfl (Nat.le_of_ble_eq_true rfl) (fun _ _ q => q.elim) (fun _ _ hq => ?_)
  refine go_jE hq ?_
  exact r_iret (pc := 25) dJ25_numberOfTrailingZeros_25 rfl rfl ⟨rfl, rfl⟩
theorem t_J14_nextSetBit {G : Gl} {h : Hp} {a z k : Nat} {t : Tg} (hA : BS t a z h) (hk : k < 13) : Ct G 3 0 yJ14_nextSetBit (Cond.code yJ14_nextSetBit cJ14_nextSetBit 5 (some .int)) [.ref a, .int (iZ k)] h (jE (.int (iZ (nsB z k))) h) noX := by
  have hA0 := hA
  obtain ⟨w, f, s, q1, q2, q3, q4⟩ := hA0
  have zi := bZn_in z
  have hm := nsM k hk z q4
  have hw4 : z - z % 2 ^ k < 4096 := by omega
  by_cases z0 : z = 0
  rw [if_pos z0] at q1
  rotate_left
  rw [if_neg z0] at q1
  · refine Ct.of (own := "java/util/BitSet") (nm := "nextSetBit") (by decide +kernel) rfl rfl (L := [some (.ref a), some (.int (iZ k)), none, none, none]) rfl (Nat.le_of_ble_eq_true rfl) rfl ?_
    refine r_iload_n (pc := 0) dJ14_nextSetBit_0 rfl ?_
    refine r_if_ge (pc := 1) (tgt := 31) dJ14_nextSetBit_1 (by decide) (by first | omega | exact zi2) (fun c1 => ?_) (fun c1 => absurd (by omega) c1)
    refine r_aload_n (pc := 31) dJ14_nextSetBit_31 rfl ?_
    refine r_callV (pc := 32) (kb' := 0) dJ14_nextSetBit_32 kJ14_checkInvariants q1643 (t_J14_checkInvariants ) q1 rfl (Nat.le_refl _) (Nat.le_of_ble_eq_true rfl) rfl rfl (Nat.le_of_ble_eq_true rfl) (fun _ _ q => q.elim) (fun _ h hq => ?_)
    refine go_jN hq (fun e => ?_)
    subst e
    refine r_iload_n (pc := 35) dJ14_nextSetBit_35 rfl ?_
    refine r_callS (pc := 36) (kb' := 0) dJ14_nextSetBit_36 kJ14_wordIndex q1595 (t_J14_wordIndex (by omega)) (Nat.le_refl _) (Nat.le_of_ble_eq_true rfl) rfl rfl (Nat.le_of_ble_eq_true rfl) (fun _ _ q => q.elim) (fun _ _ hq => ?_)
    refine go_jE hq ?_
    refine r_istore_n (pc := 39) (L' := [_, _, _, _, _]) dJ14_nextSetBit_39 rfl ?_
    refine r_iload_n (pc := 40) dJ14_nextSetBit_40 rfl ?_
    refine r_aload_n (pc := 41) dJ14_nextSetBit_41 rfl ?_
    refine gJ14_7 (pc := 42) dJ14_nextSetBit_42 q1 rfl ?_
    refine r_icmp_lt (pc := 45) (tgt := 50) dJ14_nextSetBit_45 (by decide) (by first | omega | exact zi2) (by first | omega | exact zi2) (fun c45 => ?_) (fun c45 => absurd (by omega) c45)
    refine r_aload_n (pc := 50) dJ14_nextSetBit_50 rfl ?_
    refine gJ14_11 (pc := 51) dJ14_nextSetBit_51 q1 rfl ?_
    refine r_iload_n (pc := 54) dJ14_nextSetBit_54 rfl ?_
    refine r_lald (pc := 55) dJ14_nextSetBit_55 q2 (by omega) (by omega) (by omega) ?_
    refine go_jv (y := lN z) q3 ?_
    refine r_ldc2 (pc := 56) dJ14_nextSetBit_56 q1653 ?_
    refine r_iload_n (pc := 59) dJ14_nextSetBit_59 rfl ?_
    refine q_lshl (pc := 60) dJ14_nextSetBit_60 rfl ?_
    refine q_land (pc := 61) dJ14_nextSetBit_61 ?_
    refine go_jv (mkB k hk z q4) ?_
    refine r_lstore_n (pc := 62) (L' := [_, _, _, _, _]) dJ14_nextSetBit_62 rfl ?_
    refine r_lload_n (pc := 63) dJ14_nextSetBit_63 rfl ?_
    refine r_lconst (pc := 64) dJ14_nextSetBit_64 ?_
    refine r_lcmp (pc := 65) dJ14_nextSetBit_65 ?_
    refine go_ci (lcB _ hw4) ?_
    have zi2 := bZn_in (z - z % 2 ^ k)
    refine r_if_eq (pc := 66) (tgt := 79) dJ14_nextSetBit_66 (by decide) (by first | omega | exact zi2) (fun c66 => ?_) (fun c66 => ?_)
    · refine r_iinc (pc := 79) (L' := [_, _, _, _, _]) dJ14_nextSetBit_79 rfl rfl ?_
      refine r_iload_n (pc := 82) dJ14_nextSetBit_82 rfl ?_
      refine r_aload_n (pc := 83) dJ14_nextSetBit_83 rfl ?_
      refine gJ14_7 (pc := 84) dJ14_nextSetBit_84 q1 rfl ?_
      refine r_icmp_ne (pc := 87) (tgt := 92) dJ14_nextSetBit_87 (by decide) (by first | omega | exact zi2) (by first | omega | exact zi2) (fun c87 => absurd c87 (by omega)) (fun c87 => ?_)
      refine r_iconst (pc := 90) dJ14_nextSetBit_90 ?_
      exact r_iret (pc := 91) dJ14_nextSetBit_91 rfl rfl ⟨congrArg (fun q : Int => some (Value.int (iZ q))) (by rw [hm, if_pos (by apply Classical.byContradiction; intro e; rw [if_neg e] at c66; omega)]), rfl⟩
    · refine r_iload_n (pc := 69) dJ14_nextSetBit_69 rfl ?_
      refine r_bipush (pc := 70) dJ14_nextSetBit_70 (by decide) ?_
      refine r_imul (pc := 72) dJ14_nextSetBit_72 ?_
      refine r_lload_n (pc := 73) dJ14_nextSetBit_73 rfl ?_
      refine r_callS (pc := 74) (kb' := 0) dJ14_nextSetBit_74 kJ25_numberOfTrailingZeros q2002 (t_J25_numberOfTrailingZeros hw4 (by intro e; rw [if_pos e] at c66; omega)) (Nat.le_refl _) (Nat.le_of_ble_eq_true rfl) rfl rfl (Nat.le_of_ble_eq_true rfl) (fun _ _ q => q.elim) (fun _ _ hq => ?_)
      refine go_jE hq ?_
      have nb := ntB _ hw4 (by intro e; rw [if_pos e] at c66; omega)
      refine r_iadd (pc := 77) dJ14_nextSetBit_77 ?_
      exact r_iret (pc := 78) dJ14_nextSetBit_78 rfl rfl ⟨congrArg (fun q : Int => some (Value.int (iZ q))) (by rw [hm, if_neg (by intro e; rw [if_pos e] at c66; omega)]; omega), rfl⟩
  · refine Ct.of (own := "java/util/BitSet") (nm := "nextSetBit") (by decide +kernel) rfl rfl (L := [some (.ref a), some (.int (iZ k)), none, none, none]) rfl (Nat.le_of_ble_eq_true rfl) rfl ?_
    refine r_iload_n (pc := 0) dJ14_nextSetBit_0 rfl ?_
    refine r_if_ge (pc := 1) (tgt := 31) dJ14_nextSetBit_1 (by decide) (by omega) (fun c1 => ?_) (fun c1 => absurd (by omega) c1)
    refine r_aload_n (pc := 31) dJ14_nextSetBit_31 rfl ?_
    refine r_callV (pc := 32) (kb' := 0) dJ14_nextSetBit_32 kJ14_checkInvariants q1643 (t_J14_checkInvariants ) q1 rfl (Nat.le_refl _) (Nat.le_of_ble_eq_true rfl) rfl rfl (Nat.le_of_ble_eq_true rfl) (fun _ _ q => q.elim) (fun _ h hq => ?_)
    refine go_jN hq (fun e => ?_)
    subst e
    refine r_iload_n (pc := 35) dJ14_nextSetBit_35 rfl ?_
    refine r_callS (pc := 36) (kb' := 0) dJ14_nextSetBit_36 kJ14_wordIndex q1595 (t_J14_wordIndex (by omega)) (Nat.le_refl _) (Nat.le_of_ble_eq_true rfl) rfl rfl (Nat.le_of_ble_eq_true rfl) (fun _ _ q => q.elim) (fun _ _ hq => ?_)
    refine go_jE hq ?_
    refine r_istore_n (pc := 39) (L' := [_, _, _, _, _]) dJ14_nextSetBit_39 rfl ?_
    refine r_iload_n (pc := 40) dJ14_nextSetBit_40 rfl ?_
    refine r_aload_n (pc := 41) dJ14_nextSetBit_41 rfl ?_
    refine gJ14_7 (pc := 42) dJ14_nextSetBit_42 q1 rfl ?_
    refine r_icmp_lt (pc := 45) (tgt := 50) dJ14_nextSetBit_45 (by decide) (by omega) (by omega) (fun c45 => absurd c45 (by omega)) (fun c45 => ?_)
    refine r_iconst (pc := 48) dJ14_nextSetBit_48 ?_
    exact r_iret (pc := 49) dJ14_nextSetBit_49 rfl rfl ⟨congrArg (fun q : Int => some (Value.int (iZ q))) (by rw [hm, if_pos (by omega)]), rfl⟩
