set_option maxRecDepth 100000
theorem cuJ1_47_10 {G : Gl} : CUok G "java/util/AbstractList" "java/util/LinkedList" "java/util/AbstractList" 47 ⟨"java/util/AbstractList", "listIterator", "(I)Ljava/util/ListIterator;"⟩ yJ4_listIterator cJ4_listIterator 2 (some (.object "java/util/ListIterator")) 1 := cu_D q1087 q1089 q1158 q1124 ⟨q1125, q112, q1126, ⟨by decide, by decide⟩, by decide +kernel, by decide⟩
theorem cuJ3_65_10 {G : Gl} : CUok G "java/util/AbstractSequentialList" "java/util/LinkedList" "java/util/AbstractList" 65 ⟨"java/util/AbstractSequentialList", "listIterator", "()Ljava/util/ListIterator;"⟩ yJ1_listIterator cJ1_listIterator 1 (some (.object "java/util/ListIterator")) 0 := cu_U q1081 q1082 q1085 q1086 q1084 ⟨q1085, q109, q1086, ⟨by decide, by decide⟩, by decide +kernel, by decide⟩
/-! JDK, part 7: LinkedList: taking away; its iterator -/
theorem t_J4_unlink {G : Gl} {h : Hp} {a n : Nat} {t : Tg} {mc : Int32} {nd e : Nat → Nat} (hA : LL t a mc n nd e h) {l : Nat} (hl : l < n) (ht : t ≠ frz) : Ct G 1 0 yJ4_unlink (Cond.code yJ4_unlink cJ4_unlink 5 (some (.object "java/lang/Object"))) [.ref a, .ref (nd l)] h (jP (.ref (e l)) (fun h' => LL t a (mc + 1) (n - 1) (rmF1 nd l) (rmF1 e l) h' ∧ Fr (fun x => x = t) h h')) noX := by
  have hA0 := hA
  obtain ⟨q0, q1, q2, q3⟩ := hA0
  have x0 := q2 l hl
  unfold nxV pvV at x0
  by_cases c1 : l + 1 < n <;> by_cases c2 : 0 < l
  · rw [rfN_t (p := l + 1 < n) (by omega), rfN_t (p := 0 < l) (by omega)] at x0
    have hp := PW.two q1 x0 (hA.ane hl)
    have ynx := q2 (l + 1) (by omega)
    replace hp := hp.add ynx ⟨hA.ane (by omega), hA.nne hl (by omega) (by omega), trivial⟩
    have ypv := q2 (l - 1) (by omega)
    replace hp := hp.add ypv ⟨hA.ane (by omega), hA.nne hl (by omega) (by omega), hA.nne (by omega) (by omega) (by omega), trivial⟩
    refine Ct.of (own := "java/util/LinkedList") (nm := "unlink") (by decide +kernel) rfl rfl (L := [some (.ref a), some (.ref (nd l)), none, none, none]) rfl (Nat.le_of_ble_eq_true rfl) rfl ?_
    refine r_aload_n (pc := 0) dJ4_unlink_0 rfl ?_
    refine gJ4_39 (pc := 1) dJ4_unlink_1 (hp.at 1 rfl) rfl ?_
    refine r_astore_n (pc := 4) (L' := [_, _, _, _, _]) dJ4_unlink_4 rfl ?_
    refine r_aload_n (pc := 5) dJ4_unlink_5 rfl ?_
    refine gJ4_36 (pc := 6) dJ4_unlink_6 (hp.at 1 rfl) rfl ?_
    refine r_astore_n (pc := 9) (L' := [_, _, _, _, _]) dJ4_unlink_9 rfl ?_
    refine r_aload_n (pc := 10) dJ4_unlink_10 rfl ?_
    refine gJ4_30 (pc := 11) dJ4_unlink_11 (hp.at 1 rfl) rfl ?_
    refine r_astore (pc := 14) (L' := [_, _, _, _, _]) dJ4_unlink_14 rfl ?_
    refine r_aload (pc := 16) dJ4_unlink_16 rfl ?_
    refine r_ifnonnull (pc := 18) (tgt := 29) dJ4_unlink_18 (by decide) ?_
    refine r_aload (pc := 29) dJ4_unlink_29 rfl ?_
    refine r_aload_n (pc := 31) dJ4_unlink_31 rfl ?_
    refine pJ4_36 (pc := 32) dJ4_unlink_32 rfl rfl rfl (hp.at 3 rfl) ht (Nat.le_of_ble_eq_true rfl) ?_
    refine go_pw (hp.put 3 rfl) (fun h hp => ?_)
    refine r_aload_n (pc := 35) dJ4_unlink_35 rfl ?_
    refine r_null (pc := 36) dJ4_unlink_36 ?_
    refine pJ4_30 (pc := 37) dJ4_unlink_37 rfl rfl rfl (hp.at 1 rfl) ht (Nat.le_of_ble_eq_true rfl) ?_
    refine go_pw (hp.put 1 rfl) (fun h hp => ?_)
    refine r_aload_n (pc := 40) dJ4_unlink_40 rfl ?_
    refine r_ifnonnull (pc := 41) (tgt := 53) dJ4_unlink_41 (by decide) ?_
    refine r_aload_n (pc := 53) dJ4_unlink_53 rfl ?_
    refine r_aload (pc := 54) dJ4_unlink_54 rfl ?_
    refine pJ4_30 (pc := 56) dJ4_unlink_56 rfl rfl rfl (hp.at 2 rfl) ht (Nat.le_of_ble_eq_true rfl) ?_
    refine go_pw (hp.put 2 rfl) (fun h hp => ?_)
    refine r_aload_n (pc := 59) dJ4_unlink_59 rfl ?_
    refine r_null (pc := 60) dJ4_unlink_60 ?_
    refine pJ4_36 (pc := 61) dJ4_unlink_61 rfl rfl rfl (hp.at 1 rfl) ht (Nat.le_of_ble_eq_true rfl) ?_
    refine go_pw (hp.put 1 rfl) (fun h hp => ?_)
    refine r_aload_n (pc := 64) dJ4_unlink_64 rfl ?_
    refine r_null (pc := 65) dJ4_unlink_65 ?_
    refine pJ4_39 (pc := 66) dJ4_unlink_66 rfl rfl rfl (hp.at 1 rfl) ht (Nat.le_of_ble_eq_true rfl) ?_
    refine go_pw (hp.put 1 rfl) (fun h hp => ?_)
    refine r_aload_n (pc := 69) dJ4_unlink_69 rfl ?_
    refine r_dup (pc := 70) dJ4_unlink_70 rfl ?_
    refine gJ4_7 (pc := 71) dJ4_unlink_71 (hp.at 0 rfl) rfl ?_
    refine r_iconst (pc := 74) dJ4_unlink_74 ?_
    refine r_isub (pc := 75) dJ4_unlink_75 ?_
    refine pJ4_7 (pc := 76) dJ4_unlink_76 (hp.at 0 rfl) ht (Nat.le_of_ble_eq_true rfl) ?_
    refine go_pw (hp.put 0 rfl) (fun h hp => ?_)
    refine r_aload_n (pc := 79) dJ4_unlink_79 rfl ?_
    refine r_dup (pc := 80) dJ4_unlink_80 rfl ?_
    refine gJ4_33_10 (pc := 81) dJ4_unlink_81 (hp.at 0 rfl) rfl ?_
    refine r_iconst (pc := 84) dJ4_unlink_84 ?_
    refine q_iadd (pc := 85) dJ4_unlink_85 ?_
    refine pJ4_33_10 (pc := 86) dJ4_unlink_86 (hp.at 0 rfl) ht (Nat.le_of_ble_eq_true rfl) ?_
    refine go_pw (hp.put 0 rfl) (fun h hp => ?_)
    refine r_aload_n (pc := 89) dJ4_unlink_89 rfl ?_
    exact r_aret (pc := 90) dJ4_unlink_90 rfl (Or.inl ⟨_, rfl⟩) (Or.inr ⟨_, rfl⟩) ⟨rfl, LL.rem hA hl (hp.at 0 rfl) (by rw [if_neg (by omega), rfN_t (by omega)]) (by rw [if_neg (by omega), rfN_t (by omega)]) (fun i hi h5 h6 h7 => hp.ot ⟨hA.ane hi, hA.nne hl hi (Ne.symm h5), hA.nne (by omega) hi (by omega), hA.nne (by omega) hi (by omega), trivial⟩) (fun i hi => by
        obtain rfl : i = l - 1 := by omega
        exact ndE (hp.at 3 rfl) rfl (rfN_t (by omega)).symm rfl) (fun i h9 hi => by
        subst hi
        exact ndE (hp.at 2 rfl) rfl rfl (rfN_t (by omega)).symm), hp.fr ⟨FA.t q1, FA.t x0, FA.t ynx, FA.t ypv, trivial⟩⟩
  · rw [rfN_t (p := l + 1 < n) (by omega), rfN_f (p := 0 < l) (by omega)] at x0
    have hp := PW.two q1 x0 (hA.ane hl)
    have ynx := q2 (l + 1) (by omega)
    replace hp := hp.add ynx ⟨hA.ane (by omega), hA.nne hl (by omega) (by omega), trivial⟩
    refine Ct.of (own := "java/util/LinkedList") (nm := "unlink") (by decide +kernel) rfl rfl (L := [some (.ref a), some (.ref (nd l)), none, none, none]) rfl (Nat.le_of_ble_eq_true rfl) rfl ?_
    refine r_aload_n (pc := 0) dJ4_unlink_0 rfl ?_
    refine gJ4_39 (pc := 1) dJ4_unlink_1 (hp.at 1 rfl) rfl ?_
    refine r_astore_n (pc := 4) (L' := [_, _, _, _, _]) dJ4_unlink_4 rfl ?_
    refine r_aload_n (pc := 5) dJ4_unlink_5 rfl ?_
    refine gJ4_36 (pc := 6) dJ4_unlink_6 (hp.at 1 rfl) rfl ?_
    refine r_astore_n (pc := 9) (L' := [_, _, _, _, _]) dJ4_unlink_9 rfl ?_
    refine r_aload_n (pc := 10) dJ4_unlink_10 rfl ?_
    refine gJ4_30 (pc := 11) dJ4_unlink_11 (hp.at 1 rfl) rfl ?_
    refine r_astoreN (pc := 14) (L' := [_, _, _, _, _]) dJ4_unlink_14 rfl ?_
    refine r_aloadN (pc := 16) dJ4_unlink_16 rfl ?_
    refine r_ifnonnullN (pc := 18) dJ4_unlink_18 ?_
    refine r_aload_n (pc := 21) dJ4_unlink_21 rfl ?_
    refine r_aload_n (pc := 22) dJ4_unlink_22 rfl ?_
    refine pJ4_18 (pc := 23) dJ4_unlink_23 rfl rfl rfl (hp.at 0 rfl) ht (Nat.le_of_ble_eq_true rfl) ?_
    refine go_pw (hp.put 0 rfl) (fun h hp => ?_)
    refine r_goto (pc := 26) (tgt := 40) dJ4_unlink_26 (by decide) ?_
    refine r_aload_n (pc := 40) dJ4_unlink_40 rfl ?_
    refine r_ifnonnull (pc := 41) (tgt := 53) dJ4_unlink_41 (by decide) ?_
    refine r_aload_n (pc := 53) dJ4_unlink_53 rfl ?_
    refine r_aloadN (pc := 54) dJ4_unlink_54 rfl ?_
    refine pJ4_30 (pc := 56) dJ4_unlink_56 rfl rfl rfl (hp.at 2 rfl) ht (Nat.le_of_ble_eq_true rfl) ?_
    refine go_pw (hp.put 2 rfl) (fun h hp => ?_)
    refine r_aload_n (pc := 59) dJ4_unlink_59 rfl ?_
    refine r_null (pc := 60) dJ4_unlink_60 ?_
    refine pJ4_36 (pc := 61) dJ4_unlink_61 rfl rfl rfl (hp.at 1 rfl) ht (Nat.le_of_ble_eq_true rfl) ?_
    refine go_pw (hp.put 1 rfl) (fun h hp => ?_)
    refine r_aload_n (pc := 64) dJ4_unlink_64 rfl ?_
    refine r_null (pc := 65) dJ4_unlink_65 ?_
    refine pJ4_39 (pc := 66) dJ4_unlink_66 rfl rfl rfl (hp.at 1 rfl) ht (Nat.le_of_ble_eq_true rfl) ?_
    refine go_pw (hp.put 1 rfl) (fun h hp => ?_)
    refine r_aload_n (pc := 69) dJ4_unlink_69 rfl ?_
    refine r_dup (pc := 70) dJ4_unlink_70 rfl ?_
    refine gJ4_7 (pc := 71) dJ4_unlink_71 (hp.at 0 rfl) rfl ?_
    refine r_iconst (pc := 74) dJ4_unlink_74 ?_
    refine r_isub (pc := 75) dJ4_unlink_75 ?_
    refine pJ4_7 (pc := 76) dJ4_unlink_76 (hp.at 0 rfl) ht (Nat.le_of_ble_eq_true rfl) ?_
    refine go_pw (hp.put 0 rfl) (fun h hp => ?_)
    refine r_aload_n (pc := 79) dJ4_unlink_79 rfl ?_
    refine r_dup (pc := 80) dJ4_unlink_80 rfl ?_
    refine gJ4_33_10 (pc := 81) dJ4_unlink_81 (hp.at 0 rfl) rfl ?_
    refine r_iconst (pc := 84) dJ4_unlink_84 ?_
    refine q_iadd (pc := 85) dJ4_unlink_85 ?_
    refine pJ4_33_10 (pc := 86) dJ4_unlink_86 (hp.at 0 rfl) ht (Nat.le_of_ble_eq_true rfl) ?_
    refine go_pw (hp.put 0 rfl) (fun h hp => ?_)
    refine r_aload_n (pc := 89) dJ4_unlink_89 rfl ?_
    exact r_aret (pc := 90) dJ4_unlink_90 rfl (Or.inl ⟨_, rfl⟩) (Or.inr ⟨_, rfl⟩) ⟨rfl, LL.rem hA hl (hp.at 0 rfl) (by rw [if_pos (by omega)]; exact (rfN_r (by omega) (by congr 1; omega)).symm) (by rw [if_neg (by omega), rfN_t (by omega)]) (fun i hi h5 h6 h7 => hp.ot ⟨hA.ane hi, hA.nne hl hi (Ne.symm h5), hA.nne (by omega) hi (by omega), trivial⟩) (fun i hi => absurd hi (by omega)) (fun i h9 hi => by
        subst hi
        exact ndE (hp.at 2 rfl) rfl rfl (rfN_f (by omega)).symm), hp.fr ⟨FA.t q1, FA.t x0, FA.t ynx, trivial⟩⟩
  · rw [rfN_f (p := l + 1 < n) (by omega), rfN_t (p := 0 < l) (by omega)] at x0
    have hp := PW.two q1 x0 (hA.ane hl)
    have ypv := q2 (l - 1) (by omega)
    replace hp := hp.add ypv ⟨hA.ane (by omega), hA.nne hl (by omega) (by omega), trivial⟩
    refine Ct.of (own := "java/util/LinkedList") (nm := "unlink") (by decide +kernel) rfl rfl (L := [some (.ref a), some (.ref (nd l)), none, none, none]) rfl (Nat.le_of_ble_eq_true rfl) rfl ?_
    refine r_aload_n (pc := 0) dJ4_unlink_0 rfl ?_
    refine gJ4_39 (pc := 1) dJ4_unlink_1 (hp.at 1 rfl) rfl ?_
    refine r_astore_n (pc := 4) (L' := [_, _, _, _, _]) dJ4_unlink_4 rfl ?_
    refine r_aload_n (pc := 5) dJ4_unlink_5 rfl ?_
    refine gJ4_36 (pc := 6) dJ4_unlink_6 (hp.at 1 rfl) rfl ?_
    refine r_astore_nN (pc := 9) (L' := [_, _, _, _, _]) dJ4_unlink_9 rfl ?_
    refine r_aload_n (pc := 10) dJ4_unlink_10 rfl ?_
    refine gJ4_30 (pc := 11) dJ4_unlink_11 (hp.at 1 rfl) rfl ?_
    refine r_astore (pc := 14) (L' := [_, _, _, _, _]) dJ4_unlink_14 rfl ?_
    refine r_aload (pc := 16) dJ4_unlink_16 rfl ?_
    refine r_ifnonnull (pc := 18) (tgt := 29) dJ4_unlink_18 (by decide) ?_
    refine r_aload (pc := 29) dJ4_unlink_29 rfl ?_
    refine r_aload_nN (pc := 31) dJ4_unlink_31 rfl ?_
    refine pJ4_36 (pc := 32) dJ4_unlink_32 rfl rfl rfl (hp.at 2 rfl) ht (Nat.le_of_ble_eq_true rfl) ?_
    refine go_pw (hp.put 2 rfl) (fun h hp => ?_)
    refine r_aload_n (pc := 35) dJ4_unlink_35 rfl ?_
    refine r_null (pc := 36) dJ4_unlink_36 ?_
    refine pJ4_30 (pc := 37) dJ4_unlink_37 rfl rfl rfl (hp.at 1 rfl) ht (Nat.le_of_ble_eq_true rfl) ?_
    refine go_pw (hp.put 1 rfl) (fun h hp => ?_)
    refine r_aload_nN (pc := 40) dJ4_unlink_40 rfl ?_
    refine r_ifnonnullN (pc := 41) dJ4_unlink_41 ?_
    refine r_aload_n (pc := 44) dJ4_unlink_44 rfl ?_
    refine r_aload (pc := 45) dJ4_unlink_45 rfl ?_
    refine pJ4_27 (pc := 47) dJ4_unlink_47 rfl rfl rfl (hp.at 0 rfl) ht (Nat.le_of_ble_eq_true rfl) ?_
    refine go_pw (hp.put 0 rfl) (fun h hp => ?_)
    refine r_goto (pc := 50) (tgt := 64) dJ4_unlink_50 (by decide) ?_
    refine r_aload_n (pc := 64) dJ4_unlink_64 rfl ?_
    refine r_null (pc := 65) dJ4_unlink_65 ?_
    refine pJ4_39 (pc := 66) dJ4_unlink_66 rfl rfl rfl (hp.at 1 rfl) ht (Nat.le_of_ble_eq_true rfl) ?_
    refine go_pw (hp.put 1 rfl) (fun h hp => ?_)
    refine r_aload_n (pc := 69) dJ4_unlink_69 rfl ?_
    refine r_dup (pc := 70) dJ4_unlink_70 rfl ?_
    refine gJ4_7 (pc := 71) dJ4_unlink_71 (hp.at 0 rfl) rfl ?_
    refine r_iconst (pc := 74) dJ4_unlink_74 ?_
    refine r_isub (pc := 75) dJ4_unlink_75 ?_
    refine pJ4_7 (pc := 76) dJ4_unlink_76 (hp.at 0 rfl) ht (Nat.le_of_ble_eq_true rfl) ?_
    refine go_pw (hp.put 0 rfl) (fun h hp => ?_)
    refine r_aload_n (pc := 79) dJ4_unlink_79 rfl ?_
    refine r_dup (pc := 80) dJ4_unlink_80 rfl ?_
    refine gJ4_33_10 (pc := 81) dJ4_unlink_81 (hp.at 0 rfl) rfl ?_
    refine r_iconst (pc := 84) dJ4_unlink_84 ?_
    refine q_iadd (pc := 85) dJ4_unlink_85 ?_
    refine pJ4_33_10 (pc := 86) dJ4_unlink_86 (hp.at 0 rfl) ht (Nat.le_of_ble_eq_true rfl) ?_
    refine go_pw (hp.put 0 rfl) (fun h hp => ?_)
    refine r_aload_n (pc := 89) dJ4_unlink_89 rfl ?_
    exact r_aret (pc := 90) dJ4_unlink_90 rfl (Or.inl ⟨_, rfl⟩) (Or.inr ⟨_, rfl⟩) ⟨rfl, LL.rem hA hl (hp.at 0 rfl) (by rw [if_neg (by omega), rfN_t (by omega)]) (by rw [if_pos (by omega)]; exact (rfN_r (by omega) rfl).symm) (fun i hi h5 h6 h7 => hp.ot ⟨hA.ane hi, hA.nne hl hi (Ne.symm h5), hA.nne (by omega) hi (by omega), trivial⟩) (fun i hi => by
        obtain rfl : i = l - 1 := by omega
        exact ndE (hp.at 2 rfl) rfl (rfN_f (by omega)).symm rfl) (fun i h9 hi => absurd h9 (by omega)), hp.fr ⟨FA.t q1, FA.t x0, FA.t ypv, trivial⟩⟩
  · rw [rfN_f (p := l + 1 < n) (by omega), rfN_f (p := 0 < l) (by omega)] at x0
    have hp := PW.two q1 x0 (hA.ane hl)
    refine Ct.of (own := "java/util/LinkedList") (nm := "unlink") (by decide +kernel) rfl rfl (L := [some (.ref a), some (.ref (nd l)), none, none, none]) rfl (Nat.le_of_ble_eq_true rfl) rfl ?_
    refine r_aload_n (pc := 0) dJ4_unlink_0 rfl ?_
    refine gJ4_39 (pc := 1) dJ4_unlink_1 (hp.at 1 rfl) rfl ?_
    refine r_astore_n (pc := 4) (L' := [_, _, _, _, _]) dJ4_unlink_4 rfl ?_
    refine r_aload_n (pc := 5) dJ4_unlink_5 rfl ?_
    refine gJ4_36 (pc := 6) dJ4_unlink_6 (hp.at 1 rfl) rfl ?_
    refine r_astore_nN (pc := 9) (L' := [_, _, _, _, _]) dJ4_unlink_9 rfl ?_
    refine r_aload_n (pc := 10) dJ4_unlink_10 rfl ?_
    refine gJ4_30 (pc := 11) dJ4_unlink_11 (hp.at 1 rfl) rfl ?_
    refine r_astoreN (pc := 14) (L' := [_, _, _, _, _]) dJ4_unlink_14 rfl ?_
    refine r_aloadN (pc := 16) dJ4_unlink_16 rfl ?_
    refine r_ifnonnullN (pc := 18) dJ4_unlink_18 ?_
    refine r_aload_n (pc := 21) dJ4_unlink_21 rfl ?_
    refine r_aload_nN (pc := 22) dJ4_unlink_22 rfl ?_
    refine pJ4_18 (pc := 23) dJ4_unlink_23 rfl rfl rfl (hp.at 0 rfl) ht (Nat.le_of_ble_eq_true rfl) ?_
    refine go_pw (hp.put 0 rfl) (fun h hp => ?_)
    refine r_goto (pc := 26) (tgt := 40) dJ4_unlink_26 (by decide) ?_
    refine r_aload_nN (pc := 40) dJ4_unlink_40 rfl ?_
    refine r_ifnonnullN (pc := 41) dJ4_unlink_41 ?_
    refine r_aload_n (pc := 44) dJ4_unlink_44 rfl ?_
    refine r_aloadN (pc := 45) dJ4_unlink_45 rfl ?_
    refine pJ4_27 (pc := 47) dJ4_unlink_47 rfl rfl rfl (hp.at 0 rfl) ht (Nat.le_of_ble_eq_true rfl) ?_
    refine go_pw (hp.put 0 rfl) (fun h hp => ?_)
    refine r_goto (pc := 50) (tgt := 64) dJ4_unlink_50 (by decide) ?_
    refine r_aload_n (pc := 64) dJ4_unlink_64 rfl ?_
    refine r_null (pc := 65) dJ4_unlink_65 ?_
    refine pJ4_39 (pc := 66) dJ4_unlink_66 rfl rfl rfl (hp.at 1 rfl) ht (Nat.le_of_ble_eq_true rfl) ?_
    refine go_pw (hp.put 1 rfl) (fun h hp => ?_)
    refine r_aload_n (pc := 69) dJ4_unlink_69 rfl ?_
    refine r_dup (pc := 70) dJ4_unlink_70 rfl ?_
    refine gJ4_7 (pc := 71) dJ4_unlink_71 (hp.at 0 rfl) rfl ?_
    refine r_iconst (pc := 74) dJ4_unlink_74 ?_
    refine r_isub (pc := 75) dJ4_unlink_75 ?_
    refine pJ4_7 (pc := 76) dJ4_unlink_76 (hp.at 0 rfl) ht (Nat.le_of_ble_eq_true rfl) ?_
    refine go_pw (hp.put 0 rfl) (fun h hp => ?_)
    refine r_aload_n (pc := 79) dJ4_unlink_79 rfl ?_
    refine r_dup (pc := 80) dJ4_unlink_80 rfl ?_
    refine gJ4_33_10 (pc := 81) dJ4_unlink_81 (hp.at 0 rfl) rfl ?_
    refine r_iconst (pc := 84) dJ4_unlink_84 ?_
    refine q_iadd (pc := 85) dJ4_unlink_85 ?_
    refine pJ4_33_10 (pc := 86) dJ4_unlink_86 (hp.at 0 rfl) ht (Nat.le_of_ble_eq_true rfl) ?_
    refine go_pw (hp.put 0 rfl) (fun h hp => ?_)
    refine r_aload_n (pc := 89) dJ4_unlink_89 rfl ?_
    exact r_aret (pc := 90) dJ4_unlink_90 rfl (Or.inl ⟨_, rfl⟩) (Or.inr ⟨_, rfl⟩) ⟨rfl, LL.rem hA hl (hp.at 0 rfl) (by rw [if_pos (by omega)]; exact (rfN_f (by omega)).symm) (by rw [if_pos (by omega)]; exact (rfN_f (by omega)).symm) (fun i hi h5 h6 h7 => hp.ot ⟨hA.ane hi, hA.nne hl hi (Ne.symm h5), trivial⟩) (fun i hi => absurd hi (by omega)) (fun i h9 hi => absurd h9 (by omega)), hp.fr ⟨FA.t q1, FA.t x0, trivial⟩⟩
theorem t_J4_unlinkFirst {G : Gl} {h : Hp} {a n : Nat} {t : Tg} {mc : Int32} {nd e : Nat → Nat} (hA : LL t a mc n nd e h) (hl : 0 < n) (ht : t ≠ frz) : Ct G 1 0 yJ4_unlinkFirst (Cond.code yJ4_unlinkFirst cJ4_unlinkFirst 4 (some (.object "java/lang/Object"))) [.ref a, .ref (nd 0)] h (jP (.ref (e 0)) (fun h' => LL t a (mc + 1) (n - 1) (rmF1 nd 0) (rmF1 e 0) h' ∧ Fr (fun x => x = t) h h')) noX := by
  have hA0 := hA
  obtain ⟨q0, q1, q2, q3⟩ := hA0
  have x0 := q2 0 hl
  unfold nxV at x0
  by_cases c1 : 0 + 1 < n
  · rw [rfN_t (p := 0 + 1 < n) (by omega)] at x0
    have hp := PW.two q1 x0 (hA.ane hl)
    have ynx := q2 (0 + 1) (by omega)
    replace hp := hp.add ynx ⟨hA.ane (by omega), hA.nne hl (by omega) (by omega), trivial⟩
    refine Ct.of (own := "java/util/LinkedList") (nm := "unlinkFirst") (by decide +kernel) rfl rfl (L := [some (.ref a), some (.ref (nd 0)), none, none]) rfl (Nat.le_of_ble_eq_true rfl) rfl ?_
    refine r_aload_n (pc := 0) dJ4_unlinkFirst_0 rfl ?_
    refine gJ4_39 (pc := 1) dJ4_unlinkFirst_1 (hp.at 1 rfl) rfl ?_
    refine r_astore_n (pc := 4) (L' := [_, _, _, _]) dJ4_unlinkFirst_4 rfl ?_
    refine r_aload_n (pc := 5) dJ4_unlinkFirst_5 rfl ?_
    refine gJ4_36 (pc := 6) dJ4_unlinkFirst_6 (hp.at 1 rfl) rfl ?_
    refine r_astore_n (pc := 9) (L' := [_, _, _, _]) dJ4_unlinkFirst_9 rfl ?_
    refine r_aload_n (pc := 10) dJ4_unlinkFirst_10 rfl ?_
    refine r_null (pc := 11) dJ4_unlinkFirst_11 ?_
    refine pJ4_39 (pc := 12) dJ4_unlinkFirst_12 rfl rfl rfl (hp.at 1 rfl) ht (Nat.le_of_ble_eq_true rfl) ?_
    refine go_pw (hp.put 1 rfl) (fun h hp => ?_)
    refine r_aload_n (pc := 15) dJ4_unlinkFirst_15 rfl ?_
    refine r_null (pc := 16) dJ4_unlinkFirst_16 ?_
    refine pJ4_36 (pc := 17) dJ4_unlinkFirst_17 rfl rfl rfl (hp.at 1 rfl) ht (Nat.le_of_ble_eq_true rfl) ?_
    refine go_pw (hp.put 1 rfl) (fun h hp => ?_)
    refine r_aload_n (pc := 20) dJ4_unlinkFirst_20 rfl ?_
    refine r_aload_n (pc := 21) dJ4_unlinkFirst_21 rfl ?_
    refine pJ4_18 (pc := 22) dJ4_unlinkFirst_22 rfl rfl rfl (hp.at 0 rfl) ht (Nat.le_of_ble_eq_true rfl) ?_
    refine go_pw (hp.put 0 rfl) (fun h hp => ?_)
    refine r_aload_n (pc := 25) dJ4_unlinkFirst_25 rfl ?_
    refine r_ifnonnull (pc := 26) (tgt := 37) dJ4_unlinkFirst_26 (by decide) ?_
    refine r_aload_n (pc := 37) dJ4_unlinkFirst_37 rfl ?_
    refine r_null (pc := 38) dJ4_unlinkFirst_38 ?_
    refine pJ4_30 (pc := 39) dJ4_unlinkFirst_39 rfl rfl rfl (hp.at 2 rfl) ht (Nat.le_of_ble_eq_true rfl) ?_
    refine go_pw (hp.put 2 rfl) (fun h hp => ?_)
    refine r_aload_n (pc := 42) dJ4_unlinkFirst_42 rfl ?_
    refine r_dup (pc := 43) dJ4_unlinkFirst_43 rfl ?_
    refine gJ4_7 (pc := 44) dJ4_unlinkFirst_44 (hp.at 0 rfl) rfl ?_
    refine r_iconst (pc := 47) dJ4_unlinkFirst_47 ?_
    refine r_isub (pc := 48) dJ4_unlinkFirst_48 ?_
    refine pJ4_7 (pc := 49) dJ4_unlinkFirst_49 (hp.at 0 rfl) ht (Nat.le_of_ble_eq_true rfl) ?_
    refine go_pw (hp.put 0 rfl) (fun h hp => ?_)
    refine r_aload_n (pc := 52) dJ4_unlinkFirst_52 rfl ?_
    refine r_dup (pc := 53) dJ4_unlinkFirst_53 rfl ?_
    refine gJ4_33_10 (pc := 54) dJ4_unlinkFirst_54 (hp.at 0 rfl) rfl ?_
    refine r_iconst (pc := 57) dJ4_unlinkFirst_57 ?_
    refine q_iadd (pc := 58) dJ4_unlinkFirst_58 ?_
    refine pJ4_33_10 (pc := 59) dJ4_unlinkFirst_59 (hp.at 0 rfl) ht (Nat.le_of_ble_eq_true rfl) ?_
    refine go_pw (hp.put 0 rfl) (fun h hp => ?_)
    refine r_aload_n (pc := 62) dJ4_unlinkFirst_62 rfl ?_
    exact r_aret (pc := 63) dJ4_unlinkFirst_63 rfl (Or.inl ⟨_, rfl⟩) (Or.inr ⟨_, rfl⟩) ⟨rfl, LL.rem hA hl (hp.at 0 rfl) (by rw [if_pos rfl]; exact (rfN_r (by omega) rfl).symm) (by rw [if_neg (by omega), rfN_t (by omega)]) (fun i hi h5 h6 h7 => hp.ot ⟨hA.ane hi, hA.nne hl hi (Ne.symm h5), hA.nne (by omega) hi (by omega), trivial⟩) (fun i hi => absurd hi (by omega)) (fun i h9 hi => by
        subst hi
        exact ndE (hp.at 2 rfl) rfl rfl (rfN_f (by omega)).symm), hp.fr ⟨FA.t q1, FA.t x0, FA.t ynx, trivial⟩⟩
  · rw [rfN_f (p := 0 + 1 < n) (by omega)] at x0
    have hp := PW.two q1 x0 (hA.ane hl)
    refine Ct.of (own := "java/util/LinkedList") (nm := "unlinkFirst") (by decide +kernel) rfl rfl (L := [some (.ref a), some (.ref (nd 0)), none, none]) rfl (Nat.le_of_ble_eq_true rfl) rfl ?_
    refine r_aload_n (pc := 0) dJ4_unlinkFirst_0 rfl ?_
    refine gJ4_39 (pc := 1) dJ4_unlinkFirst_1 (hp.at 1 rfl) rfl ?_
    refine r_astore_n (pc := 4) (L' := [_, _, _, _]) dJ4_unlinkFirst_4 rfl ?_
    refine r_aload_n (pc := 5) dJ4_unlinkFirst_5 rfl ?_
    refine gJ4_36 (pc := 6) dJ4_unlinkFirst_6 (hp.at 1 rfl) rfl ?_
    refine r_astore_nN (pc := 9) (L' := [_, _, _, _]) dJ4_unlinkFirst_9 rfl ?_
    refine r_aload_n (pc := 10) dJ4_unlinkFirst_10 rfl ?_
    refine r_null (pc := 11) dJ4_unlinkFirst_11 ?_
    refine pJ4_39 (pc := 12) dJ4_unlinkFirst_12 rfl rfl rfl (hp.at 1 rfl) ht (Nat.le_of_ble_eq_true rfl) ?_
    refine go_pw (hp.put 1 rfl) (fun h hp => ?_)
    refine r_aload_n (pc := 15) dJ4_unlinkFirst_15 rfl ?_
    refine r_null (pc := 16) dJ4_unlinkFirst_16 ?_
    refine pJ4_36 (pc := 17) dJ4_unlinkFirst_17 rfl rfl rfl (hp.at 1 rfl) ht (Nat.le_of_ble_eq_true rfl) ?_
    refine go_pw (hp.put 1 rfl) (fun h hp => ?_)
    refine r_aload_n (pc := 20) dJ4_unlinkFirst_20 rfl ?_
    refine r_aload_nN (pc := 21) dJ4_unlinkFirst_21 rfl ?_
    refine pJ4_18 (pc := 22) dJ4_unlinkFirst_22 rfl rfl rfl (hp.at 0 rfl) ht (Nat.le_of_ble_eq_true rfl) ?_
    refine go_pw (hp.put 0 rfl) (fun h hp => ?_)
    refine r_aload_nN (pc := 25) dJ4_unlinkFirst_25 rfl ?_
    refine r_ifnonnullN (pc := 26) dJ4_unlinkFirst_26 ?_
    refine r_aload_n (pc := 29) dJ4_unlinkFirst_29 rfl ?_
    refine r_null (pc := 30) dJ4_unlinkFirst_30 ?_
    refine pJ4_27 (pc := 31) dJ4_unlinkFirst_31 rfl rfl rfl (hp.at 0 rfl) ht (Nat.le_of_ble_eq_true rfl) ?_
    refine go_pw (hp.put 0 rfl) (fun h hp => ?_)
    refine r_goto (pc := 34) (tgt := 42) dJ4_unlinkFirst_34 (by decide) ?_
    refine r_aload_n (pc := 42) dJ4_unlinkFirst_42 rfl ?_
    refine r_dup (pc := 43) dJ4_unlinkFirst_43 rfl ?_
    refine gJ4_7 (pc := 44) dJ4_unlinkFirst_44 (hp.at 0 rfl) rfl ?_
    refine r_iconst (pc := 47) dJ4_unlinkFirst_47 ?_
    refine r_isub (pc := 48) dJ4_unlinkFirst_48 ?_
    refine pJ4_7 (pc := 49) dJ4_unlinkFirst_49 (hp.at 0 rfl) ht (Nat.le_of_ble_eq_true rfl) ?_
    refine go_pw (hp.put 0 rfl) (fun h hp => ?_)
    refine r_aload_n (pc := 52) dJ4_unlinkFirst_52 rfl ?_
    refine r_dup (pc := 53) dJ4_unlinkFirst_53 rfl ?_
    refine gJ4_33_10 (pc := 54) dJ4_unlinkFirst_54 (hp.at 0 rfl) rfl ?_
    refine r_iconst (pc := 57) dJ4_unlinkFirst_57 ?_
    refine q_iadd (pc := 58) dJ4_unlinkFirst_58 ?_
    refine pJ4_33_10 (pc := 59) dJ4_unlinkFirst_59 (hp.at 0 rfl) ht (Nat.le_of_ble_eq_true rfl) ?_
    refine go_pw (hp.put 0 rfl) (fun h hp => ?_)
    refine r_aload_n (pc := 62) dJ4_unlinkFirst_62 rfl ?_
    exact r_aret (pc := 63) dJ4_unlinkFirst_63 rfl (Or.inl ⟨_, rfl⟩) (Or.inr ⟨_, rfl⟩) ⟨rfl, LL.rem hA hl (hp.at 0 rfl) (by rw [if_pos rfl]; exact (rfN_f (by omega)).symm) (by rw [if_pos (by omega)]; exact (rfN_f (by omega)).symm) (fun i hi h5 h6 h7 => hp.ot ⟨hA.ane hi, hA.nne hl hi (Ne.symm h5), trivial⟩) (fun i hi => absurd hi (by omega)) (fun i h9 hi => absurd h9 (by omega)), hp.fr ⟨FA.t q1, FA.t x0, trivial⟩⟩
theorem t_J4_removeFirst {G : Gl} {h : Hp} {a n : Nat} {t : Tg} {mc : Int32} {nd e : Nat → Nat} (hA : LL t a mc n nd e h) (hl : 0 < n) (ht : t ≠ frz) : Ct G 2 0 yJ4_removeFirst (Cond.code yJ4_removeFirst cJ4_removeFirst 2 (some (.object "java/lang/Object"))) [.ref a] h (jP (.ref (e 0)) (fun h' => LL t a (mc + 1) (n - 1) (rmF1 nd 0) (rmF1 e 0) h' ∧ Fr (fun x => x = t) h h')) noX := by
  have hA0 := hA
  obtain ⟨q0, q1, q2, q3⟩ := hA0
  refine Ct.of (own := "java/util/LinkedList") (nm := "removeFirst") (by decide +kernel) rfl rfl (L := [some (.ref a), none]) rfl (Nat.le_of_ble_eq_true rfl) rfl ?_
  refine r_aload_n (pc := 0) dJ4_removeFirst_0 rfl ?_
  refine gJ4_18 (pc := 1) dJ4_removeFirst_1 q1 rfl ?_
  refine go_cv (w := .ref (nd 0)) (rfN_t hl) ?_
  refine r_astore_n (pc := 4) (L' := [_, _]) dJ4_removeFirst_4 rfl ?_
  refine r_aload_n (pc := 5) dJ4_removeFirst_5 rfl ?_
  refine r_ifnonnull (pc := 6) (tgt := 17) dJ4_removeFirst_6 (by decide) ?_
  refine r_aload_n (pc := 17) dJ4_removeFirst_17 rfl ?_
  refine r_aload_n (pc := 18) dJ4_removeFirst_18 rfl ?_
  refine r_callV (pc := 19) (kb' := 0) dJ4_removeFirst_19 kJ4_unlinkFirst q1873 (t_J4_unlinkFirst hA hl ht) q1 rfl (Nat.le_refl _) (Nat.le_of_ble_eq_true rfl) rfl rfl (Nat.le_of_ble_eq_true rfl) (fun _ _ q => q.elim) (fun _ h hq => ?_)
  refine go_jP hq (fun hq => ?_)
  exact r_aret (pc := 22) dJ4_removeFirst_22 rfl (Or.inl ⟨_, rfl⟩) (Or.inr ⟨_, rfl⟩) ⟨rfl, hq⟩
theorem t_J31_init {G : Gl} {h : Hp} {q a n : Nat} {t tl : Tg} {mc : Int32} {nd e : Nat → Nat} (hq : h q = some (t, ob 11 [.null, .null, .int 0, .int 0, .null])) (ht : t ≠ frz) (hA : LL tl a mc n nd e h) : Ct G 2 0 yJ31_init (Cond.code yJ31_init cJ31_init 3 (none)) [.ref q, .ref a, .int (iZ 0)] h (jN (· = up h q (t, ob 11 [.null, rfN (0 < n) (nd 0), .int (iZ 0), .int mc, .ref a]))) noX := by
  have hA0 := hA
  obtain ⟨q0, q1, q2, q3⟩ := hA0
  have hqa : q ≠ a := ne_of hq q1 (by intro e; simp [ob] at e)
  have hp := PW.one hq
  by_cases c1 : n = 0
  · refine Ct.of (own := "java/util/LinkedList$ListItr") (nm := "<init>") (by decide +kernel) rfl rfl (L := [some (.ref q), some (.ref a), some (.int (iZ 0))]) rfl (Nat.le_of_ble_eq_true rfl) rfl ?_
    refine r_aload_n (pc := 0) dJ31_init_0 rfl ?_
    refine r_aload_n (pc := 1) dJ31_init_1 rfl ?_
    refine pJ31_1 (pc := 2) dJ31_init_2 rfl rfl rfl rfl (hp.at 0 rfl) ht (Nat.le_of_ble_eq_true rfl) ?_
    refine go_pw (hp.put 0 rfl) (fun h hp => ?_)
    refine r_aload_n (pc := 5) dJ31_init_5 rfl ?_
    refine r_objInit (pc := 6) dJ31_init_6 q1140 q169 q170 (by decide) (Nat.le_of_ble_eq_true rfl) ?_
    refine r_aload_n (pc := 9) dJ31_init_9 rfl ?_
    refine r_aload_n (pc := 10) dJ31_init_10 rfl ?_
    refine gJ31_1 (pc := 11) dJ31_init_11 (hp.at 0 rfl) rfl ?_
    refine gJ31_13_10 (pc := 14) dJ31_init_14 ((hp.ot ⟨hqa, trivial⟩).trans q1) rfl ?_
    refine pJ31_19 (pc := 17) dJ31_init_17 (hp.at 0 rfl) ht (Nat.le_of_ble_eq_true rfl) ?_
    refine go_pw (hp.put 0 rfl) (fun h hp => ?_)
    refine r_aload_n (pc := 20) dJ31_init_20 rfl ?_
    refine r_iload_n (pc := 21) dJ31_init_21 rfl ?_
    refine r_aload_n (pc := 22) dJ31_init_22 rfl ?_
    refine gJ31_22 (pc := 23) dJ31_init_23 ((hp.ot ⟨hqa, trivial⟩).trans q1) rfl ?_
    refine r_icmp_ne (pc := 26) (tgt := 33) dJ31_init_26 (by decide) (by omega) (by omega) (fun c26 => absurd (by omega) c26) (fun c26 => ?_)
    refine r_null (pc := 29) dJ31_init_29 ?_
    refine r_goto (pc := 30) (tgt := 38) dJ31_init_30 (by decide) ?_
    refine pJ31_29 (pc := 38) dJ31_init_38 rfl rfl rfl (hp.at 0 rfl) ht (Nat.le_of_ble_eq_true rfl) ?_
    refine go_pw (hp.put 0 rfl) (fun h hp => ?_)
    refine r_aload_n (pc := 41) dJ31_init_41 rfl ?_
    refine r_iload_n (pc := 42) dJ31_init_42 rfl ?_
    refine pJ31_33 (pc := 43) dJ31_init_43 (hp.at 0 rfl) ht (Nat.le_of_ble_eq_true rfl) ?_
    refine go_pw (hp.put 0 rfl) (fun h hp => ?_)
    exact r_vret (pc := 46) dJ31_init_46 rfl ⟨rfl, by rw [rfN_f (by omega)]; exact hp.eq1⟩
  · refine Ct.of (own := "java/util/LinkedList$ListItr") (nm := "<init>") (by decide +kernel) rfl rfl (L := [some (.ref q), some (.ref a), some (.int (iZ 0))]) rfl (Nat.le_of_ble_eq_true rfl) rfl ?_
    refine r_aload_n (pc := 0) dJ31_init_0 rfl ?_
    refine r_aload_n (pc := 1) dJ31_init_1 rfl ?_
    refine pJ31_1 (pc := 2) dJ31_init_2 rfl rfl rfl rfl (hp.at 0 rfl) ht (Nat.le_of_ble_eq_true rfl) ?_
    refine go_pw (hp.put 0 rfl) (fun h hp => ?_)
    refine r_aload_n (pc := 5) dJ31_init_5 rfl ?_
    refine r_objInit (pc := 6) dJ31_init_6 q1140 q169 q170 (by decide) (Nat.le_of_ble_eq_true rfl) ?_
    refine r_aload_n (pc := 9) dJ31_init_9 rfl ?_
    refine r_aload_n (pc := 10) dJ31_init_10 rfl ?_
    refine gJ31_1 (pc := 11) dJ31_init_11 (hp.at 0 rfl) rfl ?_
    refine gJ31_13_10 (pc := 14) dJ31_init_14 ((hp.ot ⟨hqa, trivial⟩).trans q1) rfl ?_
    refine pJ31_19 (pc := 17) dJ31_init_17 (hp.at 0 rfl) ht (Nat.le_of_ble_eq_true rfl) ?_
    refine go_pw (hp.put 0 rfl) (fun h hp => ?_)
    refine r_aload_n (pc := 20) dJ31_init_20 rfl ?_
    refine r_iload_n (pc := 21) dJ31_init_21 rfl ?_
    refine r_aload_n (pc := 22) dJ31_init_22 rfl ?_
    refine gJ31_22 (pc := 23) dJ31_init_23 ((hp.ot ⟨hqa, trivial⟩).trans q1) rfl ?_
    refine r_icmp_ne (pc := 26) (tgt := 33) dJ31_init_26 (by decide) (by omega) (by omega) (fun c26 => ?_) (fun c26 => absurd (by omega) c1)
    have hA1 : LL tl a mc n nd e _ := ⟨q0, (hp.ot ⟨hqa, trivial⟩).trans q1, fun i hi => (hp.ot ⟨ne_of hq (q2 i hi) (by intro e; simp [ob] at e), trivial⟩).trans (q2 i hi), q3⟩
    refine r_aload_n (pc := 33) dJ31_init_33 rfl ?_
    refine r_iload_n (pc := 34) dJ31_init_34 rfl ?_
    refine r_callV (pc := 35) (kb' := 0) dJ31_init_35 kJ4_node q1141 (t_J4_node (i := 0) (n := n) (nd := nd) (e := e) (t := tl) (mc := mc) hA1 (by omega)) ((hp.ot ⟨hqa, trivial⟩).trans q1) rfl (Nat.le_refl _) (Nat.le_of_ble_eq_true rfl) rfl rfl (Nat.le_of_ble_eq_true rfl) (fun _ _ q => q.elim) (fun _ _ hq => ?_)
    refine go_jE hq ?_
    refine pJ31_29 (pc := 38) dJ31_init_38 rfl rfl rfl (hp.at 0 rfl) ht (Nat.le_of_ble_eq_true rfl) ?_
    refine go_pw (hp.put 0 rfl) (fun h hp => ?_)
    refine r_aload_n (pc := 41) dJ31_init_41 rfl ?_
    refine r_iload_n (pc := 42) dJ31_init_42 rfl ?_
    refine pJ31_33 (pc := 43) dJ31_init_43 (hp.at 0 rfl) ht (Nat.le_of_ble_eq_true rfl) ?_
    refine go_pw (hp.put 0 rfl) (fun h hp => ?_)
    exact r_vret (pc := 46) dJ31_init_46 rfl ⟨rfl, by rw [rfN_t (by omega)]; exact hp.eq1⟩
theorem t_J4_listIterator {G : Gl} {h : Hp} {a n : Nat} {tl : Tg} {mc : Int32} {nd e : Nat → Nat} (t : Tg) (ht : t ≠ frz) (hA : LL tl a mc n nd e h) : Ct G 3 6 yJ4_listIterator (Cond.code yJ4_listIterator cJ4_listIterator 2 (some (.object "java/util/ListIterator"))) [.ref a, .int (iZ 0)] h (jX (fun q h' => h q = none ∧ h' = up h q (t, ob 11 [.null, rfN (0 < n) (nd 0), .int (iZ 0), .int mc, .ref a]))) noX := by
  have hA0 := hA
  obtain ⟨q0, q1, q2, q3⟩ := hA0
  have hp := PW.nil (h := h)
  refine Ct.of (own := "java/util/LinkedList") (nm := "listIterator") (by decide +kernel) rfl rfl (L := [some (.ref a), some (.int (iZ 0))]) rfl (Nat.le_of_ble_eq_true rfl) rfl ?_
  refine r_aload_n (pc := 0) dJ4_listIterator_0 rfl ?_
  refine r_iload_n (pc := 1) dJ4_listIterator_1 rfl ?_
  refine r_callV (pc := 2) (kb' := 6) dJ4_listIterator_2 kJ4_checkPositionIndex q1127 (t_J4_checkPositionIndex hA (i := 0) (by omega)) q1 rfl (Nat.le_refl _) (Nat.le_of_ble_eq_true rfl) rfl rfl (Nat.le_of_ble_eq_true rfl) (fun _ _ q => q.elim) (fun _ h hq => ?_)
  refine go_jN hq (fun e => ?_)
  subst e
  refine r_new (pc := 5) (ci := 11) (T := TJ31) (N := 5) (t) [.null, .null, .int 0, .int 0, .null] (kb' := 0) dJ4_listIterator_5 rfl q1135 q1136 q144 (by intro j hj; revert j; decide +kernel) (Nat.le_of_ble_eq_true rfl) (fun w hw zw => ?_)
  refine go_pw (hp.new hw _) (fun h hp => ?_)
  refine r_dup (pc := 8) dJ4_listIterator_8 rfl ?_
  refine r_aload_n (pc := 9) dJ4_listIterator_9 rfl ?_
  refine r_iload_n (pc := 10) dJ4_listIterator_10 rfl ?_
  refine r_callI (pc := 11) (kb' := 0) dJ4_listIterator_11 kJ31_init q1137 (t_J31_init (hp.at 0 rfl) ht ⟨q0, (hp.ot ⟨(ne_nw q1 hw).symm, trivial⟩).trans q1, fun i hi => (hp.ot ⟨(ne_nw (q2 i hi) hw).symm, trivial⟩).trans (q2 i hi), q3⟩) (Nat.le_refl _) (Nat.le_of_ble_eq_true rfl) rfl rfl (Nat.le_of_ble_eq_true rfl) (fun _ _ q => q.elim) (fun _ h hq => ?_)
  refine go_jN hq (fun e => ?_)
  subst e
  refine go_pw (hp.put 0 rfl) (fun h hp => ?_)
  exact r_aret (pc := 14) dJ4_listIterator_14 rfl (Or.inl ⟨_, rfl⟩) (Or.inr ⟨_, rfl⟩) ⟨w, rfl, hw, hp.eq1⟩
theorem t_J1_listIterator {G : Gl} {h : Hp} {a n : Nat} {tl : Tg} {mc : Int32} {nd e : Nat → Nat} (t : Tg) (ht : t ≠ frz) (hA : LL tl a mc n nd e h) : Ct G 4 6 yJ1_listIterator (Cond.code yJ1_listIterator cJ1_listIterator 1 (some (.object "java/util/ListIterator"))) [.ref a] h (jX (fun q h' => h q = none ∧ h' = up h q (t, ob 11 [.null, rfN (0 < n) (nd 0), .int (iZ 0), .int mc, .ref a]))) noX := by
  have hA0 := hA
  obtain ⟨q0, q1, q2, q3⟩ := hA0
  refine Ct.of (own := "java/util/AbstractList") (nm := "listIterator") (by decide +kernel) rfl rfl (L := [some (.ref a)]) rfl (Nat.le_of_ble_eq_true rfl) rfl ?_
  refine r_aload_n (pc := 0) dJ1_listIterator_0 rfl ?_
  refine r_iconst (pc := 1) dJ1_listIterator_1 ?_
  refine r_callG (pc := 2) (kb' := 0) dJ1_listIterator_2 cuJ1_47_10 (t_J4_listIterator t ht hA) q1 rfl (Nat.le_of_ble_eq_true rfl) (Nat.le_of_ble_eq_true rfl) rfl rfl (Nat.le_of_ble_eq_true rfl) (fun _ _ q => q.elim) (fun _ h hq => ?_)
  refine go_jX hq (fun q hq => ?_)
  exact r_aret (pc := 5) dJ1_listIterator_5 rfl (Or.inl ⟨_, rfl⟩) (Or.inr ⟨_, rfl⟩) ⟨q, rfl, hq⟩
theorem t_J3_iterator {G : Gl} {h : Hp} {a n : Nat} {tl : Tg} {mc : Int32} {nd e : Nat → Nat} (t : Tg) (ht : t ≠ frz) (hA : LL tl a mc n nd e h) : Ct G 5 6 yJ3_iterator (Cond.code yJ3_iterator cJ3_iterator 1 (some (.object "java/util/Iterator"))) [.ref a] h (jX (fun q h' => h q = none ∧ h' = up h q (t, ob 11 [.null, rfN (0 < n) (nd 0), .int (iZ 0), .int mc, .ref a]))) noX := by
  have hA0 := hA
  obtain ⟨q0, q1, q2, q3⟩ := hA0
  refine Ct.of (own := "java/util/AbstractSequentialList") (nm := "iterator") (by decide +kernel) rfl rfl (L := [some (.ref a)]) rfl (Nat.le_of_ble_eq_true rfl) rfl ?_
  refine r_aload_n (pc := 0) dJ3_iterator_0 rfl ?_
  refine r_callG (pc := 1) (kb' := 0) dJ3_iterator_1 cuJ3_65_10 (t_J1_listIterator t ht hA) q1 rfl (Nat.le_of_ble_eq_true rfl) (Nat.le_of_ble_eq_true rfl) rfl rfl (Nat.le_of_ble_eq_true rfl) (fun _ _ q => q.elim) (fun _ h hq => ?_)
  refine go_jX hq (fun q hq => ?_)
  exact r_aret (pc := 4) dJ3_iterator_4 rfl (Or.inl ⟨_, rfl⟩) (Or.inr ⟨_, rfl⟩) ⟨q, rfl, hq⟩
theorem t_J31_hasNext {G : Gl} {h : Hp} {it a n k : Nat} {t tl : Tg} {mc : Int32} {nd e : Nat → Nat} {l : Value} (hI : h it = some (t, ob 11 [l, rfN (k < n) (nd k), .int (iZ k), .int mc, .ref a])) (hA : LL tl a mc n nd e h) (hk : k ≤ n) : Ct G 1 0 yJ31_hasNext (Cond.code yJ31_hasNext cJ31_hasNext 1 (some .boolean)) [.ref it] h (jE (.int (iZ (bZ (k < n)))) h) noX := by
  have hA0 := hA
  obtain ⟨q0, q1, q2, q3⟩ := hA0
  refine Ct.of (own := "java/util/LinkedList$ListItr") (nm := "hasNext") (by decide +kernel) rfl rfl (L := [some (.ref it)]) rfl (Nat.le_of_ble_eq_true rfl) rfl ?_
  refine r_aload_n (pc := 0) dJ31_hasNext_0 rfl ?_
  refine gJ31_33 (pc := 1) dJ31_hasNext_1 hI rfl ?_
  refine r_aload_n (pc := 4) dJ31_hasNext_4 rfl ?_
  refine gJ31_1 (pc := 5) dJ31_hasNext_5 hI rfl ?_
  refine gJ31_22 (pc := 8) dJ31_hasNext_8 q1 rfl ?_
  refine r_icmp_ge (pc := 11) (tgt := 18) dJ31_hasNext_11 (by decide) (by omega) (by omega) (fun c11 => ?_) (fun c11 => ?_)
  · refine r_iconst (pc := 18) dJ31_hasNext_18 ?_
    exact r_iret (pc := 19) dJ31_hasNext_19 rfl (nB' (by first | (left; rfl) | (right; rfl) | exact bZ_01' _ | omega)) ⟨by rw [bZ_f (by omega)], rfl⟩
  · refine r_iconst (pc := 14) dJ31_hasNext_14 ?_
    refine r_goto (pc := 15) (tgt := 19) dJ31_hasNext_15 (by decide) ?_
    exact r_iret (pc := 19) dJ31_hasNext_19 rfl (nB' (by first | (left; rfl) | (right; rfl) | exact bZ_01' _ | omega)) ⟨by rw [bZ_t (by omega)], rfl⟩
theorem t_J31_checkForComodification {G : Gl} {h : Hp} {it a n k : Nat} {t tl : Tg} {mc : Int32} {nd e : Nat → Nat} {l : Value} (hI : h it = some (t, ob 11 [l, rfN (k < n) (nd k), .int (iZ k), .int mc, .ref a])) (hA : LL tl a mc n nd e h) : Ct G 1 0 yJ31_checkForComodification (Cond.code yJ31_checkForComodification cJ31_checkForComodification 1 (none)) [.ref it] h (jN (· = h)) noX := by
  have hA0 := hA
  obtain ⟨q0, q1, q2, q3⟩ := hA0
  refine Ct.of (own := "java/util/LinkedList$ListItr") (nm := "checkForComodification") (by decide +kernel) rfl rfl (L := [some (.ref it)]) rfl (Nat.le_of_ble_eq_true rfl) rfl ?_
  refine r_aload_n (pc := 0) dJ31_checkForComodification_0 rfl ?_
  refine gJ31_1 (pc := 1) dJ31_checkForComodification_1 hI rfl ?_
  refine gJ31_13_10 (pc := 4) dJ31_checkForComodification_4 q1 rfl ?_
  refine r_aload_n (pc := 7) dJ31_checkForComodification_7 rfl ?_
  refine gJ31_19 (pc := 8) dJ31_checkForComodification_8 hI rfl ?_
  refine q_icmp_eqT (pc := 11) (tgt := 22) dJ31_checkForComodification_11 (by decide) ?_
  exact r_vret (pc := 22) dJ31_checkForComodification_22 rfl ⟨rfl, rfl⟩
theorem t_J31_next {G : Gl} {h : Hp} {it a n k : Nat} {t tl : Tg} {mc : Int32} {nd e : Nat → Nat} {l : Value} (hI : h it = some (t, ob 11 [l, rfN (k < n) (nd k), .int (iZ k), .int mc, .ref a])) (hA : LL tl a mc n nd e h) (hk : k < n) (ht : t ≠ frz) : Ct G 2 0 yJ31_next (Cond.code yJ31_next cJ31_next 1 (some (.object "java/lang/Object"))) [.ref it] h (jP (.ref (e k)) (· = up h it (t, ob 11 [.ref (nd k), rfN (k + 1 < n) (nd (k + 1)), .int (iZ (k + 1)), .int mc, .ref a]))) noX := by
  have hA0 := hA
  obtain ⟨q0, q1, q2, q3⟩ := hA0
  have hI0 := hI
  rw [rfN_t hk] at hI0
  have hne : it ≠ nd k := ne_of hI0 (q2 k hk) (by intro e; simp [ob] at e)
  have hp := PW.one hI0
  refine Ct.of (own := "java/util/LinkedList$ListItr") (nm := "next") (by decide +kernel) rfl rfl (L := [some (.ref it)]) rfl (Nat.le_of_ble_eq_true rfl) rfl ?_
  refine r_aload_n (pc := 0) dJ31_next_0 rfl ?_
  refine r_callV (pc := 1) (kb' := 0) dJ31_next_1 kJ31_checkForComodification q1032 (t_J31_checkForComodification hI hA) (hp.at 0 rfl) rfl (Nat.le_refl _) (Nat.le_of_ble_eq_true rfl) rfl rfl (Nat.le_of_ble_eq_true rfl) (fun _ _ q => q.elim) (fun _ h hq => ?_)
  refine go_jN hq (fun e => ?_)
  subst e
  refine r_aload_n (pc := 4) dJ31_next_4 rfl ?_
  refine r_callV (pc := 5) (kb' := 0) dJ31_next_5 kJ31_hasNext q1036 (t_J31_hasNext hI hA (by omega)) (hp.at 0 rfl) rfl (Nat.le_refl _) (Nat.le_of_ble_eq_true rfl) rfl rfl (Nat.le_of_ble_eq_true rfl) (fun _ _ q => q.elim) (fun _ _ hq => ?_)
  refine go_jE hq ?_
  refine go_cz (w := 1) (bZ_t hk) ?_
  refine r_if_ne (pc := 8) (tgt := 19) dJ31_next_8 (by decide) (by decide) (fun _ => ?_) (fun q => absurd (by decide) q)
  refine r_aload_n (pc := 19) dJ31_next_19 rfl ?_
  refine r_aload_n (pc := 20) dJ31_next_20 rfl ?_
  refine gJ31_29 (pc := 21) dJ31_next_21 (hp.at 0 rfl) rfl ?_
  refine pJ31_46 (pc := 24) dJ31_next_24 rfl rfl rfl (hp.at 0 rfl) ht (Nat.le_of_ble_eq_true rfl) ?_
  refine go_pw (hp.put 0 rfl) (fun h hp => ?_)
  refine r_aload_n (pc := 27) dJ31_next_27 rfl ?_
  refine r_aload_n (pc := 28) dJ31_next_28 rfl ?_
  refine gJ31_29 (pc := 29) dJ31_next_29 (hp.at 0 rfl) rfl ?_
  refine gJ31_49 (pc := 32) dJ31_next_32 ((hp.ot ⟨hne, trivial⟩).trans (q2 k hk)) rfl ?_
  refine pJ31_29 (pc := 35) dJ31_next_35 rfl rfN_nf.1 rfN_nf.2 (hp.at 0 rfl) ht (Nat.le_of_ble_eq_true rfl) ?_
  refine go_pw (hp.put 0 rfl) (fun h hp => ?_)
  refine r_aload_n (pc := 38) dJ31_next_38 rfl ?_
  refine r_dup (pc := 39) dJ31_next_39 rfl ?_
  refine gJ31_33 (pc := 40) dJ31_next_40 (hp.at 0 rfl) rfl ?_
  refine r_iconst (pc := 43) dJ31_next_43 ?_
  refine r_iadd (pc := 44) dJ31_next_44 ?_
  refine pJ31_33 (pc := 45) dJ31_next_45 (hp.at 0 rfl) ht (Nat.le_of_ble_eq_true rfl) ?_
  refine go_pw (hp.put 0 rfl) (fun h hp => ?_)
  refine r_aload_n (pc := 48) dJ31_next_48 rfl ?_
  refine gJ31_46 (pc := 49) dJ31_next_49 (hp.at 0 rfl) rfl ?_
  refine gJ31_52 (pc := 52) dJ31_next_52 ((hp.ot ⟨hne, trivial⟩).trans (q2 k hk)) rfl ?_
  exact r_aret (pc := 55) dJ31_next_55 rfl (Or.inl ⟨_, rfl⟩) (Or.inr ⟨_, rfl⟩) ⟨rfl, hp.eq1⟩
theorem t_J31_remove {G : Gl} {h : Hp} {it a n l : Nat} {t tl : Tg} {mc : Int32} {nd e : Nat → Nat} (hI : h it = some (t, ob 11 [.ref (nd l), rfN (l + 1 < n) (nd (l + 1)), .int (iZ (l + 1)), .int mc, .ref a])) (hA : LL tl a mc n nd e h) (hl : l < n) (ht : t ≠ frz) (htl : tl ≠ frz) (htt : t ≠ tl) : Ct G 2 0 yJ31_remove (Cond.code yJ31_remove cJ31_remove 2 (none)) [.ref it] h (jN (fun h' => LL tl a (mc + 1) (n - 1) (rmF1 nd l) (rmF1 e l) h' ∧ h' it = some (t, ob 11 [.null, rfN (l + 1 < n) (nd (l + 1)), .int (iZ l), .int (mc + 1), .ref a]) ∧ Fr (fun x => x = tl ∨ x = t) h h')) noX := by
  have hA0 := hA
  obtain ⟨q0, q1, q2, q3⟩ := hA0
  have hI0 := hI
  have x0 := q2 l hl
  have hne := hA.nne (j := l + 1) hl
  by_cases c1 : l + 1 < n
  · rw [rfN_t c1] at hI0
    refine Ct.of (own := "java/util/LinkedList$ListItr") (nm := "remove") (by decide +kernel) rfl rfl (L := [some (.ref it), none]) rfl (Nat.le_of_ble_eq_true rfl) rfl ?_
    refine r_aload_n (pc := 0) dJ31_remove_0 rfl ?_
    refine r_callV (pc := 1) (kb' := 0) dJ31_remove_1 kJ31_checkForComodification q1032 (t_J31_checkForComodification (k := l + 1) hI hA) hI0 rfl (Nat.le_refl _) (Nat.le_of_ble_eq_true rfl) rfl rfl (Nat.le_of_ble_eq_true rfl) (fun _ _ q => q.elim) (fun _ h hq => ?_)
    refine go_jN hq (fun e => ?_)
    subst e
    refine r_aload_n (pc := 4) dJ31_remove_4 rfl ?_
    refine gJ31_46 (pc := 5) dJ31_remove_5 hI0 rfl ?_
    refine r_ifnonnull (pc := 8) (tgt := 19) dJ31_remove_8 (by decide) ?_
    refine r_aload_n (pc := 19) dJ31_remove_19 rfl ?_
    refine gJ31_46 (pc := 20) dJ31_remove_20 hI0 rfl ?_
    refine gJ31_49 (pc := 23) dJ31_remove_23 x0 rfl ?_
    refine r_astore_nV (pc := 26) (L' := [_, _]) dJ31_remove_26 rfN_rn rfl ?_
    refine r_aload_n (pc := 27) dJ31_remove_27 rfl ?_
    refine gJ31_1 (pc := 28) dJ31_remove_28 hI0 rfl ?_
    refine r_aload_n (pc := 31) dJ31_remove_31 rfl ?_
    refine gJ31_46 (pc := 32) dJ31_remove_32 hI0 rfl ?_
    refine r_callV (pc := 35) (kb' := 0) dJ31_remove_35 kJ4_unlink q1860 (t_J4_unlink hA hl htl) q1 rfl (Nat.le_refl _) (Nat.le_of_ble_eq_true rfl) rfl rfl (Nat.le_of_ble_eq_true rfl) (fun _ _ q => q.elim) (fun _ h hq => ?_)
    refine go_jP hq (fun hq => ?_)
    obtain ⟨hA2, hF⟩ := hq
    have hI2 := hF.get hI0 htt
    have hp := PW.one hI2
    refine r_pop (pc := 38) dJ31_remove_38 rfl ?_
    refine r_aload_n (pc := 39) dJ31_remove_39 rfl ?_
    refine gJ31_29 (pc := 40) dJ31_remove_40 (hp.at 0 rfl) rfl ?_
    refine r_aload_n (pc := 43) dJ31_remove_43 rfl ?_
    refine gJ31_46 (pc := 44) dJ31_remove_44 (hp.at 0 rfl) rfl ?_
    refine r_acmp_ne (pc := 47) (tgt := 58) dJ31_remove_47 (by decide) (fun c47 => ?_) (fun c47 => absurd c47.symm (hne c1 (by omega)))
    refine r_aload_n (pc := 58) dJ31_remove_58 rfl ?_
    refine r_dup (pc := 59) dJ31_remove_59 rfl ?_
    refine gJ31_33 (pc := 60) dJ31_remove_60 (hp.at 0 rfl) rfl ?_
    refine r_iconst (pc := 63) dJ31_remove_63 ?_
    refine r_isub (pc := 64) dJ31_remove_64 ?_
    refine go_cz (w := (l : Int)) (by omega) ?_
    refine pJ31_33 (pc := 65) dJ31_remove_65 (hp.at 0 rfl) ht (Nat.le_of_ble_eq_true rfl) ?_
    refine go_pw (hp.put 0 rfl) (fun h hp => ?_)
    refine r_aload_n (pc := 68) dJ31_remove_68 rfl ?_
    refine r_null (pc := 69) dJ31_remove_69 ?_
    refine pJ31_46 (pc := 70) dJ31_remove_70 rfl rfl rfl (hp.at 0 rfl) ht (Nat.le_of_ble_eq_true rfl) ?_
    refine go_pw (hp.put 0 rfl) (fun h hp => ?_)
    refine r_aload_n (pc := 73) dJ31_remove_73 rfl ?_
    refine r_dup (pc := 74) dJ31_remove_74 rfl ?_
    refine gJ31_19 (pc := 75) dJ31_remove_75 (hp.at 0 rfl) rfl ?_
    refine r_iconst (pc := 78) dJ31_remove_78 ?_
    refine q_iadd (pc := 79) dJ31_remove_79 ?_
    refine pJ31_19 (pc := 80) dJ31_remove_80 (hp.at 0 rfl) ht (Nat.le_of_ble_eq_true rfl) ?_
    refine go_pw (hp.put 0 rfl) (fun h hp => ?_)
    exact r_vret (pc := 83) dJ31_remove_83 rfl ⟨rfl, hA2.fr (hp.fr (P := fun x => x = t) ⟨FA.t hI2, trivial⟩) (fun q => htt q.symm), by rw [rfN_t c1]; exact hp.at 0 rfl, (hF.wk (fun _ q => Or.inl q)).tr ((hp.fr (P := fun x => x = t) ⟨FA.t hI2, trivial⟩).wk (fun _ q => Or.inr q))⟩
  · rw [rfN_f c1] at hI0
    refine Ct.of (own := "java/util/LinkedList$ListItr") (nm := "remove") (by decide +kernel) rfl rfl (L := [some (.ref it), none]) rfl (Nat.le_of_ble_eq_true rfl) rfl ?_
    refine r_aload_n (pc := 0) dJ31_remove_0 rfl ?_
    refine r_callV (pc := 1) (kb' := 0) dJ31_remove_1 kJ31_checkForComodification q1032 (t_J31_checkForComodification (k := l + 1) hI hA) hI0 rfl (Nat.le_refl _) (Nat.le_of_ble_eq_true rfl) rfl rfl (Nat.le_of_ble_eq_true rfl) (fun _ _ q => q.elim) (fun _ h hq => ?_)
    refine go_jN hq (fun e => ?_)
    subst e
    refine r_aload_n (pc := 4) dJ31_remove_4 rfl ?_
    refine gJ31_46 (pc := 5) dJ31_remove_5 hI0 rfl ?_
    refine r_ifnonnull (pc := 8) (tgt := 19) dJ31_remove_8 (by decide) ?_
    refine r_aload_n (pc := 19) dJ31_remove_19 rfl ?_
    refine gJ31_46 (pc := 20) dJ31_remove_20 hI0 rfl ?_
    refine gJ31_49 (pc := 23) dJ31_remove_23 x0 rfl ?_
    refine r_astore_nV (pc := 26) (L' := [_, _]) dJ31_remove_26 rfN_rn rfl ?_
    refine r_aload_n (pc := 27) dJ31_remove_27 rfl ?_
    refine gJ31_1 (pc := 28) dJ31_remove_28 hI0 rfl ?_
    refine r_aload_n (pc := 31) dJ31_remove_31 rfl ?_
    refine gJ31_46 (pc := 32) dJ31_remove_32 hI0 rfl ?_
    refine r_callV (pc := 35) (kb' := 0) dJ31_remove_35 kJ4_unlink q1860 (t_J4_unlink hA hl htl) q1 rfl (Nat.le_refl _) (Nat.le_of_ble_eq_true rfl) rfl rfl (Nat.le_of_ble_eq_true rfl) (fun _ _ q => q.elim) (fun _ h hq => ?_)
    refine go_jP hq (fun hq => ?_)
    obtain ⟨hA2, hF⟩ := hq
    have hI2 := hF.get hI0 htt
    have hp := PW.one hI2
    refine r_pop (pc := 38) dJ31_remove_38 rfl ?_
    refine r_aload_n (pc := 39) dJ31_remove_39 rfl ?_
    refine gJ31_29 (pc := 40) dJ31_remove_40 (hp.at 0 rfl) rfl ?_
    refine r_aload_n (pc := 43) dJ31_remove_43 rfl ?_
    refine gJ31_46 (pc := 44) dJ31_remove_44 (hp.at 0 rfl) rfl ?_
    refine r_acmp_neN (pc := 47) (tgt := 58) dJ31_remove_47 (by decide) ?_
    refine r_aload_n (pc := 58) dJ31_remove_58 rfl ?_
    refine r_dup (pc := 59) dJ31_remove_59 rfl ?_
    refine gJ31_33 (pc := 60) dJ31_remove_60 (hp.at 0 rfl) rfl ?_
    refine r_iconst (pc := 63) dJ31_remove_63 ?_
    refine r_isub (pc := 64) dJ31_remove_64 ?_
    refine go_cz (w := (l : Int)) (by omega) ?_
    refine pJ31_33 (pc := 65) dJ31_remove_65 (hp.at 0 rfl) ht (Nat.le_of_ble_eq_true rfl) ?_
    refine go_pw (hp.put 0 rfl) (fun h hp => ?_)
    refine r_aload_n (pc := 68) dJ31_remove_68 rfl ?_
    refine r_null (pc := 69) dJ31_remove_69 ?_
    refine pJ31_46 (pc := 70) dJ31_remove_70 rfl rfl rfl (hp.at 0 rfl) ht (Nat.le_of_ble_eq_true rfl) ?_
    refine go_pw (hp.put 0 rfl) (fun h hp => ?_)
    refine r_aload_n (pc := 73) dJ31_remove_73 rfl ?_
    refine r_dup (pc := 74) dJ31_remove_74 rfl ?_
    refine gJ31_19 (pc := 75) dJ31_remove_75 (hp.at 0 rfl) rfl ?_
    refine r_iconst (pc := 78) dJ31_remove_78 ?_
    refine q_iadd (pc := 79) dJ31_remove_79 ?_
    refine pJ31_19 (pc := 80) dJ31_remove_80 (hp.at 0 rfl) ht (Nat.le_of_ble_eq_true rfl) ?_
    refine go_pw (hp.put 0 rfl) (fun h hp => ?_)
    exact r_vret (pc := 83) dJ31_remove_83 rfl ⟨rfl, hA2.fr (hp.fr (P := fun x => x = t) ⟨FA.t hI2, trivial⟩) (fun q => htt q.symm), by rw [rfN_f c1]; exact hp.at 0 rfl, (hF.wk (fun _ q => Or.inl q)).tr ((hp.fr (P := fun x => x = t) ⟨FA.t hI2, trivial⟩).wk (fun _ q => Or.inr q))⟩
