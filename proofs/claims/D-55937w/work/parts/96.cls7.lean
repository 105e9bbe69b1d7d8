set_option maxRecDepth 100000
theorem f8 : Cond.selects "java/util/ImmutableCollections$ListN" ⟨"java/util/List", "iterator", "()Ljava/util/Iterator;"⟩ yJ38_iterator ∈ lw_all ∧ Cond.instanceMethod yJ38_iterator ∈ lw_all ∧ Cond.initialized yJ38_iterator.cls ∈ lw_all ∧ Cond.code yJ38_iterator cJ38_iterator 1 (some (.object "java/util/Iterator")) ∈ lw_all ∧ hdOk ⟨"java/util/List", "iterator", "()Ljava/util/Iterator;"⟩ 0 ∧ 1 ≤ 21 := ⟨q1074, q1052, q153, q1054, ⟨by decide, by decide, by decide +kernel⟩, by decide⟩
theorem f6 : Cond.selects "java/util/ImmutableCollections$ListItr" ⟨"java/util/Iterator", "hasNext", "()Z"⟩ yJ41_hasNext ∈ lw_all ∧ Cond.instanceMethod yJ41_hasNext ∈ lw_all ∧ Cond.initialized yJ41_hasNext.cls ∈ lw_all ∧ Cond.code yJ41_hasNext cJ41_hasNext 1 (some .boolean) ∈ lw_all ∧ hdOk ⟨"java/util/Iterator", "hasNext", "()Z"⟩ 0 ∧ 1 ≤ 21 := ⟨q517, q519, q156, q521, ⟨by decide, by decide, by decide +kernel⟩, by decide⟩
theorem f7 : Cond.selects "java/util/ImmutableCollections$ListItr" ⟨"java/util/Iterator", "next", "()Ljava/lang/Object;"⟩ yJ41_next ∈ lw_all ∧ Cond.instanceMethod yJ41_next ∈ lw_all ∧ Cond.initialized yJ41_next.cls ∈ lw_all ∧ Cond.codeWith yJ41_next cJ41_next 3 (some (.object "java/lang/Object")) [(0, 24, 25, 30)] ∈ lw_all ∧ hdOk ⟨"java/util/Iterator", "next", "()Ljava/lang/Object;"⟩ 0 ∧ 3 ≤ 21 := ⟨q973, q975, q156, q977, ⟨by decide, by decide, by decide +kernel⟩, by decide⟩
/-! the class, part 7: shelves in order; whether all is told alike; means -/
theorem t_X1_isFuller {G : Gl} {h9 : Hp} {o s T : Nat} {v1 v2 v3 v4 v5 v6 v7 : Value} {r : Row} {al cl sl : Nat} {m1 m2 m3 : Int32} {n1 n2 E F : Nat → Nat} (hb9 : h9 o = some ((2, 0), ob 0 [.ref s, v1, v2, v3, v4, v5, v6, v7])) (hX9 : SWx G T s r al cl sl m1 m2 m3 n1 n2 E F h9) (hI : RI r) {x y : Int} (hx : 0 ≤ x ∧ x ≤ 2) (hy : 0 ≤ y ∧ y ≤ 2) : Ct G 7 24 yX1_isFuller (Cond.code yX1_isFuller cX1_isFuller 5 (some .boolean)) [.ref o, .int (iZ x), .int (iZ y)] h9 (jP (.int (iZ (bZ (flP r x y)))) (Fr pQ h9)) noX := by
  have hF : Fr pQ h9 h9 := Fr.rf
  have hb := hb9
  have hX := hX9
  have b := hI.1
  have hX2 := hX
  obtain ⟨w1, w2, w3, w4, w5, w6, w7, w8⟩ := hX2
  obtain ⟨ar1, w2s⟩ := w2.size
  have o1 := onSh_in (r := r) (s := x) (by omega)
  have o2 := onSh_in (r := r) (s := y) (by omega)
  have c1 := crkSh_in (s := x) hI
  have c2 := crkSh_in (s := y) hI
  refine Ct.of (own := "CharterKiln") (nm := "isFuller") (by decide +kernel) rfl rfl (L := [some (.ref o), some (.int (iZ x)), some (.int (iZ y)), none, none]) rfl (Nat.le_of_ble_eq_true rfl) rfl ?_
  refine r_aload_n (pc := 0) dX1_isFuller_0 rfl ?_
  refine gX1_10 (pc := 1) dX1_isFuller_1 hb rfl ?_
  refine r_iload_n (pc := 4) dX1_isFuller_4 rfl ?_
  refine r_callV (pc := 5) (kb' := 18) dX1_isFuller_5 kX2_many q1577 (t_X2_many hX.w hI (by omega)) w1 rfl (Nat.le_of_ble_eq_true rfl) (Nat.le_of_ble_eq_true rfl) rfl rfl (Nat.le_of_ble_eq_true rfl) (fun _ _ q => q.elim) (fun _ h hq => ?_)
  refine go_jP hq (fun hq2 => ?_)
  replace hF := hF.tr hq2
  have hb := hF.get hb9 pQ_2
  have hX := hX9.q hF
  have hX2 := hX
  obtain ⟨w1, w2, w3, w4, w5, w6, w7, w8⟩ := hX2
  obtain ⟨ar1, w2s⟩ := w2.size
  refine r_aload_n (pc := 8) dX1_isFuller_8 rfl ?_
  refine gX1_10 (pc := 9) dX1_isFuller_9 hb rfl ?_
  refine r_iload_n (pc := 12) dX1_isFuller_12 rfl ?_
  refine r_callV (pc := 13) (kb' := 12) dX1_isFuller_13 kX2_many q1577 (t_X2_many hX.w hI (by omega)) w1 rfl (Nat.le_of_ble_eq_true rfl) (Nat.le_of_ble_eq_true rfl) rfl rfl (Nat.le_of_ble_eq_true rfl) (fun _ _ q => q.elim) (fun _ h hq => ?_)
  refine go_jP hq (fun hq2 => ?_)
  replace hF := hF.tr hq2
  have hb := hF.get hb9 pQ_2
  have hX := hX9.q hF
  have hX2 := hX
  obtain ⟨w1, w2, w3, w4, w5, w6, w7, w8⟩ := hX2
  obtain ⟨ar1, w2s⟩ := w2.size
  refine r_isub (pc := 16) dX1_isFuller_16 ?_
  refine r_istore_n (pc := 17) (L' := [_, _, _, _, _]) dX1_isFuller_17 rfl ?_
  refine r_iload_n (pc := 18) dX1_isFuller_18 rfl ?_
  refine r_if_eq (pc := 19) (tgt := 32) dX1_isFuller_19 (by decide) (by omega) (fun c19 => ?_) (fun c19 => ?_)
  · refine r_aload_n (pc := 32) dX1_isFuller_32 rfl ?_
    refine gX1_10 (pc := 33) dX1_isFuller_33 hb rfl ?_
    refine r_iload_n (pc := 36) dX1_isFuller_36 rfl ?_
    refine r_callV (pc := 37) (kb' := 6) dX1_isFuller_37 kX2_cracksOn q1993 (t_X2_cracksOn hX.w hI (by omega)) w1 rfl (Nat.le_of_ble_eq_true rfl) (Nat.le_of_ble_eq_true rfl) rfl rfl (Nat.le_of_ble_eq_true rfl) (fun _ _ q => q.elim) (fun _ h hq => ?_)
    refine go_jP hq (fun hq2 => ?_)
    replace hF := hF.tr hq2
    have hb := hF.get hb9 pQ_2
    have hX := hX9.q hF
    have hX2 := hX
    obtain ⟨w1, w2, w3, w4, w5, w6, w7, w8⟩ := hX2
    obtain ⟨ar1, w2s⟩ := w2.size
    refine r_aload_n (pc := 40) dX1_isFuller_40 rfl ?_
    refine gX1_10 (pc := 41) dX1_isFuller_41 hb rfl ?_
    refine r_iload_n (pc := 44) dX1_isFuller_44 rfl ?_
    refine r_callV (pc := 45) (kb' := 0) dX1_isFuller_45 kX2_cracksOn q1993 (t_X2_cracksOn hX.w hI (by omega)) w1 rfl (Nat.le_of_ble_eq_true rfl) (Nat.le_of_ble_eq_true rfl) rfl rfl (Nat.le_of_ble_eq_true rfl) (fun _ _ q => q.elim) (fun _ h hq => ?_)
    refine go_jP hq (fun hq2 => ?_)
    replace hF := hF.tr hq2
    have hb := hF.get hb9 pQ_2
    have hX := hX9.q hF
    have hX2 := hX
    obtain ⟨w1, w2, w3, w4, w5, w6, w7, w8⟩ := hX2
    obtain ⟨ar1, w2s⟩ := w2.size
    refine r_isub (pc := 48) dX1_isFuller_48 ?_
    refine r_istore (pc := 49) (L' := [_, _, _, _, _]) dX1_isFuller_49 rfl ?_
    refine r_iload (pc := 51) dX1_isFuller_51 rfl ?_
    refine r_if_eq (pc := 53) (tgt := 69) dX1_isFuller_53 (by decide) (by omega) (fun c53 => ?_) (fun c53 => ?_)
    · refine r_iload_n (pc := 69) dX1_isFuller_69 rfl ?_
      refine r_iload_n (pc := 70) dX1_isFuller_70 rfl ?_
      refine r_icmp_ge (pc := 71) (tgt := 78) dX1_isFuller_71 (by decide) (by omega) (by omega) (fun c71 => ?_) (fun c71 => ?_)
      · refine r_iconst (pc := 78) dX1_isFuller_78 ?_
        exact r_iret (pc := 79) dX1_isFuller_79 rfl (nB' (by first | (left; rfl) | (right; rfl) | exact bZ_01' _ | omega)) ⟨by rw [bZ_f (show ¬ flP r x y by omega)], hF⟩
      · refine r_iconst (pc := 74) dX1_isFuller_74 ?_
        refine r_goto (pc := 75) (tgt := 79) dX1_isFuller_75 (by decide) ?_
        exact r_iret (pc := 79) dX1_isFuller_79 rfl (nB' (by first | (left; rfl) | (right; rfl) | exact bZ_01' _ | omega)) ⟨by rw [bZ_t (show flP r x y by omega)], hF⟩
    · refine r_iload (pc := 56) dX1_isFuller_56 rfl ?_
      refine r_if_le (pc := 58) (tgt := 65) dX1_isFuller_58 (by decide) (by omega) (fun c58 => ?_) (fun c58 => ?_)
      · refine r_iconst (pc := 65) dX1_isFuller_65 ?_
        refine r_goto (pc := 66) (tgt := 79) dX1_isFuller_66 (by decide) ?_
        exact r_iret (pc := 79) dX1_isFuller_79 rfl (nB' (by first | (left; rfl) | (right; rfl) | exact bZ_01' _ | omega)) ⟨by rw [bZ_f (show ¬ flP r x y by omega)], hF⟩
      · refine r_iconst (pc := 61) dX1_isFuller_61 ?_
        refine r_goto (pc := 62) (tgt := 79) dX1_isFuller_62 (by decide) ?_
        exact r_iret (pc := 79) dX1_isFuller_79 rfl (nB' (by first | (left; rfl) | (right; rfl) | exact bZ_01' _ | omega)) ⟨by rw [bZ_t (show flP r x y by omega)], hF⟩
  · refine r_iload_n (pc := 22) dX1_isFuller_22 rfl ?_
    refine r_if_le (pc := 23) (tgt := 30) dX1_isFuller_23 (by decide) (by omega) (fun c23 => ?_) (fun c23 => ?_)
    · refine r_iconst (pc := 30) dX1_isFuller_30 ?_
      exact r_iret (pc := 31) dX1_isFuller_31 rfl (nB' (by first | (left; rfl) | (right; rfl) | exact bZ_01' _ | omega)) ⟨by rw [bZ_f (show ¬ flP r x y by omega)], hF⟩
    · refine r_iconst (pc := 26) dX1_isFuller_26 ?_
      refine r_goto (pc := 27) (tgt := 31) dX1_isFuller_27 (by decide) ?_
      exact r_iret (pc := 31) dX1_isFuller_31 rfl (nB' (by first | (left; rfl) | (right; rfl) | exact bZ_01' _ | omega)) ⟨by rw [bZ_t (show flP r x y by omega)], hF⟩
theorem t_X1_fullest {G : Gl} {h9 : Hp} {o s T : Nat} {v1 v2 v3 v4 v5 v6 v7 : Value} {r : Row} {al cl sl : Nat} {m1 m2 m3 : Int32} {n1 n2 E F : Nat → Nat} (hb9 : h9 o = some ((2, 0), ob 0 [.ref s, v1, v2, v3, v4, v5, v6, v7])) (hX9 : SWx G T s r al cl sl m1 m2 m3 n1 n2 E F h9) (hI : RI r) {p : Int} (hp9 : InR p) : Ct G 8 223 yX1_fullest (Cond.code yX1_fullest cX1_fullest 5 (some .int)) [.ref o, .int (iZ p)] h9 (qQ (zFul r p) (kFul r p) (Fr pQ h9)) (qX (kFul r p) eNSE "" (Fr pQ h9)) := by
  have hF : Fr pQ h9 h9 := Fr.rf
  have hb := hb9
  have hX := hX9
  have b := hI.1
  have hX2 := hX
  obtain ⟨w1, w2, w3, w4, w5, w6, w7, w8⟩ := hX2
  obtain ⟨ar1, w2s⟩ := w2.size
  refine Ct.of (own := "CharterKiln") (nm := "fullest") (by decide +kernel) rfl rfl (L := [some (.ref o), some (.int (iZ p)), none, none, none]) rfl (Nat.le_of_ble_eq_true rfl) rfl ?_
  refine r_iconst (pc := 0) dX1_fullest_0 ?_
  refine r_istore_n (pc := 1) (L' := [_, _, _, _, _]) dX1_fullest_1 rfl ?_
  have loop2 : ∀ (k2 : Nat) (i : Nat) (h : Hp), (i ≤ 3) → (flF r p = fndZ (fun s => flN r s = p) i ((3 : Int) - i).toNat) → (Fr pQ h9 h) → 3 - i < k2 → Go G "CharterKiln" cX1_fullest (5, some .int, "fullest", []) 8 223 (qQ (zFul r p) (kFul r p) (Fr pQ h9)) ((qX (kFul r p) eNSE "" (Fr pQ h9))) (72 * (3 - i) + 7) h 2 [some (.ref o), some (.int (iZ p)), some (.int (iZ i)), none, none] [] := by
    intro k2
    induction k2 with
    | zero => intro i h hi hs hF hk; omega
    | succ k2 ih2 =>
      intro i h hi hs hF hk2
      have hb := hF.get hb9 pQ_2
      have hX := hX9.q hF
      have hX2 := hX
      obtain ⟨w1, w2, w3, w4, w5, w6, w7, w8⟩ := hX2
      obtain ⟨ar1, w2s⟩ := w2.size
      refine r_iload_n (pc := 2) dX1_fullest_2 rfl ?_
      refine r_iconst (pc := 3) dX1_fullest_3 ?_
      refine r_icmp_ge (pc := 4) (tgt := 55) dX1_fullest_4 (by decide) (by omega) (by omega) (fun c4 => ?_) (fun c4 => ?_)
      · exact r_thr (pc := 55) dX1_fullest_55 dX1_fullest_58 dX1_fullest_59 dX1_fullest_62 ftNSE q2020 q138 (atNSE (wokA q2021 rfl)) rfl rfl (by decide) (Nat.le_of_ble_eq_true rfl) (Nat.le_of_ble_eq_true rfl) (by omega) ⟨Or.inl ⟨rfl, by unfold kFul; rw [if_pos (by rw [hs, fnd_e (by omega)])]⟩, hF⟩
      · refine r_iconst (pc := 7) dX1_fullest_7 ?_
        refine r_istore_n (pc := 8) (L' := [_, _, _, _, _]) dX1_fullest_8 rfl ?_
        refine r_iconst (pc := 9) dX1_fullest_9 ?_
        refine r_istore (pc := 10) (L' := [_, _, _, _, _]) dX1_fullest_10 rfl ?_
        have loop12 : ∀ (k12 : Nat) (j : Nat) (h : Hp), (j ≤ 3) → (Fr pQ h9 h) → 3 - j < k12 → Go G "CharterKiln" cX1_fullest (5, some .int, "fullest", []) 8 223 (qQ (zFul r p) (kFul r p) (Fr pQ h9)) ((qX (kFul r p) eNSE "" (Fr pQ h9))) (24 * (3 - j) + 72 * (2 - i) + 7) h 12 [some (.ref o), some (.int (iZ p)), some (.int (iZ i)), some (.int (iZ (sumZ (fun o => bZ (flP r o i)) j))), some (.int (iZ j))] [] := by
          intro k12
          induction k12 with
          | zero => intro j h hj hF hk; omega
          | succ k12 ih12 =>
            intro j h hj hF hk12
            have hb := hF.get hb9 pQ_2
            have hX := hX9.q hF
            have hX2 := hX
            obtain ⟨w1, w2, w3, w4, w5, w6, w7, w8⟩ := hX2
            obtain ⟨ar1, w2s⟩ := w2.size
            have hsb := sumI_bd (f := fun o => bZ (flP r o i)) (c := 1) (fun a => by rcases bZ_01 (flP r a i) with e | e <;> rw [e] <;> decide) j
            refine r_iload (pc := 12) dX1_fullest_12 rfl ?_
            refine r_iconst (pc := 14) dX1_fullest_14 ?_
            refine r_icmp_ge (pc := 15) (tgt := 42) dX1_fullest_15 (by decide) (by omega) (by omega) (fun c15 => ?_) (fun c15 => ?_)
            · have hjn : flN r i = sumZ (fun o => bZ (flP r o i)) j := by rw [show j = 3 by omega]; rfl
              refine r_iload_n (pc := 42) dX1_fullest_42 rfl ?_
              refine r_iload_n (pc := 43) dX1_fullest_43 rfl ?_
              refine r_icmp_ne (pc := 44) (tgt := 49) dX1_fullest_44 (by decide) (by omega) (by omega) (fun c44 => ?_) (fun c44 => ?_)
              · refine r_iinc (pc := 49) (L' := [_, _, _, _, _]) dX1_fullest_49 rfl rfl ?_
                refine r_goto (pc := 52) (tgt := 2) dX1_fullest_52 (by decide) ?_
                refine goL (L' := [some (.ref o), some (.int (iZ p)), some (.int (iZ (i + 1 : Nat))), none, none]) ⟨rfl, rfl, rfl, trivial⟩ ?_
                refine go_kb (kb' := 72 * (3 - (i + 1)) + 7) (by omega) ?_
                exact ih2 (i + 1) h (by omega) (by rw [hs, fnd_s (by omega), if_neg (by rw [hjn]; assumption)]; rfl) hF (by omega)
              · have hfz : flF r p = i := by rw [hs, fnd_s (by omega), if_pos (by rw [hjn]; omega)]
                refine r_iload_n (pc := 47) dX1_fullest_47 rfl ?_
                exact r_iret (pc := 48) dX1_fullest_48 rfl rfl ⟨congrArg (fun q : Int => some (Value.int (iZ q))) (by unfold zFul; rw [if_neg (by rw [hfz]; omega), hfz]), by unfold kFul; rw [if_neg (by rw [hfz]; omega)], hF⟩
            · refine r_iload_n (pc := 18) dX1_fullest_18 rfl ?_
              refine r_aload_n (pc := 19) dX1_fullest_19 rfl ?_
              refine r_iload (pc := 20) dX1_fullest_20 rfl ?_
              refine r_iload_n (pc := 22) dX1_fullest_22 rfl ?_
              refine r_callV (pc := 23) (kb' := 24 * (3 - j) + 72 * (2 - i) + 7 - 24) dX1_fullest_23 kX1_isFuller q2147 (t_X1_isFuller hb hX hI (by omega) (by omega)) hb rfl (by omega) (Nat.le_of_ble_eq_true rfl) rfl rfl (Nat.le_of_ble_eq_true rfl) (fun _ _ q => q.elim) (fun _ h hq => ?_)
              refine go_jP hq (fun hq2 => ?_)
              replace hF := hF.tr hq2
              have hb := hF.get hb9 pQ_2
              have hX := hX9.q hF
              have hX2 := hX
              obtain ⟨w1, w2, w3, w4, w5, w6, w7, w8⟩ := hX2
              obtain ⟨ar1, w2s⟩ := w2.size
              refine r_ifB_eq (pc := 26) (tgt := 33) dX1_fullest_26 (by decide) (fun c26 => ?_) (fun c26 => ?_)
              · refine r_iconst (pc := 33) dX1_fullest_33 ?_
                refine go_cz (w := bZ (flP r j i)) (bZ_f (by assumption)).symm ?_
                refine r_iadd (pc := 34) dX1_fullest_34 ?_
                refine go_cz (w := sumZ (fun o => bZ (flP r o i)) (j + 1)) rfl ?_
                refine r_istore_n (pc := 35) (L' := [_, _, _, _, _]) dX1_fullest_35 rfl ?_
                refine r_iinc (pc := 36) (L' := [_, _, _, _, _]) dX1_fullest_36 rfl rfl ?_
                refine r_goto (pc := 39) (tgt := 12) dX1_fullest_39 (by decide) ?_
                refine go_kb (kb' := 24 * (3 - (j + 1)) + 72 * (2 - i) + 7) (by omega) ?_
                exact ih12 (j + 1) h (by omega) hF (by omega)
              · refine r_iconst (pc := 29) dX1_fullest_29 ?_
                refine go_cz (w := bZ (flP r j i)) (bZ_t (by first | assumption | exact Classical.not_not.mp (by assumption))).symm ?_
                refine r_goto (pc := 30) (tgt := 34) dX1_fullest_30 (by decide) ?_
                refine r_iadd (pc := 34) dX1_fullest_34 ?_
                refine go_cz (w := sumZ (fun o => bZ (flP r o i)) (j + 1)) rfl ?_
                refine r_istore_n (pc := 35) (L' := [_, _, _, _, _]) dX1_fullest_35 rfl ?_
                refine r_iinc (pc := 36) (L' := [_, _, _, _, _]) dX1_fullest_36 rfl rfl ?_
                refine r_goto (pc := 39) (tgt := 12) dX1_fullest_39 (by decide) ?_
                refine go_kb (kb' := 24 * (3 - (j + 1)) + 72 * (2 - i) + 7) (by omega) ?_
                exact ih12 (j + 1) h (by omega) hF (by omega)
        refine go_kb (kb' := 24 * (3 - 0) + 72 * (2 - i) + 7) (by omega) ?_
        exact loop12 _ 0 h (by omega) hF (Nat.lt_succ_self _)
  refine go_kb (kb' := 72 * (3 - 0) + 7) (by omega) ?_
  exact loop2 _ 0 h9 (by omega) rfl hF (Nat.lt_succ_self _)
theorem t_X1_isAlike {G : Gl} {h9 : Hp} {q ls : Nat} {t tl : Tg} {r : Row} {a : Int} (hZ : FZ G h9) (ha9 : h9 q = some (t, aC r a)) (ho : artOk r a) (hL9 : LN tl ls 3 (e3 G) h9) : Ct G 5 5 yX1_isAlike (Cond.code yX1_isAlike cX1_isAlike 4 (some .boolean)) [.ref q, .ref ls] h9 (jP (.int (iZ 1)) (Fr pN h9)) noX := by
  have ha := ha9
  have hL := hL9
  have hL0 := hL
  obtain ⟨lar, lf, hL1, hL2⟩ := hL0
  have hp := PW.nil (h := h9)
  refine Ct.of (own := "CharterKiln") (nm := "isAlike") (by decide +kernel) rfl rfl (L := [some (.ref q), some (.ref ls), none, none]) rfl (Nat.le_of_ble_eq_true rfl) rfl ?_
  refine r_aload_n (pc := 0) dX1_isAlike_0 rfl ?_
  refine r_callF (pc := 1) (kb' := 0) dX1_isAlike_1 8 rfl f8 q1044 (t_J38_iterator hL (3, 14) (by decide)) hL1 rfl (Nat.le_of_ble_eq_true rfl) (Nat.le_of_ble_eq_true rfl) rfl rfl (Nat.le_of_ble_eq_true rfl) (fun _ _ q => q.elim) (fun _ h hq => ?_)
  refine go_jX hq (fun it hit => ?_)
  obtain ⟨hit, e9⟩ := hit
  subst e9
  refine go_pw (hp.new hit _) (fun h hp => ?_)
  refine r_astore_n (pc := 6) (L' := [_, _, _, _]) dX1_isAlike_6 rfl ?_
  have loop7 : ∀ (k7 : Nat) (k : Nat) (h : Hp), (k ≤ 3) → (PW [(it, (3, 14), ob 19 [.ref ls, .int (iZ (3 : Nat)), .int (iZ 0), .int (iZ k)])] h9 h) → 3 - k < k7 → Go G "CharterKiln" cX1_isAlike (4, some .boolean, "isAlike", []) 5 5 (jP (.int (iZ 1)) (Fr pN h9)) (noX) 0 h 7 [some (.ref q), some (.ref ls), some (.ref it), none] [] := by
    intro k7
    induction k7 with
    | zero => intro k h hk hp hk; omega
    | succ k7 ih7 =>
      intro k h hk hp hk7
      have hF := hp.fr (P := pN) ⟨Or.inl hit, trivial⟩
      have ha := hF.get ha9 (fun q => q)
      have hL := hL9.fr hF (fun q => q)
      have hL0 := hL
      obtain ⟨lar, lf, hL1, hL2⟩ := hL0
      refine r_aload_n (pc := 7) dX1_isAlike_7 rfl ?_
      refine r_callF (pc := 8) (kb' := 0) dX1_isAlike_8 6 rfl f6 q489 (t_J41_hasNext (hp.at 0 rfl) (by omega)) (hp.at 0 rfl) rfl (Nat.le_refl _) (Nat.le_of_ble_eq_true rfl) rfl rfl (Nat.le_of_ble_eq_true rfl) (fun _ _ q => q.elim) (fun _ _ hq => ?_)
      refine go_jE hq ?_
      refine r_ifB_eq (pc := 13) (tgt := 47) dX1_isAlike_13 (by decide) (fun c13 => ?_) (fun c13 => ?_)
      · refine r_iconst (pc := 47) dX1_isAlike_47 ?_
        exact r_iret (pc := 48) dX1_isAlike_48 rfl (nB' (by first | (left; rfl) | (right; rfl) | exact bZ_01' _ | omega)) ⟨rfl, hp.fr ⟨Or.inl hit, trivial⟩⟩
      · refine r_aload_n (pc := 16) dX1_isAlike_16 rfl ?_
        refine r_callFH (pc := 17) (kb' := 0) dX1_isAlike_17 7 rfl f7 q529 (t_J41_next hL (hp.at 0 rfl) (by decide) (by omega)) (hp.at 0 rfl) rfl (Nat.le_refl _) (Nat.le_of_ble_eq_true rfl) rfl rfl (Nat.le_of_ble_eq_true rfl) (fun _ _ q => q.elim) (fun _ h hq => ?_)
        refine go_jP hq (fun e9 => ?_)
        subst e9
        refine go_pw (hp.put 0 rfl) (fun h hp => ?_)
        have hF := hp.fr (P := pN) ⟨Or.inl hit, trivial⟩
        have ha := hF.get ha9 (fun q => q)
        obtain ⟨z, hz1, hz2⟩ := int3 (hZ.fr hF (fun q => q)) k (by omega)
        refine r_cast (pc := 22) dX1_isAlike_22 q1159 hz2 rfl ?_
        refine r_callV (pc := 25) (kb' := 0) dX1_isAlike_25 kJ23_intValue q1160 (t_J23_intValue hz2) hz2 rfl (Nat.le_refl _) (Nat.le_of_ble_eq_true rfl) rfl rfl (Nat.le_of_ble_eq_true rfl) (fun _ _ q => q.elim) (fun _ _ hq => ?_)
        refine go_jE hq ?_
        refine r_istore_n (pc := 28) (L' := [_, _, _, _]) dX1_isAlike_28 rfl ?_
        refine r_aload_n (pc := 29) dX1_isAlike_29 rfl ?_
        refine r_iload_n (pc := 30) dX1_isAlike_30 rfl ?_
        refine r_callV (pc := 31) (kb' := 0) dX1_isAlike_31 kX5_cracksBy q1164 (t_X5_cracksBy ha ho hz1) ha rfl (Nat.le_refl _) (Nat.le_of_ble_eq_true rfl) rfl rfl (Nat.le_of_ble_eq_true rfl) (fun _ _ q => q.elim) (fun _ _ hq => ?_)
        refine go_jE hq ?_
        refine r_aload_n (pc := 34) dX1_isAlike_34 rfl ?_
        refine r_iload_n (pc := 35) dX1_isAlike_35 rfl ?_
        refine r_callV (pc := 36) (kb' := 0) dX1_isAlike_36 kX5_cracksByDegrees q1186 (t_X5_cracksByDegrees ha ho hz1) ha rfl (Nat.le_refl _) (Nat.le_of_ble_eq_true rfl) rfl rfl (Nat.le_of_ble_eq_true rfl) (fun _ _ q => q.elim) (fun _ _ hq => ?_)
        refine go_jE hq ?_
        have hcr := cr_in ho hz1
        refine r_icmp_eq (pc := 39) (tgt := 44) dX1_isAlike_39 (by decide) (by omega) (by omega) (fun c39 => ?_) (fun c39 => absurd rfl c39)
        refine r_goto (pc := 44) (tgt := 7) dX1_isAlike_44 (by decide) ?_
        refine goL (L' := [some (.ref q), some (.ref ls), some (.ref it), none]) ⟨rfl, rfl, rfl, trivial⟩ ?_
        exact ih7 (k + 1) h (by omega) hp (by omega)
  exact loop7 _ 0 _ (by omega) hp (Nat.lt_succ_self _)
theorem t_X1_isTold {G : Gl} {h9 : Hp} {o s T : Nat} {v1 v2 v3 v4 v5 v6 v7 : Value} {r : Row} {al cl sl : Nat} {m1 m2 m3 : Int32} {n1 n2 E F : Nat → Nat} (hb9 : h9 o = some ((2, 0), ob 0 [.ref s, v1, v2, v3, v4, v5, v6, v7])) (hX9 : SWx G T s r al cl sl m1 m2 m3 n1 n2 E F h9) (hI : RI r) (hZ : FZ G h9) : Ct G 7 592 yX1_isTold (Cond.code yX1_isTold cX1_isTold 4 (some .boolean)) [.ref o] h9 (jP (.int (iZ 1)) (Fr pQ h9)) noX := by
  have hF : Fr pQ h9 h9 := Fr.rf
  have hb := hb9
  have hX := hX9
  have b := hI.1
  have hX2 := hX
  obtain ⟨w1, w2, w3, w4, w5, w6, w7, w8⟩ := hX2
  obtain ⟨ar1, w2s⟩ := w2.size
  refine Ct.of (own := "CharterKiln") (nm := "isTold") (by decide +kernel) rfl rfl (L := [some (.ref o), none, none, none]) rfl (Nat.le_of_ble_eq_true rfl) rfl ?_
  refine r_bipush (pc := 0) dX1_isTold_0 (by decide) ?_
  refine r_callS (pc := 2) (kb' := 592) dX1_isTold_2 kJ23_valueOf q352 (t_J23_valueOf (z := 10) hZ.2.1 (by omega)) (Nat.le_refl _) (Nat.le_of_ble_eq_true rfl) rfl rfl (Nat.le_of_ble_eq_true rfl) (fun _ _ q => q.elim) (fun _ _ hq => ?_)
  refine go_jE hq ?_
  refine go_cv (w := .ref (e3 G 0)) rfl ?_
  refine r_bipush (pc := 5) dX1_isTold_5 (by decide) ?_
  refine r_callS (pc := 7) (kb' := 592) dX1_isTold_7 kJ23_valueOf q352 (t_J23_valueOf (z := 50) hZ.2.1 (by omega)) (Nat.le_refl _) (Nat.le_of_ble_eq_true rfl) rfl rfl (Nat.le_of_ble_eq_true rfl) (fun _ _ q => q.elim) (fun _ _ hq => ?_)
  refine go_jE hq ?_
  refine go_cv (w := .ref (e3 G 1)) rfl ?_
  refine r_bipush (pc := 10) dX1_isTold_10 (by decide) ?_
  refine r_callS (pc := 12) (kb' := 592) dX1_isTold_12 kJ23_valueOf q352 (t_J23_valueOf (z := 99) hZ.2.1 (by omega)) (Nat.le_refl _) (Nat.le_of_ble_eq_true rfl) rfl rfl (Nat.le_of_ble_eq_true rfl) (fun _ _ q => q.elim) (fun _ _ hq => ?_)
  refine go_jE hq ?_
  refine go_cv (w := .ref (e3 G 2)) rfl ?_
  refine r_callS (pc := 15) (kb' := 585) dX1_isTold_15 kJ36_of q372 (t_J36_of (e := e3 G) (3, 13) (by decide) (fun i hi => by obtain ⟨z, _, hz⟩ := int3 hZ i hi; exact ⟨_, _, _, hz⟩)) (Nat.le_of_ble_eq_true rfl) (Nat.le_of_ble_eq_true rfl) rfl rfl (Nat.le_of_ble_eq_true rfl) (fun _ _ q => q.elim) (fun _ h hq => ?_)
  refine go_jX hq (fun ls hq2 => ?_)
  obtain ⟨hL, hF2⟩ := hq2
  replace hF := hF.tr (hF2.wk (fun _ q => q.elim))
  have hb := hF.get hb9 pQ_2
  have hX := hX9.q hF
  have hX2 := hX
  obtain ⟨w1, w2, w3, w4, w5, w6, w7, w8⟩ := hX2
  obtain ⟨ar1, w2s⟩ := w2.size
  refine r_astore_n (pc := 18) (L' := [_, _, _, _]) dX1_isTold_18 rfl ?_
  refine r_aload_n (pc := 19) dX1_isTold_19 rfl ?_
  refine gX1_10 (pc := 20) dX1_isTold_20 hb rfl ?_
  refine gX1_95 (pc := 23) dX1_isTold_23 w1 rfl ?_
  refine r_callV (pc := 26) (kb' := 580) dX1_isTold_26 kJ2_iterator q463 (t_J2_iterator (3, 11) (by decide) w2) w2s rfl (Nat.le_of_ble_eq_true rfl) (Nat.le_of_ble_eq_true rfl) rfl rfl (Nat.le_of_ble_eq_true rfl) (fun _ _ q => q.elim) (fun _ h hq => ?_)
  refine go_jX hq (fun it hx2 => ?_)
  obtain ⟨hxn, e9⟩ := hx2
  subst e9
  replace hF := hF.tr (Fr.nw (x := ((3, 11), ob 9 [.int (iZ 0), .int (iZ (-1)), .int m1, .ref al])) hxn)
  replace hL := hL.fr (P := pN) (Fr.nw (x := ((3, 11), ob 9 [.int (iZ 0), .int (iZ (-1)), .int m1, .ref al])) hxn) (fun q => q)
  have hit2 := up_s (h := h) (a := it) (x := ((3, 11), ob 9 [.int (iZ 0), .int (iZ (-1)), .int m1, .ref al]))
  generalize up h it ((3, 11), ob 9 [.int (iZ 0), .int (iZ (-1)), .int m1, .ref al]) = h at hF hL hit2 ⊢
  have hb := hF.get hb9 pQ_2
  have hX := hX9.q hF
  have hX2 := hX
  obtain ⟨w1, w2, w3, w4, w5, w6, w7, w8⟩ := hX2
  obtain ⟨ar1, w2s⟩ := w2.size
  refine r_astore_n (pc := 29) (L' := [_, _, _, _]) dX1_isTold_29 rfl ?_
  have loop30 : ∀ (k30 : Nat) (k : Nat) (l : Int) (h : Hp), (k ≤ (r 0).toNat) → (Fr pQ h9 h) → (LN (3, 13) ls 3 (e3 G) h) → (h it = some ((3, 11), ob 9 [.int (iZ k), .int (iZ l), .int m1, .ref al])) → (r 0).toNat - k < k30 → Go G "CharterKiln" cX1_isTold (4, some .boolean, "isTold", []) 7 592 (jP (.int (iZ 1)) (Fr pQ h9)) (noX) (5 * ((r 0).toNat - k) + 472) h 30 [some (.ref o), some (.ref ls), some (.ref it), none] [] := by
    intro k30
    induction k30 with
    | zero => intro k l h hk hF hL hit2 hk; omega
    | succ k30 ih30 =>
      intro k l h hk hF hL hit2 hk30
      have hb := hF.get hb9 pQ_2
      have hX := hX9.q hF
      have hX2 := hX
      obtain ⟨w1, w2, w3, w4, w5, w6, w7, w8⟩ := hX2
      obtain ⟨ar1, w2s⟩ := w2.size
      refine r_aload_n (pc := 30) dX1_isTold_30 rfl ?_
      refine r_callF (pc := 31) (kb' := 5 * ((r 0).toNat - k) + 472) dX1_isTold_31 0 rfl f0 q489 (t_J26_hasNext hit2 w2 (by omega)) hit2 rfl (Nat.le_refl _) (Nat.le_of_ble_eq_true rfl) rfl rfl (Nat.le_of_ble_eq_true rfl) (fun _ _ q => q.elim) (fun _ _ hq => ?_)
      refine go_jE hq ?_
      refine r_ifB_eq (pc := 36) (tgt := 62) dX1_isTold_36 (by decide) (fun c36 => ?_) (fun c36 => ?_)
      · refine r_aload_n (pc := 62) dX1_isTold_62 rfl ?_
        refine gX1_10 (pc := 63) dX1_isTold_63 hb rfl ?_
        refine gX1_122 (pc := 66) dX1_isTold_66 w1 rfl ?_
        refine r_callG (pc := 69) (kb' := 5 * ((r 0).toNat - k) + 472 - 6) dX1_isTold_69 cuX1_312_10 (t_J3_iterator (3, 12) (by decide) w3) w3.2.1 rfl (by omega) (Nat.le_of_ble_eq_true rfl) rfl rfl (Nat.le_of_ble_eq_true rfl) (fun _ _ q => q.elim) (fun _ h hq => ?_)
        refine go_jX hq (fun it hx2 => ?_)
        obtain ⟨hxn, e9⟩ := hx2
        subst e9
        replace hF := hF.tr (Fr.nw (x := ((3, 12), ob 11 [.null, rfN (0 < (r 1).toNat) (n1 0), .int (iZ 0), .int m2, .ref cl])) hxn)
        have hit2 := up_s (h := h) (a := it) (x := ((3, 12), ob 11 [.null, rfN (0 < (r 1).toNat) (n1 0), .int (iZ 0), .int m2, .ref cl]))
        generalize up h it ((3, 12), ob 11 [.null, rfN (0 < (r 1).toNat) (n1 0), .int (iZ 0), .int m2, .ref cl]) = h at hF hit2 ⊢
        have hb := hF.get hb9 pQ_2
        have hX := hX9.q hF
        have hX2 := hX
        obtain ⟨w1, w2, w3, w4, w5, w6, w7, w8⟩ := hX2
        obtain ⟨ar1, w2s⟩ := w2.size
        refine r_astore_n (pc := 72) (L' := [_, _, _, _]) dX1_isTold_72 rfl ?_
        have loop73 : ∀ (k73 : Nat) (k : Nat) (lv : Value) (h : Hp), (k ≤ (r 1).toNat) → (Fr pQ h9 h) → (h it = some ((3, 12), ob 11 [lv, rfN (k < (r 1).toNat) (n1 (k)), .int (iZ k), .int m2, .ref cl])) → (r 1).toNat - k < k73 → Go G "CharterKiln" cX1_isTold (4, some .boolean, "isTold", []) 7 592 (jP (.int (iZ 1)) (Fr pQ h9)) (noX) 460 h 73 [some (.ref o), some (.ref ls), some (.ref it), none] [] := by
          intro k73
          induction k73 with
          | zero => intro k lv h hk2 hF hit2 hk; omega
          | succ k73 ih73 =>
            intro k lv h hk2 hF hit2 hk73
            have hb := hF.get hb9 pQ_2
            have hX := hX9.q hF
            have hX2 := hX
            obtain ⟨w1, w2, w3, w4, w5, w6, w7, w8⟩ := hX2
            obtain ⟨ar1, w2s⟩ := w2.size
            refine r_aload_n (pc := 73) dX1_isTold_73 rfl ?_
            refine r_callF (pc := 74) (kb' := 460) dX1_isTold_74 3 rfl f3 q489 (t_J31_hasNext hit2 w3 (by omega)) hit2 rfl (Nat.le_refl _) (Nat.le_of_ble_eq_true rfl) rfl rfl (Nat.le_of_ble_eq_true rfl) (fun _ _ q => q.elim) (fun _ _ hq => ?_)
            refine go_jE hq ?_
            refine r_ifB_eq (pc := 79) (tgt := 111) dX1_isTold_79 (by decide) (fun c79 => ?_) (fun c79 => ?_)
            · have hsi := sf_in (r := r) 90
              refine r_aload_n (pc := 111) dX1_isTold_111 rfl ?_
              refine r_callV (pc := 112) (kb' := 5) dX1_isTold_112 kX1_safeByTrying q1194 (t_X1_safeByTrying hb hX hI) hb rfl (Nat.le_of_ble_eq_true rfl) (Nat.le_of_ble_eq_true rfl) rfl rfl (Nat.le_of_ble_eq_true rfl) (fun _ _ q => q.elim) (fun _ h hq => ?_)
              refine go_jP hq (fun hq2 => ?_)
              replace hF := hF.tr hq2
              have hb := hF.get hb9 pQ_2
              have hX := hX9.q hF
              have hX2 := hX
              obtain ⟨w1, w2, w3, w4, w5, w6, w7, w8⟩ := hX2
              obtain ⟨ar1, w2s⟩ := w2.size
              refine r_aload_n (pc := 115) dX1_isTold_115 rfl ?_
              refine r_callV (pc := 116) (kb' := 0) dX1_isTold_116 kX1_safeByLimits q1202 (t_X1_safeByLimits hb hX hI) hb rfl (Nat.le_of_ble_eq_true rfl) (Nat.le_of_ble_eq_true rfl) rfl rfl (Nat.le_of_ble_eq_true rfl) (fun _ _ q => q.elim) (fun _ h hq => ?_)
              refine go_jP hq (fun hq2 => ?_)
              replace hF := hF.tr hq2
              have hb := hF.get hb9 pQ_2
              have hX := hX9.q hF
              have hX2 := hX
              obtain ⟨w1, w2, w3, w4, w5, w6, w7, w8⟩ := hX2
              obtain ⟨ar1, w2s⟩ := w2.size
              refine r_icmp_ne (pc := 119) (tgt := 126) dX1_isTold_119 (by decide) (by omega) (by omega) (fun c119 => absurd rfl c119) (fun c119 => ?_)
              refine r_iconst (pc := 122) dX1_isTold_122 ?_
              refine r_goto (pc := 123) (tgt := 127) dX1_isTold_123 (by decide) ?_
              exact r_iret (pc := 127) dX1_isTold_127 rfl (nB' (by first | (left; rfl) | (right; rfl) | exact bZ_01' _ | omega)) ⟨rfl, hF⟩
            · refine r_aload_n (pc := 82) dX1_isTold_82 rfl ?_
              refine r_callF (pc := 83) (kb' := 460) dX1_isTold_83 4 rfl f4 q529 (t_J31_next hit2 w3 (by omega) (by decide)) hit2 rfl (Nat.le_refl _) (Nat.le_of_ble_eq_true rfl) rfl rfl (Nat.le_of_ble_eq_true rfl) (fun _ _ q => q.elim) (fun _ h hq => ?_)
              refine go_jP hq (fun e9 => ?_)
              subst e9
              replace hF := hF.tr (Fr.upd (o' := ob 11 [.ref (n1 k), rfN (k + 1 < (r 1).toNat) (n1 (k + 1)), .int (iZ (k + 1)), .int m2, .ref cl]) hit2 ⟨rfl, by decide⟩)
              replace hit2 := up_s (h := h) (a := it) (x := ((3, 12), ob 11 [.ref (n1 k), rfN (k + 1 < (r 1).toNat) (n1 (k + 1)), .int (iZ (k + 1)), .int m2, .ref cl]))
              generalize up h it ((3, 12), ob 11 [.ref (n1 k), rfN (k + 1 < (r 1).toNat) (n1 (k + 1)), .int (iZ (k + 1)), .int m2, .ref cl]) = h at hF hit2 ⊢
              have hb := hF.get hb9 pQ_2
              have hX := hX9.q hF
              have hX2 := hX
              obtain ⟨w1, w2, w3, w4, w5, w6, w7, w8⟩ := hX2
              obtain ⟨ar1, w2s⟩ := w2.size
              have hl9 := hI.2.2.2.1 ((k : Nat) : Int) (by omega) (by omega)
              have hA5 := w5 (r (12 + k)).toNat (by omega)
              rw [show (((r (12 + k)).toNat : Nat) : Int) = r (12 + k) by omega] at hA5
              have ho := hI.2.1 (r (12 + k)) (by omega) (by omega)
              have ho2 := ho
              unfold artOk at ho2
              refine r_cast (pc := 88) dX1_isTold_88 q1039 hA5 rfl ?_
              refine r_astore_n (pc := 91) (L' := [_, _, _, _]) dX1_isTold_91 rfl ?_
              refine r_aload_n (pc := 92) dX1_isTold_92 rfl ?_
              refine gX1_193 (pc := 93) dX1_isTold_93 hA5 rfl ?_
              refine r_if_gt (pc := 96) (tgt := 106) dX1_isTold_96 (by decide) (by omega) (fun c96 => absurd c96 (by omega)) (fun c96 => ?_)
              refine r_aload_n (pc := 99) dX1_isTold_99 rfl ?_
              refine gX1_200 (pc := 100) dX1_isTold_100 hA5 rfl ?_
              refine r_if_ne (pc := 103) (tgt := 108) dX1_isTold_103 (by decide) (by omega) (fun c103 => ?_) (fun c103 => absurd (by omega) c103)
              refine r_goto (pc := 108) (tgt := 73) dX1_isTold_108 (by decide) ?_
              refine goL (L' := [some (.ref o), some (.ref ls), some (.ref it), none]) ⟨rfl, rfl, rfl, trivial⟩ ?_
              exact ih73 (k + 1) (.ref (n1 k)) h (by omega) hF hit2 (by omega)
        refine go_kb (kb' := 460) (by omega) ?_
        exact loop73 _ 0 .null h (by omega) hF hit2 (Nat.lt_succ_self _)
      · refine r_aload_n (pc := 39) dX1_isTold_39 rfl ?_
        refine r_callF (pc := 40) (kb' := 5 * ((r 0).toNat - k) + 472) dX1_isTold_40 1 rfl f1 q529 (t_J26_next hit2 w2 (by omega) (by decide)) hit2 rfl (Nat.le_refl _) (Nat.le_of_ble_eq_true rfl) rfl rfl (Nat.le_of_ble_eq_true rfl) (fun _ _ q => q.elim) (fun _ h hq => ?_)
        refine go_jP hq (fun e9 => ?_)
        subst e9
        replace hF := hF.tr (Fr.upd (o' := ob 9 [.int (iZ (k + 1)), .int (iZ k), .int m1, .ref al]) hit2 ⟨rfl, by decide⟩)
        replace hL := hL.fr (P := fun t => t = (3, 11)) (Fr.upd (o' := ob 9 [.int (iZ (k + 1)), .int (iZ k), .int m1, .ref al]) hit2 rfl) (by decide)
        replace hit2 := up_s (h := h) (a := it) (x := ((3, 11), ob 9 [.int (iZ (k + 1)), .int (iZ k), .int m1, .ref al]))
        generalize up h it ((3, 11), ob 9 [.int (iZ (k + 1)), .int (iZ k), .int m1, .ref al]) = h at hF hL hit2 ⊢
        have hb := hF.get hb9 pQ_2
        have hX := hX9.q hF
        have hX2 := hX
        obtain ⟨w1, w2, w3, w4, w5, w6, w7, w8⟩ := hX2
        obtain ⟨ar1, w2s⟩ := w2.size
        have ho := hI.2.1 ((k : Nat) : Int) (by omega) (by omega)
        have ho2 := ho
        unfold artOk at ho2
        refine r_cast (pc := 45) dX1_isTold_45 q1039 (w5 k (by omega)) rfl ?_
        refine r_astore_n (pc := 48) (L' := [_, _, _, _]) dX1_isTold_48 rfl ?_
        refine r_aload_n (pc := 49) dX1_isTold_49 rfl ?_
        refine r_aload_n (pc := 50) dX1_isTold_50 rfl ?_
        refine r_callS (pc := 51) (kb' := 5 * ((r 0).toNat - k) + 472 - 5) dX1_isTold_51 kX1_isAlike q1040 (t_X1_isAlike (hZ.q hF) (w5 k (by omega)) ho hL) (by omega) (Nat.le_of_ble_eq_true rfl) rfl rfl (Nat.le_of_ble_eq_true rfl) (fun _ _ q => q.elim) (fun _ h hq => ?_)
        refine go_jP hq (fun hq2 => ?_)
        replace hF := hF.tr (hq2.wk (fun _ q => q.elim))
        replace hL := hL.fr hq2 (fun q => q)
        replace hit2 := hq2.get hit2 (fun q => q)
        have hb := hF.get hb9 pQ_2
        have hX := hX9.q hF
        have hX2 := hX
        obtain ⟨w1, w2, w3, w4, w5, w6, w7, w8⟩ := hX2
        obtain ⟨ar1, w2s⟩ := w2.size
        refine r_if_ne (pc := 54) (tgt := 59) dX1_isTold_54 (by decide) (by decide) (fun _ => ?_) (fun q => absurd (by decide) q)
        refine r_goto (pc := 59) (tgt := 30) dX1_isTold_59 (by decide) ?_
        refine goL (L' := [some (.ref o), some (.ref ls), some (.ref it), none]) ⟨rfl, rfl, rfl, trivial⟩ ?_
        refine go_kb (kb' := 5 * ((r 0).toNat - (k + 1)) + 472) (by omega) ?_
        exact ih30 (k + 1) k h (by omega) hF hL hit2 (by omega)
  refine go_kb (kb' := 5 * ((r 0).toNat - 0) + 472) (by omega) ?_
  exact loop30 _ 0 (-1) h (by omega) hF hL hit2 (Nat.lt_succ_self _)
theorem t_X1_mustBeSome {G : Gl} {h9 : Hp} {o s T : Nat} {v1 v2 v3 v4 v5 v6 v7 : Value} {r : Row} {al cl sl : Nat} {m1 m2 m3 : Int32} {n1 n2 E F : Nat → Nat} (hb9 : h9 o = some ((2, 0), ob 0 [.ref s, v1, v2, v3, v4, v5, v6, v7])) (hX9 : SWx G T s r al cl sl m1 m2 m3 n1 n2 E F h9) (hI : RI r)  : Ct G 6 7 yX1_mustBeSome (Cond.code yX1_mustBeSome cX1_mustBeSome 1 (none)) [.ref o] h9 (jN (fun h' => h' = h9 ∧ r 0 ≠ 0)) (xO eARI (r 0 = 0) (· = h9)) := by
  have hF : Fr pQ h9 h9 := Fr.rf
  have hb := hb9
  have hX := hX9
  have b := hI.1
  have hX2 := hX
  obtain ⟨w1, w2, w3, w4, w5, w6, w7, w8⟩ := hX2
  obtain ⟨ar1, w2s⟩ := w2.size
  refine Ct.of (own := "CharterKiln") (nm := "mustBeSome") (by decide +kernel) rfl rfl (L := [some (.ref o)]) rfl (Nat.le_of_ble_eq_true rfl) rfl ?_
  refine r_aload_n (pc := 0) dX1_mustBeSome_0 rfl ?_
  refine gX1_10 (pc := 1) dX1_mustBeSome_1 hb rfl ?_
  refine gX1_95 (pc := 4) dX1_mustBeSome_4 w1 rfl ?_
  refine r_callV (pc := 7) (kb' := 7) dX1_mustBeSome_7 kJ2_isEmpty q2641 (t_J2_isEmpty w2s (by omega)) w2s rfl (Nat.le_refl _) (Nat.le_of_ble_eq_true rfl) rfl rfl (Nat.le_of_ble_eq_true rfl) (fun _ _ q => q.elim) (fun _ _ hq => ?_)
  refine go_jE hq ?_
  refine r_ifB_eq (pc := 10) (tgt := 21) dX1_mustBeSome_10 (by decide) (fun c10 => ?_) (fun c10 => ?_)
  · exact r_vret (pc := 21) dX1_mustBeSome_21 rfl ⟨rfl, rfl, by omega⟩
  · exact r_thr (pc := 13) dX1_mustBeSome_13 dX1_mustBeSome_16 dX1_mustBeSome_17 dX1_mustBeSome_20 ftARI q2645 q162 (atARI (wokA q2646 rfl)) rfl rfl (by decide) (Nat.le_of_ble_eq_true rfl) (Nat.le_of_ble_eq_true rfl) (Nat.le_of_ble_eq_true rfl) ⟨rfl, by omega, rfl⟩
theorem t_X1_meanClay {G : Gl} {h9 : Hp} {o s T : Nat} {v1 v2 v3 v4 v5 v6 v7 : Value} {r : Row} {al cl sl : Nat} {m1 m2 m3 : Int32} {n1 n2 E F : Nat → Nat} (hb9 : h9 o = some ((2, 0), ob 0 [.ref s, v1, v2, v3, v4, v5, v6, v7])) (hX9 : SWx G T s r al cl sl m1 m2 m3 n1 n2 E F h9) (hI : RI r)  : Ct G 7 12 yX1_meanClay (Cond.code yX1_meanClay cX1_meanClay 4 (some .double)) [.ref o] h9 ((fun r9 h' => r9 = some (vMn r) ∧ kMn r = 0 ∧ Fr pQ h9 h')) (qX (kMn r) eARI "" (Fr pQ h9)) := by
  have hF : Fr pQ h9 h9 := Fr.rf
  have hb := hb9
  have hX := hX9
  have b := hI.1
  have hX2 := hX
  obtain ⟨w1, w2, w3, w4, w5, w6, w7, w8⟩ := hX2
  obtain ⟨ar1, w2s⟩ := w2.size
  have hp := PW.nil (h := h9)
  refine Ct.of (own := "CharterKiln") (nm := "meanClay") (by decide +kernel) rfl rfl (L := [some (.ref o), none, none, none]) rfl (Nat.le_of_ble_eq_true rfl) rfl ?_
  refine r_aload_n (pc := 0) dX1_meanClay_0 rfl ?_
  refine r_callV (pc := 1) (kb' := 5) dX1_meanClay_1 kX1_mustBeSome q2637 (t_X1_mustBeSome hb hX hI) hb rfl (Nat.le_of_ble_eq_true rfl) (Nat.le_of_ble_eq_true rfl) rfl rfl (Nat.le_of_ble_eq_true rfl) (fun E h7 hx => x_out rfl ⟨Or.inl ⟨hx.1, if_pos hx.2.1⟩, by rw [hx.2.2]; exact hF⟩) (fun _ h hq => ?_)
  refine go_jN hq (fun hq2 => ?_)
  obtain ⟨e9, hpx⟩ := hq2
  replace e9 := e9.symm
  subst e9
  refine r_iconst (pc := 4) dX1_meanClay_4 ?_
  refine r_istore_n (pc := 5) (L' := [_, _, _, _]) dX1_meanClay_5 rfl ?_
  refine r_aload_n (pc := 6) dX1_meanClay_6 rfl ?_
  refine gX1_10 (pc := 7) dX1_meanClay_7 hb rfl ?_
  refine gX1_95 (pc := 10) dX1_meanClay_10 w1 rfl ?_
  refine r_callV (pc := 13) (kb' := 0) dX1_meanClay_13 kJ2_iterator q463 (t_J2_iterator (3, 11) (by decide) w2) w2s rfl (Nat.le_of_ble_eq_true rfl) (Nat.le_of_ble_eq_true rfl) rfl rfl (Nat.le_of_ble_eq_true rfl) (fun _ _ q => q.elim) (fun _ h hq => ?_)
  refine go_jX hq (fun it hit => ?_)
  obtain ⟨hit, e9⟩ := hit
  subst e9
  refine go_pw (hp.new hit _) (fun h hp => ?_)
  refine r_astore_n (pc := 16) (L' := [_, _, _, _]) dX1_meanClay_16 rfl ?_
  have loop17 : ∀ (k17 : Nat) (k : Nat) (l : Int) (h : Hp), (k ≤ (r 0).toNat) → (PW [(it, (3, 11), ob 9 [.int (iZ k), .int (iZ l), .int m1, .ref al])] h9 h) → (r 0).toNat - k < k17 → Go G "CharterKiln" cX1_meanClay (4, some .double, "meanClay", []) 7 12 ((fun r9 h' => r9 = some (vMn r) ∧ kMn r = 0 ∧ Fr pQ h9 h')) ((qX (kMn r) eARI "" (Fr pQ h9))) 0 h 17 [some (.ref o), some (.int (iZ (sumZ (fun a => fA r a 0) k))), some (.ref it), none] [] := by
    intro k17
    induction k17 with
    | zero => intro k l h hk hp hk; omega
    | succ k17 ih17 =>
      intro k l h hk hp hk17
      have hF := hp.fr (P := pQ) ⟨Or.inl hit, trivial⟩
      have hX2 := hX.q hF
      obtain ⟨w1, w2, w3, w4, w5, w6, w7, w8⟩ := hX2
      obtain ⟨ar1, w2s⟩ := w2.size
      have hb := hF.get hb9 pQ_2
      refine r_aload_n (pc := 17) dX1_meanClay_17 rfl ?_
      refine r_callF (pc := 18) (kb' := 0) dX1_meanClay_18 0 rfl f0 q489 (t_J26_hasNext (hp.at 0 rfl) w2 (by omega)) (hp.at 0 rfl) rfl (Nat.le_refl _) (Nat.le_of_ble_eq_true rfl) rfl rfl (Nat.le_of_ble_eq_true rfl) (fun _ _ q => q.elim) (fun _ _ hq => ?_)
      refine go_jE hq ?_
      refine r_ifB_eq (pc := 23) (tgt := 46) dX1_meanClay_23 (by decide) (fun c23 => ?_) (fun c23 => ?_)
      · refine r_iload_n (pc := 46) dX1_meanClay_46 rfl ?_
        refine r_i2d (pc := 47) dX1_meanClay_47 ?_
        refine r_aload_n (pc := 48) dX1_meanClay_48 rfl ?_
        refine gX1_10 (pc := 49) dX1_meanClay_49 hb rfl ?_
        refine gX1_95 (pc := 52) dX1_meanClay_52 w1 rfl ?_
        refine r_callV (pc := 55) (kb' := 0) dX1_meanClay_55 kJ2_size q1512 (t_J2_size w2s) w2s rfl (Nat.le_refl _) (Nat.le_of_ble_eq_true rfl) rfl rfl (Nat.le_of_ble_eq_true rfl) (fun _ _ q => q.elim) (fun _ _ hq => ?_)
        refine go_jE hq ?_
        refine go_cz (w := r 0) (by omega) ?_
        refine r_i2d (pc := 58) dX1_meanClay_58 ?_
        refine r_ddiv (pc := 59) dX1_meanClay_59 (by have hs := sm_in hI k (by omega); exact dMean_n (s := sumZ (fun a => fA r a 0) k) (by omega) (by omega)) ?_
        exact r_dret (pc := 60) dX1_meanClay_60 rfl ⟨by unfold vMn; rw [if_neg hpx]; exact congrArg some (congrArg Value.double (by unfold dMean smA sumI; rw [show k = (r 0).toNat by omega])), if_neg hpx, hF⟩
      · refine r_aload_n (pc := 26) dX1_meanClay_26 rfl ?_
        refine r_callF (pc := 27) (kb' := 0) dX1_meanClay_27 1 rfl f1 q529 (t_J26_next (hp.at 0 rfl) w2 (by omega) (by decide)) (hp.at 0 rfl) rfl (Nat.le_refl _) (Nat.le_of_ble_eq_true rfl) rfl rfl (Nat.le_of_ble_eq_true rfl) (fun _ _ q => q.elim) (fun _ h hq => ?_)
        refine go_jP hq (fun e9 => ?_)
        subst e9
        refine go_pw (hp.put 0 rfl) (fun h hp => ?_)
        have hF := hp.fr (P := pQ) ⟨Or.inl hit, trivial⟩
        have hX2 := hX.q hF
        obtain ⟨w1, w2, w3, w4, w5, w6, w7, w8⟩ := hX2
        obtain ⟨ar1, w2s⟩ := w2.size
        have ho := hI.2.1 ((k : Nat) : Int) (by omega) (by omega)
        have ho2 := ho
        unfold artOk at ho2
        have hb := hF.get hb9 pQ_2
        refine r_cast (pc := 32) dX1_meanClay_32 q1039 (w5 k (by omega)) rfl ?_
        refine r_astore_n (pc := 35) (L' := [_, _, _, _]) dX1_meanClay_35 rfl ?_
        refine r_iload_n (pc := 36) dX1_meanClay_36 rfl ?_
        refine r_aload_n (pc := 37) dX1_meanClay_37 rfl ?_
        refine gX1_189 (pc := 38) dX1_meanClay_38 (w5 k (by omega)) rfl ?_
        refine r_iadd (pc := 41) dX1_meanClay_41 ?_
        refine go_cz (w := sumZ (fun a => fA r a 0) (k + 1)) rfl ?_
        refine r_istore_n (pc := 42) (L' := [_, _, _, _]) dX1_meanClay_42 rfl ?_
        refine r_goto (pc := 43) (tgt := 17) dX1_meanClay_43 (by decide) ?_
        refine goL (L' := [some (.ref o), some (.int (iZ (sumZ (fun a => fA r a 0) (k + 1)))), some (.ref it), none]) ⟨rfl, rfl, rfl, trivial⟩ ?_
        exact ih17 (k + 1) k h (by omega) hp (by omega)
  exact loop17 _ 0 (-1) _ (by omega) hp (Nat.lt_succ_self _)
theorem t_X1_lawShare {G : Gl} {h9 : Hp} {o s T : Nat} {v1 v2 v3 v4 v5 v6 v7 : Value} {r : Row} {al cl sl : Nat} {m1 m2 m3 : Int32} {n1 n2 E F : Nat → Nat} (hb9 : h9 o = some ((2, 0), ob 0 [.ref s, v1, v2, v3, v4, v5, v6, v7])) (hX9 : SWx G T s r al cl sl m1 m2 m3 n1 n2 E F h9) (hI : RI r)  : Ct G 7 7 yX1_lawShare (Cond.code yX1_lawShare cX1_lawShare 1 (some .float)) [.ref o] h9 ((fun r9 h' => r9 = some (vSh r) ∧ kMn r = 0 ∧ Fr pQ h9 h')) (qX (kMn r) eARI "" (Fr pQ h9)) := by
  have hF : Fr pQ h9 h9 := Fr.rf
  have hb := hb9
  have hX := hX9
  have b := hI.1
  have hX2 := hX
  obtain ⟨w1, w2, w3, w4, w5, w6, w7, w8⟩ := hX2
  obtain ⟨ar1, w2s⟩ := w2.size
  refine Ct.of (own := "CharterKiln") (nm := "lawShare") (by decide +kernel) rfl rfl (L := [some (.ref o)]) rfl (Nat.le_of_ble_eq_true rfl) rfl ?_
  refine r_aload_n (pc := 0) dX1_lawShare_0 rfl ?_
  refine r_callV (pc := 1) (kb' := 0) dX1_lawShare_1 kX1_mustBeSome q2637 (t_X1_mustBeSome hb hX hI) hb rfl (Nat.le_of_ble_eq_true rfl) (Nat.le_of_ble_eq_true rfl) rfl rfl (Nat.le_of_ble_eq_true rfl) (fun E h7 hx => x_out rfl ⟨Or.inl ⟨hx.1, if_pos hx.2.1⟩, by rw [hx.2.2]; exact hF⟩) (fun _ h hq => ?_)
  refine go_jN hq (fun hq2 => ?_)
  obtain ⟨e9, hpx⟩ := hq2
  replace e9 := e9.symm
  subst e9
  refine r_aload_n (pc := 4) dX1_lawShare_4 rfl ?_
  refine gX1_10 (pc := 5) dX1_lawShare_5 hb rfl ?_
  refine gX1_122 (pc := 8) dX1_lawShare_8 w1 rfl ?_
  refine r_callV (pc := 11) (kb' := 0) dX1_lawShare_11 kJ4_size q1773 (t_J4_size w3) w3.2.1 rfl (Nat.le_refl _) (Nat.le_of_ble_eq_true rfl) rfl rfl (Nat.le_of_ble_eq_true rfl) (fun _ _ q => q.elim) (fun _ _ hq => ?_)
  refine go_jE hq ?_
  refine go_cz (w := r 1) (by omega) ?_
  refine r_i2f (pc := 14) dX1_lawShare_14 ?_
  refine r_aload_n (pc := 15) dX1_lawShare_15 rfl ?_
  refine gX1_10 (pc := 16) dX1_lawShare_16 hb rfl ?_
  refine gX1_95 (pc := 19) dX1_lawShare_19 w1 rfl ?_
  refine r_callV (pc := 22) (kb' := 0) dX1_lawShare_22 kJ2_size q1512 (t_J2_size w2s) w2s rfl (Nat.le_refl _) (Nat.le_of_ble_eq_true rfl) rfl rfl (Nat.le_of_ble_eq_true rfl) (fun _ _ q => q.elim) (fun _ _ hq => ?_)
  refine go_jE hq ?_
  refine go_cz (w := r 0) (by omega) ?_
  refine r_i2f (pc := 25) dX1_lawShare_25 ?_
  refine r_fdiv (pc := 26) dX1_lawShare_26 (by exact fShare_n (s := r 1) (n := r 0) (by omega) (by omega)) ?_
  exact r_fret (pc := 27) dX1_lawShare_27 rfl ⟨by unfold vSh; rw [if_neg hpx]; rfl, if_neg hpx, hF⟩
