set_option maxRecDepth 100000
theorem cuJ15_14_15 {G : Gl} : CUok G "java/util/Objects" "java/lang/String" "java/lang/Object" 14 ⟨"java/lang/Object", "equals", "(Ljava/lang/Object;)Z"⟩ yJ8_equals cJ8_equals 3 (some .boolean) 1 := cu_U q2300 q1341 q1340 q1371 q1359 ⟨q1360, q116, q1361, ⟨by decide, by decide⟩, by decide +kernel, by decide⟩
/-! JDK, part 17: Strings compared, their hash -/
theorem all_s {n : Nat} {p : Nat → Prop} (h : ∀ i, i < n → p i) (hn : p n) : ∀ i, i < n + 1 → p i := fun i hi => by
  by_cases e : i = n
  · rw [e]; exact hn
  · exact h i (by omega)
def jZ (P : Int → Prop) (h : Hp) : Option Value → Hp → Prop := fun r h' => (∃ z, r = some (.int (iZ z)) ∧ InR z ∧ P z) ∧ h' = h
section JZ
variable {G : Gl} {own : String} {cc : ByteArray} {Y : Mt} {d mc : Nat} {Qr : Option Value → Hp → Prop} {Qx : String → Hp → Prop} {kb : Nat} {h h' : Hp} {pc : Nat} {L : List (Option Value)} {st : List Value} {r : Option Value} {P : Int → Prop}
theorem go_jZ (hq : jZ P h r h') (kk : ∀ z, InR z → P z → Go G own cc Y d mc Qr Qx kb h pc L (.int (iZ z) :: st)) : Go G own cc Y d mc Qr Qx kb h' pc L (r.toList ++ st) := by
  obtain ⟨⟨z, e, h1, h2⟩, rfl⟩ := hq
  subst e
  exact kk z h1 h2
end JZ
theorem ln2_off {o p dflt : Int} {n : Nat} (h : 2 ≤ n) : Op.lookupswitch.offset [(0, o), (1, p)] dflt (n : Int) = dflt := by
  rw [Op.lookupswitch.offset_cons, if_neg (by omega), Op.lookupswitch.offset_cons, if_neg (by omega)]
  rfl

theorem t_J21_equals {G : Gl} {h : Hp} {a b n m : Nat} {t1 t2 : Tg} {f g : Nat → Int32} {c d : Nat → Int} (h1 : h a = some (t1, aI .byte n f)) (h2 : h b = some (t2, aI .byte m g)) (hn : n ≤ 100 ∧ m ≤ 100) (hc : ∀ i, i < n → f i = iZ (c i) ∧ 0 ≤ c i ∧ c i < 128) (hd : ∀ i, i < m → g i = iZ (d i) ∧ 0 ≤ d i ∧ d i < 128) : Ct G 1 0 yJ21_equals (Cond.code yJ21_equals cJ21_equals 3 (some .boolean)) [.ref a, .ref b] h (jE (.int (iZ (bZ (n = m ∧ ∀ i, i < n → c i = d i)))) h) noX := by
  refine Ct.of (own := "java/lang/StringLatin1") (nm := "equals") (by decide +kernel) rfl rfl (L := [some (.ref a), some (.ref b), none]) rfl (Nat.le_of_ble_eq_true rfl) rfl ?_
  refine r_aload_n (pc := 0) dJ21_equals_0 rfl ?_
  refine r_alen (pc := 1) dJ21_equals_1 (by decide) h1 (by omega) ?_
  refine r_aload_n (pc := 2) dJ21_equals_2 rfl ?_
  refine r_alen (pc := 3) dJ21_equals_3 (by decide) h2 (by omega) ?_
  refine r_icmp_ne (pc := 4) (tgt := 34) dJ21_equals_4 (by decide) (by omega) (by omega) (fun c4 => ?_) (fun c4 => ?_)
  · refine r_iconst (pc := 34) dJ21_equals_34 ?_
    exact r_iret (pc := 35) dJ21_equals_35 rfl (nB' (by first | (left; rfl) | (right; rfl) | exact bZ_01' _ | omega)) ⟨by rw [bZ_f (fun q => c4 (by omega))], rfl⟩
  · refine r_iconst (pc := 7) dJ21_equals_7 ?_
    refine r_istore_n (pc := 8) (L' := [_, _, _]) dJ21_equals_8 rfl ?_
    have loop9 : ∀ (k9 : Nat) (k : Nat), (k ≤ n) → (∀ i, i < k → c i = d i) → n - k < k9 → Go G "java/lang/StringLatin1" cJ21_equals (3, some .boolean, "equals", []) 1 0 (jE (.int (iZ (bZ (n = m ∧ ∀ i, i < n → c i = d i)))) h) (noX) 0 h 9 [some (.ref a), some (.ref b), some (.int (iZ k))] [] := by
      intro k9
      induction k9 with
      | zero => intro k hk he hk; omega
      | succ k9 ih9 =>
        intro k hk he hk9
        refine r_iload_n (pc := 9) dJ21_equals_9 rfl ?_
        refine r_aload_n (pc := 10) dJ21_equals_10 rfl ?_
        refine r_alen (pc := 11) dJ21_equals_11 (by decide) h1 (by omega) ?_
        refine r_icmp_ge (pc := 12) (tgt := 32) dJ21_equals_12 (by decide) (by omega) (by omega) (fun c12 => ?_) (fun c12 => ?_)
        · refine r_iconst (pc := 32) dJ21_equals_32 ?_
          exact r_iret (pc := 33) dJ21_equals_33 rfl (nB' (by first | (left; rfl) | (right; rfl) | exact bZ_01' _ | omega)) ⟨by rw [bZ_t ⟨by omega, fun i hi => he i (by omega)⟩], rfl⟩
        · have hck := (hc k (by omega)).2
          have hdk := (hd k (by omega)).2
          refine r_aload_n (pc := 15) dJ21_equals_15 rfl ?_
          refine r_iload_n (pc := 16) dJ21_equals_16 rfl ?_
          refine r_bald (pc := 17) dJ21_equals_17 h1 (by omega) (by omega) (by omega) ?_
          refine go_ci (z := c k) (hc k (by omega)).1 ?_
          refine r_aload_n (pc := 18) dJ21_equals_18 rfl ?_
          refine r_iload_n (pc := 19) dJ21_equals_19 rfl ?_
          refine r_bald (pc := 20) dJ21_equals_20 h2 (by omega) (by omega) (by omega) ?_
          refine go_ci (z := d k) (hd k (by omega)).1 ?_
          refine r_icmp_eq (pc := 21) (tgt := 26) dJ21_equals_21 (by decide) (by omega) (by omega) (fun c21 => ?_) (fun c21 => ?_)
          · refine r_iinc (pc := 26) (L' := [_, _, _]) dJ21_equals_26 rfl rfl ?_
            refine r_goto (pc := 29) (tgt := 9) dJ21_equals_29 (by decide) ?_
            exact ih9 (k + 1) (by omega) (all_s he c21) (by omega)
          · refine r_iconst (pc := 24) dJ21_equals_24 ?_
            exact r_iret (pc := 25) dJ21_equals_25 rfl (nB' (by first | (left; rfl) | (right; rfl) | exact bZ_01' _ | omega)) ⟨by rw [bZ_f (fun q => c21 (q.2 k (by omega)))], rfl⟩
    exact loop9 _ 0 (by omega) (fun i hi => absurd hi (by omega)) (Nat.lt_succ_self _)
theorem t_J8_equals {G : Gl} {h : Hp} {s s2 n m : Nat} {t1 t2 t3 t4 : Tg} {c d : Nat → Int} (hS : ST t1 t2 s n c h) (hT : ST t3 t4 s2 m d h) : Ct G 2 0 yJ8_equals (Cond.code yJ8_equals cJ8_equals 3 (some .boolean)) [.ref s, .ref s2] h (jE (.int (iZ (bZ (n = m ∧ ∀ i, i < n → c i = d i)))) h) noX := by
  have hS0 := hS
  obtain ⟨v, f, hs, hz, q1, q2, q3, q4⟩ := hS0
  have hT0 := hT
  obtain ⟨u, g, hs2, hz2, r1, r2, r3, r4⟩ := hT0
  refine Ct.of (own := "java/lang/String") (nm := "equals") (by decide +kernel) rfl rfl (L := [some (.ref s), some (.ref s2), none]) rfl (Nat.le_of_ble_eq_true rfl) rfl ?_
  refine r_aload_n (pc := 0) dJ8_equals_0 rfl ?_
  refine r_aload_n (pc := 1) dJ8_equals_1 rfl ?_
  refine r_acmp_ne (pc := 2) (tgt := 7) dJ8_equals_2 (by decide) (fun c2 => ?_) (fun c2 => ?_)
  · refine r_aload_n (pc := 7) dJ8_equals_7 rfl ?_
    refine r_inst (pc := 8) dJ8_equals_8 q1362 r1 rfl ?_
    refine r_if_eq (pc := 11) (tgt := 54) dJ8_equals_11 (by decide) (by decide) (fun q => absurd q (by decide)) (fun _ => ?_)
    refine r_aload_n (pc := 14) dJ8_equals_14 rfl ?_
    refine r_cast (pc := 15) dJ8_equals_15 q1362 r1 rfl ?_
    refine r_astore_n (pc := 18) (L' := [_, _, _]) dJ8_equals_18 rfl ?_
    refine r_gets (pc := 19) dJ8_equals_19 1 rfl q708 rfl ?_
    refine go_ci (z := 1) rfl ?_
    refine r_if_eq (pc := 22) (tgt := 36) dJ8_equals_22 (by decide) (by decide) (fun q => absurd q (by decide)) (fun _ => ?_)
    refine r_aload_n (pc := 25) dJ8_equals_25 rfl ?_
    refine gJ8_15 (pc := 26) dJ8_equals_26 q1 rfl ?_
    refine r_aload_n (pc := 29) dJ8_equals_29 rfl ?_
    refine gJ8_15 (pc := 30) dJ8_equals_30 r1 rfl ?_
    refine r_icmp_ne (pc := 33) (tgt := 54) dJ8_equals_33 (by decide) (by omega) (by omega) (fun c33 => absurd rfl c33) (fun c33 => ?_)
    refine r_aload_n (pc := 36) dJ8_equals_36 rfl ?_
    refine gJ8_9 (pc := 37) dJ8_equals_37 q1 rfl ?_
    refine r_aload_n (pc := 40) dJ8_equals_40 rfl ?_
    refine gJ8_9 (pc := 41) dJ8_equals_41 r1 rfl ?_
    refine r_callS (pc := 44) (kb' := 0) dJ8_equals_44 kJ21_equals q1363 (t_J21_equals q2 r2 (by omega) q4 r4) (Nat.le_refl _) (Nat.le_of_ble_eq_true rfl) rfl rfl (Nat.le_of_ble_eq_true rfl) (fun _ _ q => q.elim) (fun _ _ hq => ?_)
    refine go_jE hq ?_
    refine r_ifB_eq (pc := 47) (tgt := 54) dJ8_equals_47 (by decide) (fun c47 => ?_) (fun c47 => ?_)
    · refine r_iconst (pc := 54) dJ8_equals_54 ?_
      exact r_iret (pc := 55) dJ8_equals_55 rfl (nB' (by first | (left; rfl) | (right; rfl) | exact bZ_01' _ | omega)) ⟨by rw [bZ_f (by assumption)], rfl⟩
    · refine r_iconst (pc := 50) dJ8_equals_50 ?_
      refine r_goto (pc := 51) (tgt := 55) dJ8_equals_51 (by decide) ?_
      exact r_iret (pc := 55) dJ8_equals_55 rfl (nB' (by first | (left; rfl) | (right; rfl) | exact bZ_01' _ | omega)) ⟨by rw [bZ_t (by assumption)], rfl⟩
  · refine r_iconst (pc := 5) dJ8_equals_5 ?_
    exact r_iret (pc := 6) dJ8_equals_6 rfl (nB' (by first | (left; rfl) | (right; rfl) | exact bZ_01' _ | omega)) ⟨by rw [bZ_t (ST.same hS (c2 ▸ hT))], rfl⟩
theorem t_J15_equals {G : Gl} {h : Hp} {s s2 n m : Nat} {t1 t2 t3 t4 : Tg} {c d : Nat → Int} (hS : ST t1 t2 s n c h) (hT : ST t3 t4 s2 m d h) : Ct G 3 0 yJ15_equals (Cond.code yJ15_equals cJ15_equals 2 (some .boolean)) [.ref s, .ref s2] h (jE (.int (iZ (bZ (n = m ∧ ∀ i, i < n → c i = d i)))) h) noX := by
  have hS0 := hS
  obtain ⟨v, f, hs, hz, q1, q2, q3, q4⟩ := hS0
  have hT0 := hT
  obtain ⟨u, g, hs2, hz2, r1, r2, r3, r4⟩ := hT0
  refine Ct.of (own := "java/util/Objects") (nm := "equals") (by decide +kernel) rfl rfl (L := [some (.ref s), some (.ref s2)]) rfl (Nat.le_of_ble_eq_true rfl) rfl ?_
  refine r_aload_n (pc := 0) dJ15_equals_0 rfl ?_
  refine r_aload_n (pc := 1) dJ15_equals_1 rfl ?_
  refine r_acmp_eq (pc := 2) (tgt := 17) dJ15_equals_2 (by decide) (fun c2 => ?_) (fun c2 => ?_)
  · refine r_iconst (pc := 17) dJ15_equals_17 ?_
    refine r_goto (pc := 18) (tgt := 22) dJ15_equals_18 (by decide) ?_
    exact r_iret (pc := 22) dJ15_equals_22 rfl (nB' (by first | (left; rfl) | (right; rfl) | exact bZ_01' _ | omega)) ⟨by rw [bZ_t (by first | assumption | exact ST.same hS (c2 ▸ hT))], rfl⟩
  · refine r_aload_n (pc := 5) dJ15_equals_5 rfl ?_
    refine r_ifnull (pc := 6) dJ15_equals_6 ?_
    refine r_aload_n (pc := 9) dJ15_equals_9 rfl ?_
    refine r_aload_n (pc := 10) dJ15_equals_10 rfl ?_
    refine r_callG (pc := 11) (kb' := 0) dJ15_equals_11 cuJ15_14_15 (t_J8_equals hS hT) q1 rfl (Nat.le_refl _) (Nat.le_of_ble_eq_true rfl) rfl rfl (Nat.le_of_ble_eq_true rfl) (fun _ _ q => q.elim) (fun _ _ hq => ?_)
    refine go_jE hq ?_
    refine r_ifB_eq (pc := 14) (tgt := 21) dJ15_equals_14 (by decide) (fun c14 => ?_) (fun c14 => ?_)
    · refine r_iconst (pc := 21) dJ15_equals_21 ?_
      exact r_iret (pc := 22) dJ15_equals_22 rfl (nB' (by first | (left; rfl) | (right; rfl) | exact bZ_01' _ | omega)) ⟨by rw [bZ_f (by assumption)], rfl⟩
    · refine r_iconst (pc := 17) dJ15_equals_17 ?_
      refine r_goto (pc := 18) (tgt := 22) dJ15_equals_18 (by decide) ?_
      exact r_iret (pc := 22) dJ15_equals_22 rfl (nB' (by first | (left; rfl) | (right; rfl) | exact bZ_01' _ | omega)) ⟨by rw [bZ_t (by first | assumption | exact ST.same hS (c2 ▸ hT))], rfl⟩
theorem t_J18_mismatch {G : Gl} {h : Hp} {a b n m : Nat} {t1 t2 : Tg} {f g : Nat → Int32} {c d : Nat → Int} (h1 : h a = some (t1, aI .byte n f)) (h2 : h b = some (t2, aI .byte m g)) (hn : n ≤ 100 ∧ m ≤ 100) (hc : ∀ i, i < n → f i = iZ (c i) ∧ 0 ≤ c i ∧ c i < 128) (hd : ∀ i, i < m → g i = iZ (d i) ∧ 0 ≤ d i ∧ d i < 128) (hm : m ≤ 7 ∧ m ≤ n) : Ct G 1 0 yJ18_mismatch (Cond.code yJ18_mismatch cJ18_mismatch 8 (some .int)) [.ref a, .int (iZ 0), .ref b, .int (iZ 0), .int (iZ m)] h (jZ (fun z => 0 ≤ z ↔ ¬ ∀ i, i < m → c i = d i) h) noX := by
  refine Ct.of (own := "jdk/internal/util/ArraysSupport") (nm := "mismatch") (by decide +kernel) rfl rfl (L := [some (.ref a), some (.int (iZ 0)), some (.ref b), some (.int (iZ 0)), some (.int (iZ m)), none, none, none]) rfl (Nat.le_of_ble_eq_true rfl) rfl ?_
  refine r_iconst (pc := 0) dJ18_mismatch_0 ?_
  refine r_istore (pc := 1) (L' := [_, _, _, _, _, _, _, _]) dJ18_mismatch_1 rfl ?_
  refine r_iload (pc := 3) dJ18_mismatch_3 rfl ?_
  refine r_bipush (pc := 5) dJ18_mismatch_5 (by decide) ?_
  refine r_icmp_le (pc := 7) (tgt := 70) dJ18_mismatch_7 (by decide) (by omega) (by omega) (fun c7 => ?_) (fun c7 => absurd (by omega) c7)
  have loop70 : ∀ (k70 : Nat) (k : Nat), (k ≤ m) → (∀ i, i < k → c i = d i) → m - k < k70 → Go G "jdk/internal/util/ArraysSupport" cJ18_mismatch (8, some .int, "mismatch", []) 1 0 (jZ (fun z => 0 ≤ z ↔ ¬ ∀ i, i < m → c i = d i) h) (noX) 0 h 70 [some (.ref a), some (.int (iZ 0)), some (.ref b), some (.int (iZ 0)), some (.int (iZ m)), some (.int (iZ k)), none, none] [] := by
    intro k70
    induction k70 with
    | zero => intro k hk he hk; omega
    | succ k70 ih70 =>
      intro k hk he hk70
      refine r_iload (pc := 70) dJ18_mismatch_70 rfl ?_
      refine r_iload (pc := 72) dJ18_mismatch_72 rfl ?_
      refine r_icmp_ge (pc := 74) (tgt := 101) dJ18_mismatch_74 (by decide) (by omega) (by omega) (fun c74 => ?_) (fun c74 => ?_)
      · refine r_iconst (pc := 101) dJ18_mismatch_101 ?_
        exact r_iret (pc := 102) dJ18_mismatch_102 rfl rfl ⟨⟨-1, rfl, by omega, ⟨fun q => absurd q (by omega), fun q => absurd (fun i hi => he i (by omega)) q⟩⟩, rfl⟩
      · have hck := (hc k (by omega)).2
        have hdk := (hd k (by omega)).2
        refine r_aload_n (pc := 77) dJ18_mismatch_77 rfl ?_
        refine r_iload_n (pc := 78) dJ18_mismatch_78 rfl ?_
        refine r_iload (pc := 79) dJ18_mismatch_79 rfl ?_
        refine r_iadd (pc := 81) dJ18_mismatch_81 ?_
        refine r_bald (pc := 82) dJ18_mismatch_82 h1 (by omega) (by omega) (by omega) ?_
        refine go_ci (z := c k) (by rw [show ((0 : Int) + (k : Int)).toNat = k by omega]; exact (hc k (by omega)).1) ?_
        refine r_aload_n (pc := 83) dJ18_mismatch_83 rfl ?_
        refine r_iload_n (pc := 84) dJ18_mismatch_84 rfl ?_
        refine r_iload (pc := 85) dJ18_mismatch_85 rfl ?_
        refine r_iadd (pc := 87) dJ18_mismatch_87 ?_
        refine r_bald (pc := 88) dJ18_mismatch_88 h2 (by omega) (by omega) (by omega) ?_
        refine go_ci (z := d k) (by rw [show ((0 : Int) + (k : Int)).toNat = k by omega]; exact (hd k (by omega)).1) ?_
        refine r_icmp_eq (pc := 89) (tgt := 95) dJ18_mismatch_89 (by decide) (by omega) (by omega) (fun c89 => ?_) (fun c89 => ?_)
        · refine r_iinc (pc := 95) (L' := [_, _, _, _, _, _, _, _]) dJ18_mismatch_95 rfl rfl ?_
          refine r_goto (pc := 98) (tgt := 70) dJ18_mismatch_98 (by decide) ?_
          exact ih70 (k + 1) (by omega) (all_s he c89) (by omega)
        · refine r_iload (pc := 92) dJ18_mismatch_92 rfl ?_
          exact r_iret (pc := 94) dJ18_mismatch_94 rfl rfl ⟨⟨_, rfl, by omega, ⟨fun _ q2 => c89 (q2 k (by omega)), fun _ => by omega⟩⟩, rfl⟩
  exact loop70 _ 0 (by omega) (fun i hi => absurd hi (by omega)) (Nat.lt_succ_self _)
theorem t_J8_startsWith_2 {G : Gl} {h : Hp} {s s2 n m : Nat} {t1 t2 t3 t4 : Tg} {c d : Nat → Int} (hS : ST t1 t2 s n c h) (hT : ST t3 t4 s2 m d h) (hm : m ≤ 7) : Ct G 3 0 yJ8_startsWith_2 (Cond.code yJ8_startsWith_2 cJ8_startsWith_2 8 (some .boolean)) [.ref s, .ref s2, .int (iZ 0)] h (jE (.int (iZ (bZ (m ≤ n ∧ ∀ i, i < m → c i = d i)))) h) noX := by
  have hS0 := hS
  obtain ⟨v, f, hs, hz, q1, q2, q3, q4⟩ := hS0
  have hT0 := hT
  obtain ⟨u, g, hs2, hz2, r1, r2, r3, r4⟩ := hT0
  refine Ct.of (own := "java/lang/String") (nm := "startsWith") (by decide +kernel) rfl rfl (L := [some (.ref s), some (.ref s2), some (.int (iZ 0)), none, none, none, none, none]) rfl (Nat.le_of_ble_eq_true rfl) rfl ?_
  refine r_iload_n (pc := 0) dJ8_startsWith_2_0 rfl ?_
  refine r_if_lt (pc := 1) (tgt := 17) dJ8_startsWith_2_1 (by decide) (by decide) (fun q => absurd q (by decide)) (fun _ => ?_)
  refine r_iload_n (pc := 4) dJ8_startsWith_2_4 rfl ?_
  refine r_aload_n (pc := 5) dJ8_startsWith_2_5 rfl ?_
  refine r_callV (pc := 6) (kb' := 0) dJ8_startsWith_2_6 kJ8_length q2249 (t_J8_length hS) q1 rfl (Nat.le_refl _) (Nat.le_of_ble_eq_true rfl) rfl rfl (Nat.le_of_ble_eq_true rfl) (fun _ _ q => q.elim) (fun _ _ hq => ?_)
  refine go_jE hq ?_
  refine r_aload_n (pc := 9) dJ8_startsWith_2_9 rfl ?_
  refine r_callV (pc := 10) (kb' := 0) dJ8_startsWith_2_10 kJ8_length q2249 (t_J8_length hT) r1 rfl (Nat.le_refl _) (Nat.le_of_ble_eq_true rfl) rfl rfl (Nat.le_of_ble_eq_true rfl) (fun _ _ q => q.elim) (fun _ _ hq => ?_)
  refine go_jE hq ?_
  refine r_isub (pc := 13) dJ8_startsWith_2_13 ?_
  refine r_icmp_le (pc := 14) (tgt := 19) dJ8_startsWith_2_14 (by decide) (by omega) (by omega) (fun c14 => ?_) (fun c14 => ?_)
  · refine r_aload_n (pc := 19) dJ8_startsWith_2_19 rfl ?_
    refine gJ8_9 (pc := 20) dJ8_startsWith_2_20 q1 rfl ?_
    refine r_astore_n (pc := 23) (L' := [_, _, _, _, _, _, _, _]) dJ8_startsWith_2_23 rfl ?_
    refine r_aload_n (pc := 24) dJ8_startsWith_2_24 rfl ?_
    refine gJ8_9 (pc := 25) dJ8_startsWith_2_25 r1 rfl ?_
    refine r_astore (pc := 28) (L' := [_, _, _, _, _, _, _, _]) dJ8_startsWith_2_28 rfl ?_
    refine r_iconst (pc := 30) dJ8_startsWith_2_30 ?_
    refine r_istore (pc := 31) (L' := [_, _, _, _, _, _, _, _]) dJ8_startsWith_2_31 rfl ?_
    refine r_aload (pc := 33) dJ8_startsWith_2_33 rfl ?_
    refine r_alen (pc := 35) dJ8_startsWith_2_35 (by decide) r2 (by omega) ?_
    refine r_istore (pc := 36) (L' := [_, _, _, _, _, _, _, _]) dJ8_startsWith_2_36 rfl ?_
    refine r_aload_n (pc := 38) dJ8_startsWith_2_38 rfl ?_
    refine r_callV (pc := 39) (kb' := 0) dJ8_startsWith_2_39 kJ8_coder q704 (t_J8_coder hS) q1 rfl (Nat.le_refl _) (Nat.le_of_ble_eq_true rfl) rfl rfl (Nat.le_of_ble_eq_true rfl) (fun _ _ q => q.elim) (fun _ _ hq => ?_)
    refine go_jE hq ?_
    refine r_istore (pc := 42) (L' := [_, _, _, _, _, _, _, _]) dJ8_startsWith_2_42 rfl ?_
    refine r_iload (pc := 44) dJ8_startsWith_2_44 rfl ?_
    refine r_aload_n (pc := 46) dJ8_startsWith_2_46 rfl ?_
    refine r_callV (pc := 47) (kb' := 0) dJ8_startsWith_2_47 kJ8_coder q704 (t_J8_coder hT) r1 rfl (Nat.le_refl _) (Nat.le_of_ble_eq_true rfl) rfl rfl (Nat.le_of_ble_eq_true rfl) (fun _ _ q => q.elim) (fun _ _ hq => ?_)
    refine go_jE hq ?_
    refine r_icmp_ne (pc := 50) (tgt := 82) dJ8_startsWith_2_50 (by decide) (by omega) (by omega) (fun c50 => absurd rfl c50) (fun c50 => ?_)
    refine r_iload (pc := 53) dJ8_startsWith_2_53 rfl ?_
    refine r_iconst (pc := 55) dJ8_startsWith_2_55 ?_
    refine r_icmp_ne (pc := 56) (tgt := 63) dJ8_startsWith_2_56 (by decide) (by omega) (by omega) (fun c56 => ?_) (fun c56 => absurd (by omega) c56)
    refine r_aload_n (pc := 63) dJ8_startsWith_2_63 rfl ?_
    refine r_iload_n (pc := 64) dJ8_startsWith_2_64 rfl ?_
    refine r_aload (pc := 65) dJ8_startsWith_2_65 rfl ?_
    refine r_iconst (pc := 67) dJ8_startsWith_2_67 ?_
    refine r_iload (pc := 68) dJ8_startsWith_2_68 rfl ?_
    refine r_callS (pc := 70) (kb' := 0) dJ8_startsWith_2_70 kJ18_mismatch q2349 (t_J18_mismatch q2 r2 (by omega) q4 r4 (by omega)) (Nat.le_refl _) (Nat.le_of_ble_eq_true rfl) rfl rfl (Nat.le_of_ble_eq_true rfl) (fun _ _ q => q.elim) (fun _ _ hq => ?_)
    refine go_jZ hq (fun z hz hz2 => ?_)
    refine r_if_ge (pc := 73) (tgt := 80) dJ8_startsWith_2_73 (by decide) (by omega) (fun c73 => ?_) (fun c73 => ?_)
    · refine r_iconst (pc := 80) dJ8_startsWith_2_80 ?_
      exact r_iret (pc := 81) dJ8_startsWith_2_81 rfl (nB' (by first | (left; rfl) | (right; rfl) | exact bZ_01' _ | omega)) ⟨by rw [bZ_f (fun q => (hz2.mp (by omega)) q.2)], rfl⟩
    · refine r_iconst (pc := 76) dJ8_startsWith_2_76 ?_
      refine r_goto (pc := 77) (tgt := 81) dJ8_startsWith_2_77 (by decide) ?_
      exact r_iret (pc := 81) dJ8_startsWith_2_81 rfl (nB' (by first | (left; rfl) | (right; rfl) | exact bZ_01' _ | omega)) ⟨by rw [bZ_t ⟨by omega, Classical.not_not.mp (fun q => by have := hz2.mpr q; omega)⟩], rfl⟩
  · refine r_iconst (pc := 17) dJ8_startsWith_2_17 ?_
    exact r_iret (pc := 18) dJ8_startsWith_2_18 rfl (nB' (by first | (left; rfl) | (right; rfl) | exact bZ_01' _ | omega)) ⟨by rw [bZ_f (fun q => by omega)], rfl⟩
theorem t_J8_startsWith {G : Gl} {h : Hp} {s s2 n m : Nat} {t1 t2 t3 t4 : Tg} {c d : Nat → Int} (hS : ST t1 t2 s n c h) (hT : ST t3 t4 s2 m d h) (hm : m ≤ 7) : Ct G 4 0 yJ8_startsWith (Cond.code yJ8_startsWith cJ8_startsWith 2 (some .boolean)) [.ref s, .ref s2] h (jE (.int (iZ (bZ (m ≤ n ∧ ∀ i, i < m → c i = d i)))) h) noX := by
  have hS0 := hS
  obtain ⟨v, f, hs, hz, q1, q2, q3, q4⟩ := hS0
  have hT0 := hT
  obtain ⟨u, g, hs2, hz2, r1, r2, r3, r4⟩ := hT0
  refine Ct.of (own := "java/lang/String") (nm := "startsWith") (by decide +kernel) rfl rfl (L := [some (.ref s), some (.ref s2)]) rfl (Nat.le_of_ble_eq_true rfl) rfl ?_
  refine r_aload_n (pc := 0) dJ8_startsWith_0 rfl ?_
  refine r_aload_n (pc := 1) dJ8_startsWith_1 rfl ?_
  refine r_iconst (pc := 2) dJ8_startsWith_2 ?_
  refine r_callV (pc := 3) (kb' := 0) dJ8_startsWith_3 kJ8_startsWith_2 q2345 (t_J8_startsWith_2 hS hT hm) q1 rfl (Nat.le_refl _) (Nat.le_of_ble_eq_true rfl) rfl rfl (Nat.le_of_ble_eq_true rfl) (fun _ _ q => q.elim) (fun _ _ hq => ?_)
  refine go_jE hq ?_
  exact r_iret (pc := 6) dJ8_startsWith_6 rfl (nB' (by first | (left; rfl) | (right; rfl) | exact bZ_01' _ | omega)) ⟨rfl, rfl⟩
theorem t_J18_signedHashCode {G : Gl} {h : Hp} {a n : Nat} {t1 : Tg} {f : Nat → Int32} {c : Nat → Int} (h1 : h a = some (t1, aI .byte n f)) (hn : 2 ≤ n ∧ n ≤ 100) (hc : ∀ i, i < n → f i = iZ (c i) ∧ 0 ≤ c i ∧ c i < 128) : Ct G 1 0 yJ18_signedHashCode (Cond.code yJ18_signedHashCode cJ18_signedHashCode 6 (some .int)) [.int (iZ 0), .ref a, .int (iZ 0), .int (iZ n)] h (jE (.int (iZ (hshZ c n))) h) noX := by
  refine Ct.of (own := "jdk/internal/util/ArraysSupport") (nm := "signedHashCode") (by decide +kernel) rfl rfl (L := [some (.int (iZ 0)), some (.ref a), some (.int (iZ 0)), some (.int (iZ n)), none, none]) rfl (Nat.le_of_ble_eq_true rfl) rfl ?_
  refine r_iload_n (pc := 0) dJ18_signedHashCode_0 rfl ?_
  refine r_iload_n (pc := 1) dJ18_signedHashCode_1 rfl ?_
  refine r_iadd (pc := 2) dJ18_signedHashCode_2 ?_
  refine go_cz (w := (n : Int)) (by omega) ?_
  refine r_istore (pc := 3) (L' := [_, _, _, _, _, _]) dJ18_signedHashCode_3 rfl ?_
  refine r_iload_n (pc := 5) dJ18_signedHashCode_5 rfl ?_
  refine r_istore (pc := 6) (L' := [_, _, _, _, _, _]) dJ18_signedHashCode_6 rfl ?_
  have loop8 : ∀ (k8 : Nat) (k : Nat), (k ≤ n) → n - k < k8 → Go G "jdk/internal/util/ArraysSupport" cJ18_signedHashCode (6, some .int, "signedHashCode", []) 1 0 (jE (.int (iZ (hshZ c n))) h) (noX) 0 h 8 [some (.int (iZ (hshZ c k))), some (.ref a), some (.int (iZ 0)), some (.int (iZ n)), some (.int (iZ n)), some (.int (iZ k))] [] := by
    intro k8
    induction k8 with
    | zero => intro k hk hk; omega
    | succ k8 ih8 =>
      intro k hk hk8
      refine r_iload (pc := 8) dJ18_signedHashCode_8 rfl ?_
      refine r_iload (pc := 10) dJ18_signedHashCode_10 rfl ?_
      refine r_icmp_ge (pc := 12) (tgt := 35) dJ18_signedHashCode_12 (by decide) (by omega) (by omega) (fun c12 => ?_) (fun c12 => ?_)
      · refine r_iload_n (pc := 35) dJ18_signedHashCode_35 rfl ?_
        exact r_iret (pc := 36) dJ18_signedHashCode_36 rfl rfl ⟨by rw [show k = n by omega], rfl⟩
      · have hck := (hc k (by omega)).2
        refine r_bipush (pc := 15) dJ18_signedHashCode_15 (by decide) ?_
        refine r_iload_n (pc := 17) dJ18_signedHashCode_17 rfl ?_
        refine r_imul (pc := 18) dJ18_signedHashCode_18 ?_
        refine r_aload_n (pc := 19) dJ18_signedHashCode_19 rfl ?_
        refine r_iload (pc := 20) dJ18_signedHashCode_20 rfl ?_
        refine r_bald (pc := 22) dJ18_signedHashCode_22 h1 (by omega) (by omega) (by omega) ?_
        refine go_ci (z := c k) (hc k (by omega)).1 ?_
        refine r_sipush (pc := 23) dJ18_signedHashCode_23 (by decide) ?_
        refine r_and255 (pc := 26) dJ18_signedHashCode_26 (by omega) ?_
        refine r_iadd (pc := 27) dJ18_signedHashCode_27 ?_
        refine go_cz (w := hshZ c (k + 1)) rfl ?_
        refine r_istore_n (pc := 28) (L' := [_, _, _, _, _, _]) dJ18_signedHashCode_28 rfl ?_
        refine r_iinc (pc := 29) (L' := [_, _, _, _, _, _]) dJ18_signedHashCode_29 rfl rfl ?_
        refine r_goto (pc := 32) (tgt := 8) dJ18_signedHashCode_32 (by decide) ?_
        exact ih8 (k + 1) (by omega) (by omega)
  exact loop8 _ 0 (by omega) (Nat.lt_succ_self _)
theorem t_J18_vectorizedHashCode {G : Gl} {h : Hp} {a n : Nat} {t1 : Tg} {f : Nat → Int32} {c : Nat → Int} (h1 : h a = some (t1, aI .byte n f)) (hn : 2 ≤ n ∧ n ≤ 100) (hc : ∀ i, i < n → f i = iZ (c i) ∧ 0 ≤ c i ∧ c i < 128) : Ct G 2 0 yJ18_vectorizedHashCode (Cond.code yJ18_vectorizedHashCode cJ18_vectorizedHashCode 5 (some .int)) [.ref a, .int (iZ 0), .int (iZ n), .int (iZ 0), .int (iZ 4)] h (jE (.int (iZ (hshZ c n))) h) noX := by
  refine Ct.of (own := "jdk/internal/util/ArraysSupport") (nm := "vectorizedHashCode") (by decide +kernel) rfl rfl (L := [some (.ref a), some (.int (iZ 0)), some (.int (iZ n)), some (.int (iZ 0)), some (.int (iZ 4))]) rfl (Nat.le_of_ble_eq_true rfl) rfl ?_
  refine r_iload (pc := 0) dJ18_vectorizedHashCode_0 rfl ?_
  refine r_tableIn (pc := 2) (off := 42) (tgt := 44) dJ18_vectorizedHashCode_2 (by decide) (by decide) (by decide) rfl (by decide) ?_
  refine r_iload_n (pc := 44) dJ18_vectorizedHashCode_44 rfl ?_
  refine r_aload_n (pc := 45) dJ18_vectorizedHashCode_45 rfl ?_
  refine r_castA (pc := 46) dJ18_vectorizedHashCode_46 q2479 h1 (by decide) (fun _ => nmB) ?_
  refine r_iload_n (pc := 49) dJ18_vectorizedHashCode_49 rfl ?_
  refine r_iload_n (pc := 50) dJ18_vectorizedHashCode_50 rfl ?_
  refine r_callS (pc := 51) (kb' := 0) dJ18_vectorizedHashCode_51 kJ18_signedHashCode q2480 (t_J18_signedHashCode h1 hn hc) (Nat.le_refl _) (Nat.le_of_ble_eq_true rfl) rfl rfl (Nat.le_of_ble_eq_true rfl) (fun _ _ q => q.elim) (fun _ _ hq => ?_)
  refine go_jE hq ?_
  refine r_goto (pc := 54) (tgt := 157) dJ18_vectorizedHashCode_54 (by decide) ?_
  exact r_iret (pc := 157) dJ18_vectorizedHashCode_157 rfl rfl ⟨rfl, rfl⟩
theorem t_J21_hashCode {G : Gl} {h : Hp} {a n : Nat} {t1 : Tg} {f : Nat → Int32} {c : Nat → Int} (h1 : h a = some (t1, aI .byte n f)) (hn : 2 ≤ n ∧ n ≤ 100) (hc : ∀ i, i < n → f i = iZ (c i) ∧ 0 ≤ c i ∧ c i < 128) : Ct G 3 0 yJ21_hashCode (Cond.code yJ21_hashCode cJ21_hashCode 1 (some .int)) [.ref a] h (jE (.int (iZ (hshZ c n))) h) noX := by
  refine Ct.of (own := "java/lang/StringLatin1") (nm := "hashCode") (by decide +kernel) rfl rfl (L := [some (.ref a)]) rfl (Nat.le_of_ble_eq_true rfl) rfl ?_
  refine r_aload_n (pc := 0) dJ21_hashCode_0 rfl ?_
  refine r_alen (pc := 1) dJ21_hashCode_1 (by decide) h1 (by omega) ?_
  refine r_lookup (pc := 2) (off := 40) (tgt := 42) dJ21_hashCode_2 (by decide) (by omega) (ln2_off hn.1) (by decide) ?_
  refine r_aload_n (pc := 42) dJ21_hashCode_42 rfl ?_
  refine r_iconst (pc := 43) dJ21_hashCode_43 ?_
  refine r_aload_n (pc := 44) dJ21_hashCode_44 rfl ?_
  refine r_alen (pc := 45) dJ21_hashCode_45 (by decide) h1 (by omega) ?_
  refine r_iconst (pc := 46) dJ21_hashCode_46 ?_
  refine r_iconst (pc := 47) dJ21_hashCode_47 ?_
  refine r_callS (pc := 48) (kb' := 0) dJ21_hashCode_48 kJ18_vectorizedHashCode q2476 (t_J18_vectorizedHashCode h1 hn hc) (Nat.le_refl _) (Nat.le_of_ble_eq_true rfl) rfl rfl (Nat.le_of_ble_eq_true rfl) (fun _ _ q => q.elim) (fun _ _ hq => ?_)
  refine go_jE hq ?_
  exact r_iret (pc := 51) dJ21_hashCode_51 rfl rfl ⟨rfl, rfl⟩
theorem t_J8_hashCode {G : Gl} {h : Hp} {s n : Nat} {t : Tg} {c : Nat → Int} (hS : STh t s n c h) (ht : t ≠ frz) (hn : 2 ≤ n) (hz : iZ (hshZ c n) ≠ 0) : Ct G 4 0 yJ8_hashCode (Cond.code yJ8_hashCode cJ8_hashCode 2 (some .int)) [.ref s] h (jP (.int (iZ (hshZ c n))) (fun h' => STh t s n c h' ∧ Fr (fun x => x = t) h h')) noX := by
  have hS0 := hS
  obtain ⟨v, f, hs, q1, q2, q3, q4, q5⟩ := hS0
  have hp := PW.one q1
  have hnz : nz (hshZ c n) ≠ 0 := fun e => hz (by rw [← iZ_nz, e]; rfl)
  have hni := nz_in (hshZ c n)
  rcases q5 with rfl | rfl
  · refine Ct.of (own := "java/lang/String") (nm := "hashCode") (by decide +kernel) rfl rfl (L := [some (.ref s), none]) rfl (Nat.le_of_ble_eq_true rfl) rfl ?_
    refine r_aload_n (pc := 0) dJ8_hashCode_0 rfl ?_
    refine gJ8_19 (pc := 1) dJ8_hashCode_1 (hp.at 0 rfl) rfl ?_
    refine go_ci (z := 0) rfl ?_
    refine r_istore_n (pc := 4) (L' := [_, _]) dJ8_hashCode_4 rfl ?_
    refine r_iload_n (pc := 5) dJ8_hashCode_5 rfl ?_
    refine r_if_ne (pc := 6) (tgt := 58) dJ8_hashCode_6 (by decide) (by decide) (fun q => absurd q (by decide)) (fun _ => ?_)
    refine r_aload_n (pc := 9) dJ8_hashCode_9 rfl ?_
    refine gJ8_23 (pc := 10) dJ8_hashCode_10 (hp.at 0 rfl) rfl ?_
    refine go_ci (z := 0) rfl ?_
    refine r_if_ne (pc := 13) (tgt := 58) dJ8_hashCode_13 (by decide) (by decide) (fun q => absurd q (by decide)) (fun _ => ?_)
    refine r_aload_n (pc := 16) dJ8_hashCode_16 rfl ?_
    refine r_callV (pc := 17) (kb' := 0) dJ8_hashCode_17 kJ8_isLatin1 q2251 (t_J8_isLatin1 hS.st) (hp.at 0 rfl) rfl (Nat.le_refl _) (Nat.le_of_ble_eq_true rfl) rfl rfl (Nat.le_of_ble_eq_true rfl) (fun _ _ q => q.elim) (fun _ _ hq => ?_)
    refine go_jE hq ?_
    refine r_if_eq (pc := 20) (tgt := 33) dJ8_hashCode_20 (by decide) (by decide) (fun q => absurd q (by decide)) (fun _ => ?_)
    refine r_aload_n (pc := 23) dJ8_hashCode_23 rfl ?_
    refine gJ8_9 (pc := 24) dJ8_hashCode_24 (hp.at 0 rfl) rfl ?_
    refine r_callS (pc := 27) (kb' := 0) dJ8_hashCode_27 kJ21_hashCode q2473 (t_J21_hashCode q2 (by omega) q4) (Nat.le_refl _) (Nat.le_of_ble_eq_true rfl) rfl rfl (Nat.le_of_ble_eq_true rfl) (fun _ _ q => q.elim) (fun _ _ hq => ?_)
    refine go_jE hq ?_
    refine go_ci (z := nz (hshZ c n)) (iZ_nz _).symm ?_
    refine r_goto (pc := 30) (tgt := 40) dJ8_hashCode_30 (by decide) ?_
    refine r_istore_n (pc := 40) (L' := [_, _]) dJ8_hashCode_40 rfl ?_
    refine r_iload_n (pc := 41) dJ8_hashCode_41 rfl ?_
    refine r_if_ne (pc := 42) (tgt := 53) dJ8_hashCode_42 (by decide) (by omega) (fun c42 => ?_) (fun c42 => absurd hnz c42)
    refine r_aload_n (pc := 53) dJ8_hashCode_53 rfl ?_
    refine r_iload_n (pc := 54) dJ8_hashCode_54 rfl ?_
    refine pJ8_19 (pc := 55) dJ8_hashCode_55 (hp.at 0 rfl) ht (Nat.le_of_ble_eq_true rfl) ?_
    refine go_pw (hp.put 0 rfl) (fun h hp => ?_)
    refine r_iload_n (pc := 58) dJ8_hashCode_58 rfl ?_
    exact r_iret (pc := 59) dJ8_hashCode_59 rfl rfl ⟨congrArg (fun q => some (Value.int q)) (iZ_nz _), ⟨v, f, iZ (nz (hshZ c n)), hp.at 0 rfl, (hp.ot ⟨ne_of q1 q2 (by intro e; simp [ob, aI] at e), trivial⟩).trans q2, q3, q4, Or.inr (iZ_nz _)⟩, hp.fr ⟨FA.t q1, trivial⟩⟩
  · refine Ct.of (own := "java/lang/String") (nm := "hashCode") (by decide +kernel) rfl rfl (L := [some (.ref s), none]) rfl (Nat.le_of_ble_eq_true rfl) rfl ?_
    refine r_aload_n (pc := 0) dJ8_hashCode_0 rfl ?_
    refine gJ8_19 (pc := 1) dJ8_hashCode_1 q1 rfl ?_
    refine go_ci (z := nz (hshZ c n)) (iZ_nz _).symm ?_
    refine r_istore_n (pc := 4) (L' := [_, _]) dJ8_hashCode_4 rfl ?_
    refine r_iload_n (pc := 5) dJ8_hashCode_5 rfl ?_
    refine r_if_ne (pc := 6) (tgt := 58) dJ8_hashCode_6 (by decide) (by omega) (fun c6 => ?_) (fun c6 => absurd hnz c6)
    refine r_iload_n (pc := 58) dJ8_hashCode_58 rfl ?_
    exact r_iret (pc := 59) dJ8_hashCode_59 rfl rfl ⟨congrArg (fun q => some (Value.int q)) (iZ_nz _), hS, Fr.rf⟩
