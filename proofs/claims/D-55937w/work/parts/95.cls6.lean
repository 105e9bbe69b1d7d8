set_option maxRecDepth 100000
/-! the class, part 6: sets and orders -/
theorem std_can {r : Row} {a x : Int} : (0 ≤ fA r a 4 ∧ (if firP r a x then 1 else fA r a 3) = 1 ∧ fA r a 2 + crZ r a x = 0) ↔ stdP r a x := by
  by_cases h : firP r a x
  · rw [if_pos h]; exact ⟨fun q => ⟨q.1, q.2.2, Or.inr h⟩, fun q => ⟨q.1, rfl, q.2.1⟩⟩
  · rw [if_neg h]; exact ⟨fun q => ⟨q.1, q.2.2, Or.inl q.2.1⟩, fun q => ⟨q.1, q.2.2.resolve_right h, q.2.1⟩⟩
abbrev e3 (G : Gl) : Nat → Nat := fun i => gS G (if i = 0 then 238 else if i = 1 then 278 else 327)
theorem int3 {G : Gl} {h : Hp} (hZ : FZ G h) : ∀ k, k < 3 → ∃ z : Int, (10 ≤ z ∧ z ≤ 99) ∧ h (e3 G k) = some (frz, ob 17 [.int (iZ z)])
  | 0, _ => ⟨10, by omega, hZ.2.2.2.2.1.1⟩
  | 1, _ => ⟨50, by omega, hZ.2.2.2.2.1.2.1⟩
  | 2, _ => ⟨99, by omega, hZ.2.2.2.2.1.2.2⟩
  | _ + 3, hi => absurd hi (by omega)
theorem FZ.q {G : Gl} {h h' : Hp} (hZ : FZ G h) (hf : Fr pQ h h') : FZ G h' := hZ.fr hf pQ_z

theorem t_X1_precedents {G : Gl} {h9 : Hp} {o s T : Nat} {v1 v2 v3 v4 v5 v6 v7 : Value} {r : Row} {al cl sl : Nat} {m1 m2 m3 : Int32} {n1 n2 E F : Nat → Nat} (hb9 : h9 o = some ((2, 0), ob 0 [.ref s, v1, v2, v3, v4, v5, v6, v7])) (hX9 : SWx G T s r al cl sl m1 m2 m3 n1 n2 E F h9) (hI : RI r) {a : Int} (ha : InR a) : Ct G 8 13 yX1_precedents (Cond.code yX1_precedents cX1_precedents 4 (some .int)) [.ref o, .int (iZ a)] h9 (qQ (zPre r a) (kAr r a) (Fr pQ h9)) (qX (kAr r a) eIOB "" (Fr pQ h9)) := by
  have hF : Fr pQ h9 h9 := Fr.rf
  have hb := hb9
  have hX := hX9
  have b := hI.1
  have hX2 := hX
  obtain ⟨w1, w2, w3, w4, w5, w6, w7, w8⟩ := hX2
  obtain ⟨ar1, w2s⟩ := w2.size
  have hp := PW.nil (h := h9)
  refine Ct.of (own := "CharterKiln") (nm := "precedents") (by decide +kernel) rfl rfl (L := [some (.ref o), some (.int (iZ a)), none, none]) rfl (Nat.le_of_ble_eq_true rfl) rfl ?_
  refine r_aload_n (pc := 0) dX1_precedents_0 rfl ?_
  refine r_iload_n (pc := 1) dX1_precedents_1 rfl ?_
  refine r_callV (pc := 2) (kb' := 6) dX1_precedents_2 kX1_checkArticle q1952 (t_X1_checkArticle hb hX hI (by omega)) hb rfl (Nat.le_of_ble_eq_true rfl) (Nat.le_of_ble_eq_true rfl) rfl rfl (Nat.le_of_ble_eq_true rfl) (fun E h7 hx => x_out rfl ⟨Or.inl ⟨hx.1, kAr_1 hx.2.1⟩, by rw [hx.2.2]; exact hF⟩) (fun _ h hq => ?_)
  refine go_jN hq (fun hq2 => ?_)
  obtain ⟨e9, hpa⟩ := hq2
  replace e9 := e9.symm
  subst e9
  refine r_new (pc := 5) (ci := 16) (T := TJ14) (N := 3) ((3, 10)) [.null, .int 0, .int 0] (kb' := 2) dX1_precedents_5 rfl q2065 q1586 q124 (by intro j hj; revert j; decide +kernel) (Nat.le_of_ble_eq_true rfl) (fun w hw zw => ?_)
  refine go_pw (hp.new hw _) (fun h hp => ?_)
  have hwn := hw
  refine r_dup (pc := 8) dX1_precedents_8 rfl ?_
  refine r_bipush (pc := 9) dX1_precedents_9 (by decide) ?_
  refine r_callI (pc := 11) (kb' := 0) dX1_precedents_11 kJ14_init q2066 (t_J14_init (n := 8) (hp.at 0 rfl) (by decide) (by omega)) (Nat.le_of_ble_eq_true rfl) (Nat.le_of_ble_eq_true rfl) rfl rfl (Nat.le_of_ble_eq_true rfl) (fun _ _ q => q.elim) (fun _ h hq => ?_)
  refine go_jN hq (fun hq2 => ?_)
  obtain ⟨hB, hF2⟩ := hq2
  have hF := (hp.fr (P := pQ) ⟨Or.inl hwn, trivial⟩).tr (hF2.wk (pQ_10 (by decide)))
  have hb := hF.get hb9 pQ_2
  have hX := hX9.q hF
  have hX2 := hX
  obtain ⟨w1, w2, w3, w4, w5, w6, w7, w8⟩ := hX2
  obtain ⟨ar1, w2s⟩ := w2.size
  refine r_astore_n (pc := 14) (L' := [_, _, _, _]) dX1_precedents_14 rfl ?_
  refine r_iconst (pc := 15) dX1_precedents_15 ?_
  refine r_istore_n (pc := 16) (L' := [_, _, _, _]) dX1_precedents_16 rfl ?_
  have loop17 : ∀ (k17 : Nat) (k : Nat) (h : Hp), (k ≤ (r 2).toNat) → (BS (3, 10) w (bs (fun s => 0 < amZ r s a) k) h) → (Fr pQ h9 h) → (r 2).toNat - k < k17 → Go G "CharterKiln" cX1_precedents (4, some .int, "precedents", []) 8 13 (qQ (zPre r a) (kAr r a) (Fr pQ h9)) ((qX (kAr r a) eIOB "" (Fr pQ h9))) 0 h 17 [some (.ref o), some (.int (iZ a)), some (.ref w), some (.int (iZ k))] [] := by
    intro k17
    induction k17 with
    | zero => intro k h hk hB hF hk; omega
    | succ k17 ih17 =>
      intro k h hk hB hF hk17
      have hb := hF.get hb9 pQ_2
      have hX := hX9.q hF
      have hX2 := hX
      obtain ⟨w1, w2, w3, w4, w5, w6, w7, w8⟩ := hX2
      obtain ⟨ar1, w2s⟩ := w2.size
      have hB0 := hB
      obtain ⟨bw, bf, bz, hB1, hB2⟩ := hB0
      refine r_iload_n (pc := 17) dX1_precedents_17 rfl ?_
      refine r_aload_n (pc := 18) dX1_precedents_18 rfl ?_
      refine gX1_10 (pc := 19) dX1_precedents_19 hb rfl ?_
      refine gX1_180 (pc := 22) dX1_precedents_22 w1 rfl ?_
      refine r_callV (pc := 25) (kb' := 0) dX1_precedents_25 kJ4_size q1773 (t_J4_size w4) w4.2.1 rfl (Nat.le_refl _) (Nat.le_of_ble_eq_true rfl) rfl rfl (Nat.le_of_ble_eq_true rfl) (fun _ _ q => q.elim) (fun _ _ hq => ?_)
      refine go_jE hq ?_
      refine go_cz (w := r 2) (by omega) ?_
      refine r_icmp_ge (pc := 28) (tgt := 72) dX1_precedents_28 (by decide) (by omega) (by omega) (fun c28 => ?_) (fun c28 => ?_)
      · refine r_aload_n (pc := 72) dX1_precedents_72 rfl ?_
        refine r_callS (pc := 73) (kb' := 0) dX1_precedents_73 kX1_bits q2069 (t_X1_bits hB (by omega)) (Nat.le_refl _) (Nat.le_of_ble_eq_true rfl) rfl rfl (Nat.le_of_ble_eq_true rfl) (fun _ _ q => q.elim) (fun _ _ hq => ?_)
        refine go_jE hq ?_
        refine go_ci (z := btZ (fun s => 0 < amZ r s a) (r 2)) (by rw [← btZ_e, show k = (r 2).toNat by omega]) ?_
        exact r_iret (pc := 76) dX1_precedents_76 rfl rfl ⟨congrArg (fun q : Int => some (Value.int (iZ q))) (by unfold zPre; rw [if_pos (kAr_0 hpa)]), kAr_0 hpa, hF⟩
      · refine r_aload_n (pc := 31) dX1_precedents_31 rfl ?_
        refine r_iload_n (pc := 32) dX1_precedents_32 rfl ?_
        refine r_aload_n (pc := 33) dX1_precedents_33 rfl ?_
        refine gX1_10 (pc := 34) dX1_precedents_34 hb rfl ?_
        refine gX1_180 (pc := 37) dX1_precedents_37 w1 rfl ?_
        refine r_iload_n (pc := 40) dX1_precedents_40 rfl ?_
        refine r_callV (pc := 41) (kb' := 0) dX1_precedents_41 kJ4_get q1897 (t_J4_get w4 (i := k) (by omega)) w4.2.1 rfl (Nat.le_refl _) (Nat.le_of_ble_eq_true rfl) rfl rfl (Nat.le_of_ble_eq_true rfl) (fun _ _ q => q.elim) (fun _ _ hq => ?_)
        refine go_jE hq ?_
        have hso := hI.2.2.1 ((k : Nat) : Int) (by omega) (by omega)
        have hso2 := hso
        unfold shOk at hso2
        refine r_cast (pc := 44) dX1_precedents_44 q1282 (w6 k (by omega)) rfl ?_
        refine r_aload_n (pc := 47) dX1_precedents_47 rfl ?_
        refine r_iload_n (pc := 48) dX1_precedents_48 rfl ?_
        refine r_callV (pc := 49) (kb' := 0) dX1_precedents_49 kX1_articleAt q1749 (t_X1_articleAt hb hX hI (by omega)) hb rfl (Nat.le_refl _) (Nat.le_of_ble_eq_true rfl) rfl rfl (Nat.le_of_ble_eq_true rfl) (fun _ _ q => q.elim) (fun _ _ hq => ?_)
        refine go_jE hq ?_
        have ea : ((a.toNat : Nat) : Int) = a := by omega
        have ho := hI.2.1 a (by omega) (by omega)
        have ho2 := ho
        unfold artOk at ho2
        have hA5 := w5 a.toNat (by omega)
        rw [ea] at hA5
        refine r_callS (pc := 52) (kb' := 0) dX1_precedents_52 kX1_amendsOf q2109 (t_X1_amendsOf (w6 k (by omega)) hA5 hso ho) (Nat.le_refl _) (Nat.le_of_ble_eq_true rfl) rfl rfl (Nat.le_of_ble_eq_true rfl) (fun _ _ q => q.elim) (fun _ _ hq => ?_)
        refine go_jE hq ?_
        have ham := amO_in ho hso
        have haz := amO_Z hI (s := k) (a := a) (by omega) (by omega)
        refine r_if_le (pc := 55) (tgt := 62) dX1_precedents_55 (by decide) (by omega) (fun c55 => ?_) (fun c55 => ?_)
        · refine r_iconst (pc := 62) dX1_precedents_62 ?_
          refine go_cz (w := bZ (0 < amZ r k a)) (bZ_f (by omega)).symm ?_
          refine r_callV (pc := 63) (kb' := 0) dX1_precedents_63 kJ14_set q2068 (t_J14_set (p := (fun s => 0 < amZ r s a) k) hB (by decide) (by omega) (bs_lt k)) hB1 rfl (Nat.le_refl _) (Nat.le_of_ble_eq_true rfl) rfl rfl (Nat.le_of_ble_eq_true rfl) (fun _ _ q => q.elim) (fun _ h hq => ?_)
          refine go_jN hq (fun hq2 => ?_)
          obtain ⟨hB, hF2⟩ := hq2
          replace hF := hF.tr (hF2.wk (pQ_10 (by decide)))
          have hb := hF.get hb9 pQ_2
          have hX := hX9.q hF
          have hX2 := hX
          obtain ⟨w1, w2, w3, w4, w5, w6, w7, w8⟩ := hX2
          obtain ⟨ar1, w2s⟩ := w2.size
          refine r_iinc (pc := 66) (L' := [_, _, _, _]) dX1_precedents_66 rfl rfl ?_
          refine r_goto (pc := 69) (tgt := 17) dX1_precedents_69 (by decide) ?_
          exact ih17 (k + 1) h (by omega) hB hF (by omega)
        · refine r_iconst (pc := 58) dX1_precedents_58 ?_
          refine go_cz (w := bZ (0 < amZ r k a)) (bZ_t (by omega)).symm ?_
          refine r_goto (pc := 59) (tgt := 63) dX1_precedents_59 (by decide) ?_
          refine r_callV (pc := 63) (kb' := 0) dX1_precedents_63 kJ14_set q2068 (t_J14_set (p := (fun s => 0 < amZ r s a) k) hB (by decide) (by omega) (bs_lt k)) hB1 rfl (Nat.le_refl _) (Nat.le_of_ble_eq_true rfl) rfl rfl (Nat.le_of_ble_eq_true rfl) (fun _ _ q => q.elim) (fun _ h hq => ?_)
          refine go_jN hq (fun hq2 => ?_)
          obtain ⟨hB, hF2⟩ := hq2
          replace hF := hF.tr (hF2.wk (pQ_10 (by decide)))
          have hb := hF.get hb9 pQ_2
          have hX := hX9.q hF
          have hX2 := hX
          obtain ⟨w1, w2, w3, w4, w5, w6, w7, w8⟩ := hX2
          obtain ⟨ar1, w2s⟩ := w2.size
          refine r_iinc (pc := 66) (L' := [_, _, _, _]) dX1_precedents_66 rfl rfl ?_
          refine r_goto (pc := 69) (tgt := 17) dX1_precedents_69 (by decide) ?_
          exact ih17 (k + 1) h (by omega) hB hF (by omega)
  exact loop17 _ 0 _ (by omega) hB hF (Nat.lt_succ_self _)
theorem t_X1_like {G : Gl} {h9 : Hp} {o s T : Nat} {v1 v2 v3 v4 v5 v6 v7 : Value} {r : Row} {al cl sl : Nat} {m1 m2 m3 : Int32} {n1 n2 E F : Nat → Nat} (hb9 : h9 o = some ((2, 0), ob 0 [.ref s, v1, v2, v3, v4, v5, v6, v7])) (hX9 : SWx G T s r al cl sl m1 m2 m3 n1 n2 E F h9) (hI : RI r) {a : Int} (ha : InR a) : Ct G 8 13 yX1_like (Cond.code yX1_like cX1_like 6 (some .int)) [.ref o, .int (iZ a)] h9 (qQ (zLik r a) (kAr r a) (Fr pQ h9)) (qX (kAr r a) eIOB "" (Fr pQ h9)) := by
  have hF : Fr pQ h9 h9 := Fr.rf
  have hb := hb9
  have hX := hX9
  have b := hI.1
  have hX2 := hX
  obtain ⟨w1, w2, w3, w4, w5, w6, w7, w8⟩ := hX2
  obtain ⟨ar1, w2s⟩ := w2.size
  have hp := PW.nil (h := h9)
  refine Ct.of (own := "CharterKiln") (nm := "like") (by decide +kernel) rfl rfl (L := [some (.ref o), some (.int (iZ a)), none, none, none, none]) rfl (Nat.le_of_ble_eq_true rfl) rfl ?_
  refine r_aload_n (pc := 0) dX1_like_0 rfl ?_
  refine r_iload_n (pc := 1) dX1_like_1 rfl ?_
  refine r_callV (pc := 2) (kb' := 6) dX1_like_2 kX1_checkArticle q1952 (t_X1_checkArticle hb hX hI (by omega)) hb rfl (Nat.le_of_ble_eq_true rfl) (Nat.le_of_ble_eq_true rfl) rfl rfl (Nat.le_of_ble_eq_true rfl) (fun E h7 hx => x_out rfl ⟨Or.inl ⟨hx.1, kAr_1 hx.2.1⟩, by rw [hx.2.2]; exact hF⟩) (fun _ h hq => ?_)
  refine go_jN hq (fun hq2 => ?_)
  obtain ⟨e9, hpa⟩ := hq2
  replace e9 := e9.symm
  subst e9
  refine r_aload_n (pc := 5) dX1_like_5 rfl ?_
  refine r_iload_n (pc := 6) dX1_like_6 rfl ?_
  refine r_callV (pc := 7) (kb' := 6) dX1_like_7 kX1_articleAt q1749 (t_X1_articleAt hb hX hI (by omega)) hb rfl (Nat.le_refl _) (Nat.le_of_ble_eq_true rfl) rfl rfl (Nat.le_of_ble_eq_true rfl) (fun _ _ q => q.elim) (fun _ _ hq => ?_)
  refine go_jE hq ?_
  have ea : ((a.toNat : Nat) : Int) = a := by omega
  have ho := hI.2.1 a (by omega) (by omega)
  have ho2 := ho
  unfold artOk at ho2
  have hA5 := w5 a.toNat (by omega)
  rw [ea] at hA5
  refine r_astore_n (pc := 10) (L' := [_, _, _, _, _, _]) dX1_like_10 rfl ?_
  refine r_new (pc := 11) (ci := 16) (T := TJ14) (N := 3) ((3, 10)) [.null, .int 0, .int 0] (kb' := 2) dX1_like_11 rfl q2065 q1586 q124 (by intro j hj; revert j; decide +kernel) (Nat.le_of_ble_eq_true rfl) (fun w hw zw => ?_)
  refine go_pw (hp.new hw _) (fun h hp => ?_)
  have hwn := hw
  refine r_dup (pc := 14) dX1_like_14 rfl ?_
  refine r_bipush (pc := 15) dX1_like_15 (by decide) ?_
  refine r_callI (pc := 17) (kb' := 0) dX1_like_17 kJ14_init q2066 (t_J14_init (n := 12) (hp.at 0 rfl) (by decide) (by omega)) (Nat.le_of_ble_eq_true rfl) (Nat.le_of_ble_eq_true rfl) rfl rfl (Nat.le_of_ble_eq_true rfl) (fun _ _ q => q.elim) (fun _ h hq => ?_)
  refine go_jN hq (fun hq2 => ?_)
  obtain ⟨hB, hF2⟩ := hq2
  have hF := (hp.fr (P := pQ) ⟨Or.inl hwn, trivial⟩).tr (hF2.wk (pQ_10 (by decide)))
  have hb := hF.get hb9 pQ_2
  have hX := hX9.q hF
  have hX2 := hX
  obtain ⟨w1, w2, w3, w4, w5, w6, w7, w8⟩ := hX2
  obtain ⟨ar1, w2s⟩ := w2.size
  refine r_astore_n (pc := 20) (L' := [_, _, _, _, _, _]) dX1_like_20 rfl ?_
  refine r_iconst (pc := 21) dX1_like_21 ?_
  refine r_istore (pc := 22) (L' := [_, _, _, _, _, _]) dX1_like_22 rfl ?_
  have loop24 : ∀ (k24 : Nat) (k : Nat) (h : Hp), (k ≤ (r 0).toNat) → (BS (3, 10) w (bs (fun x => likP r a x) k) h) → (Fr pQ h9 h) → (r 0).toNat - k < k24 → Go G "CharterKiln" cX1_like (6, some .int, "like", []) 8 13 (qQ (zLik r a) (kAr r a) (Fr pQ h9)) ((qX (kAr r a) eIOB "" (Fr pQ h9))) 0 h 24 [some (.ref o), some (.int (iZ a)), some (.ref (E a.toNat)), some (.ref w), some (.int (iZ k)), none] [] := by
    intro k24
    induction k24 with
    | zero => intro k h hk hB hF hk; omega
    | succ k24 ih24 =>
      intro k h hk hB hF hk24
      have hb := hF.get hb9 pQ_2
      have hX := hX9.q hF
      have hX2 := hX
      obtain ⟨w1, w2, w3, w4, w5, w6, w7, w8⟩ := hX2
      obtain ⟨ar1, w2s⟩ := w2.size
      have hB0 := hB
      obtain ⟨bw, bf, bz, hB1, hB2⟩ := hB0
      have hA5 := w5 a.toNat (by omega)
      rw [ea] at hA5
      have hoa := ho2
      refine r_iload (pc := 24) dX1_like_24 rfl ?_
      refine r_aload_n (pc := 26) dX1_like_26 rfl ?_
      refine gX1_10 (pc := 27) dX1_like_27 hb rfl ?_
      refine gX1_95 (pc := 30) dX1_like_30 w1 rfl ?_
      refine r_callV (pc := 33) (kb' := 0) dX1_like_33 kJ2_size q1512 (t_J2_size w2s) w2s rfl (Nat.le_refl _) (Nat.le_of_ble_eq_true rfl) rfl rfl (Nat.le_of_ble_eq_true rfl) (fun _ _ q => q.elim) (fun _ _ hq => ?_)
      refine go_jE hq ?_
      refine go_cz (w := r 0) (by omega) ?_
      refine r_icmp_ge (pc := 36) (tgt := 96) dX1_like_36 (by decide) (by omega) (by omega) (fun c36 => ?_) (fun c36 => ?_)
      · refine r_aload_n (pc := 96) dX1_like_96 rfl ?_
        refine r_callS (pc := 97) (kb' := 0) dX1_like_97 kX1_bits q2069 (t_X1_bits hB (by omega)) (Nat.le_refl _) (Nat.le_of_ble_eq_true rfl) rfl rfl (Nat.le_of_ble_eq_true rfl) (fun _ _ q => q.elim) (fun _ _ hq => ?_)
        refine go_jE hq ?_
        refine go_ci (z := btZ (fun x => likP r a x) (r 0)) (by rw [← btZ_e, show k = (r 0).toNat by omega]) ?_
        exact r_iret (pc := 100) dX1_like_100 rfl rfl ⟨congrArg (fun q : Int => some (Value.int (iZ q))) (by unfold zLik; rw [if_pos (kAr_0 hpa)]), kAr_0 hpa, hF⟩
      · refine r_aload_n (pc := 39) dX1_like_39 rfl ?_
        refine r_iload (pc := 40) dX1_like_40 rfl ?_
        refine r_callV (pc := 42) (kb' := 0) dX1_like_42 kX1_articleAt q1749 (t_X1_articleAt hb hX hI (by omega)) hb rfl (Nat.le_refl _) (Nat.le_of_ble_eq_true rfl) rfl rfl (Nat.le_of_ble_eq_true rfl) (fun _ _ q => q.elim) (fun _ _ hq => ?_)
        refine go_jE hq ?_
        refine go_cv (w := .ref (E k)) (by first | rfl | exact congrArg (fun q => Value.ref (E q)) (by omega)) ?_
        have ho := hI.2.1 ((k : Nat) : Int) (by omega) (by omega)
        have ho2 := ho
        unfold artOk at ho2
        refine r_astore (pc := 45) (L' := [_, _, _, _, _, _]) dX1_like_45 rfl ?_
        refine r_aload_n (pc := 47) dX1_like_47 rfl ?_
        refine r_iload (pc := 48) dX1_like_48 rfl ?_
        refine r_aload (pc := 50) dX1_like_50 rfl ?_
        refine r_callV (pc := 52) (kb' := 0) dX1_like_52 kX5_isLaw q1206 (t_X5_isLaw (w5 k (by omega)) (by omega)) (w5 k (by omega)) rfl (Nat.le_refl _) (Nat.le_of_ble_eq_true rfl) rfl rfl (Nat.le_of_ble_eq_true rfl) (fun _ _ q => q.elim) (fun _ _ hq => ?_)
        refine go_jE hq ?_
        refine r_ifB_ne (pc := 55) (tgt := 86) dX1_like_55 (by decide) (fun c55 => ?_) (fun c55 => ?_)
        · refine r_iconst (pc := 86) dX1_like_86 ?_
          refine go_cz (w := bZ (likP r a k)) (bZ_f (fun q => by have q1 := q.1; have q2 := q.2.1; have q3 := q.2.2; omega)).symm ?_
          refine r_callV (pc := 87) (kb' := 0) dX1_like_87 kJ14_set q2068 (t_J14_set (p := (fun x => likP r a x) k) hB (by decide) (by omega) (bs_lt k)) hB1 rfl (Nat.le_refl _) (Nat.le_of_ble_eq_true rfl) rfl rfl (Nat.le_of_ble_eq_true rfl) (fun _ _ q => q.elim) (fun _ h hq => ?_)
          refine go_jN hq (fun hq2 => ?_)
          obtain ⟨hB, hF2⟩ := hq2
          replace hF := hF.tr (hF2.wk (pQ_10 (by decide)))
          have hb := hF.get hb9 pQ_2
          have hX := hX9.q hF
          have hX2 := hX
          obtain ⟨w1, w2, w3, w4, w5, w6, w7, w8⟩ := hX2
          obtain ⟨ar1, w2s⟩ := w2.size
          refine r_iinc (pc := 90) (L' := [_, _, _, _, _, _]) dX1_like_90 rfl rfl ?_
          refine r_goto (pc := 93) (tgt := 24) dX1_like_93 (by decide) ?_
          refine goL (L' := [some (.ref o), some (.int (iZ a)), some (.ref (E a.toNat)), some (.ref w), some (.int (iZ (k + 1 : Nat))), none]) ⟨rfl, rfl, rfl, rfl, rfl, trivial⟩ ?_
          exact ih24 (k + 1) h (by omega) hB hF (by omega)
        · refine r_aload (pc := 58) dX1_like_58 rfl ?_
          refine gX1_189 (pc := 60) dX1_like_60 (w5 k (by omega)) rfl ?_
          refine r_aload_n (pc := 63) dX1_like_63 rfl ?_
          refine gX1_189 (pc := 64) dX1_like_64 hA5 rfl ?_
          refine r_icmp_ne (pc := 67) (tgt := 86) dX1_like_67 (by decide) (by omega) (by omega) (fun c67 => ?_) (fun c67 => ?_)
          · refine r_iconst (pc := 86) dX1_like_86 ?_
            refine go_cz (w := bZ (likP r a k)) (bZ_f (fun q => by have q1 := q.1; have q2 := q.2.1; have q3 := q.2.2; omega)).symm ?_
            refine r_callV (pc := 87) (kb' := 0) dX1_like_87 kJ14_set q2068 (t_J14_set (p := (fun x => likP r a x) k) hB (by decide) (by omega) (bs_lt k)) hB1 rfl (Nat.le_refl _) (Nat.le_of_ble_eq_true rfl) rfl rfl (Nat.le_of_ble_eq_true rfl) (fun _ _ q => q.elim) (fun _ h hq => ?_)
            refine go_jN hq (fun hq2 => ?_)
            obtain ⟨hB, hF2⟩ := hq2
            replace hF := hF.tr (hF2.wk (pQ_10 (by decide)))
            have hb := hF.get hb9 pQ_2
            have hX := hX9.q hF
            have hX2 := hX
            obtain ⟨w1, w2, w3, w4, w5, w6, w7, w8⟩ := hX2
            obtain ⟨ar1, w2s⟩ := w2.size
            refine r_iinc (pc := 90) (L' := [_, _, _, _, _, _]) dX1_like_90 rfl rfl ?_
            refine r_goto (pc := 93) (tgt := 24) dX1_like_93 (by decide) ?_
            refine goL (L' := [some (.ref o), some (.int (iZ a)), some (.ref (E a.toNat)), some (.ref w), some (.int (iZ (k + 1 : Nat))), none]) ⟨rfl, rfl, rfl, rfl, rfl, trivial⟩ ?_
            exact ih24 (k + 1) h (by omega) hB hF (by omega)
          · refine r_aload (pc := 70) dX1_like_70 rfl ?_
            refine gX1_164 (pc := 72) dX1_like_72 (w5 k (by omega)) rfl ?_
            refine r_aload_n (pc := 75) dX1_like_75 rfl ?_
            refine gX1_164 (pc := 76) dX1_like_76 hA5 rfl ?_
            refine r_icmp_ne (pc := 79) (tgt := 86) dX1_like_79 (by decide) (by omega) (by omega) (fun c79 => ?_) (fun c79 => ?_)
            · refine r_iconst (pc := 86) dX1_like_86 ?_
              refine go_cz (w := bZ (likP r a k)) (bZ_f (fun q => by have q1 := q.1; have q2 := q.2.1; have q3 := q.2.2; omega)).symm ?_
              refine r_callV (pc := 87) (kb' := 0) dX1_like_87 kJ14_set q2068 (t_J14_set (p := (fun x => likP r a x) k) hB (by decide) (by omega) (bs_lt k)) hB1 rfl (Nat.le_refl _) (Nat.le_of_ble_eq_true rfl) rfl rfl (Nat.le_of_ble_eq_true rfl) (fun _ _ q => q.elim) (fun _ h hq => ?_)
              refine go_jN hq (fun hq2 => ?_)
              obtain ⟨hB, hF2⟩ := hq2
              replace hF := hF.tr (hF2.wk (pQ_10 (by decide)))
              have hb := hF.get hb9 pQ_2
              have hX := hX9.q hF
              have hX2 := hX
              obtain ⟨w1, w2, w3, w4, w5, w6, w7, w8⟩ := hX2
              obtain ⟨ar1, w2s⟩ := w2.size
              refine r_iinc (pc := 90) (L' := [_, _, _, _, _, _]) dX1_like_90 rfl rfl ?_
              refine r_goto (pc := 93) (tgt := 24) dX1_like_93 (by decide) ?_
              refine goL (L' := [some (.ref o), some (.int (iZ a)), some (.ref (E a.toNat)), some (.ref w), some (.int (iZ (k + 1 : Nat))), none]) ⟨rfl, rfl, rfl, rfl, rfl, trivial⟩ ?_
              exact ih24 (k + 1) h (by omega) hB hF (by omega)
            · refine r_iconst (pc := 82) dX1_like_82 ?_
              refine go_cz (w := bZ (likP r a k)) (bZ_t ⟨by omega, by omega, by omega⟩).symm ?_
              refine r_goto (pc := 83) (tgt := 87) dX1_like_83 (by decide) ?_
              refine r_callV (pc := 87) (kb' := 0) dX1_like_87 kJ14_set q2068 (t_J14_set (p := (fun x => likP r a x) k) hB (by decide) (by omega) (bs_lt k)) hB1 rfl (Nat.le_refl _) (Nat.le_of_ble_eq_true rfl) rfl rfl (Nat.le_of_ble_eq_true rfl) (fun _ _ q => q.elim) (fun _ h hq => ?_)
              refine go_jN hq (fun hq2 => ?_)
              obtain ⟨hB, hF2⟩ := hq2
              replace hF := hF.tr (hF2.wk (pQ_10 (by decide)))
              have hb := hF.get hb9 pQ_2
              have hX := hX9.q hF
              have hX2 := hX
              obtain ⟨w1, w2, w3, w4, w5, w6, w7, w8⟩ := hX2
              obtain ⟨ar1, w2s⟩ := w2.size
              refine r_iinc (pc := 90) (L' := [_, _, _, _, _, _]) dX1_like_90 rfl rfl ?_
              refine r_goto (pc := 93) (tgt := 24) dX1_like_93 (by decide) ?_
              refine goL (L' := [some (.ref o), some (.int (iZ a)), some (.ref (E a.toNat)), some (.ref w), some (.int (iZ (k + 1 : Nat))), none]) ⟨rfl, rfl, rfl, rfl, rfl, trivial⟩ ?_
              exact ih24 (k + 1) h (by omega) hB hF (by omega)
  exact loop24 _ 0 _ (by omega) hB hF (Nat.lt_succ_self _)
theorem t_X1_wouldBeLaw {G : Gl} {h9 : Hp} {o s T : Nat} {v1 v2 v3 v4 v5 v6 v7 : Value} {r : Row} {al cl sl : Nat} {m1 m2 m3 : Int32} {n1 n2 E F : Nat → Nat} (hb9 : h9 o = some ((2, 0), ob 0 [.ref s, v1, v2, v3, v4, v5, v6, v7])) (hX9 : SWx G T s r al cl sl m1 m2 m3 n1 n2 E F h9) (hI : RI r) {x9 : Int} (hx9 : InR x9) : Ct G 8 100 yX1_wouldBeLaw (Cond.code yX1_wouldBeLaw cX1_wouldBeLaw 6 (some .int)) [.ref o, .int (iZ x9)] h9 (qQ (zWla r x9) (kHt x9) (Fr pQ h9)) (qX (kHt x9) eIAE "" (Fr pQ h9)) := by
  have hF : Fr pQ h9 h9 := Fr.rf
  have hb := hb9
  have hX := hX9
  have b := hI.1
  have hX2 := hX
  obtain ⟨w1, w2, w3, w4, w5, w6, w7, w8⟩ := hX2
  obtain ⟨ar1, w2s⟩ := w2.size
  have hp := PW.nil (h := h9)
  refine Ct.of (own := "CharterKiln") (nm := "wouldBeLaw") (by decide +kernel) rfl rfl (L := [some (.ref o), some (.int (iZ x9)), none, none, none, none]) rfl (Nat.le_of_ble_eq_true rfl) rfl ?_
  refine r_iload_n (pc := 0) dX1_wouldBeLaw_0 rfl ?_
  refine r_callS (pc := 1) (kb' := 93) dX1_wouldBeLaw_1 kX1_checkHeat q2040 (t_X1_checkHeat (by omega)) (Nat.le_of_ble_eq_true rfl) (Nat.le_of_ble_eq_true rfl) rfl rfl (Nat.le_of_ble_eq_true rfl) (fun E h7 hx => x_out rfl ⟨Or.inl ⟨hx.1, kHt_1 hx.2.1⟩, by rw [hx.2.2]; exact hF⟩) (fun _ h hq => ?_)
  refine go_jN hq (fun hq2 => ?_)
  obtain ⟨e9, hpx⟩ := hq2
  replace e9 := e9.symm
  subst e9
  refine r_new (pc := 4) (ci := 16) (T := TJ14) (N := 3) ((3, 10)) [.null, .int 0, .int 0] (kb' := 89) dX1_wouldBeLaw_4 rfl q2065 q1586 q124 (by intro j hj; revert j; decide +kernel) (Nat.le_of_ble_eq_true rfl) (fun w hw zw => ?_)
  refine go_pw (hp.new hw _) (fun h hp => ?_)
  have hwn := hw
  refine r_dup (pc := 7) dX1_wouldBeLaw_7 rfl ?_
  refine r_bipush (pc := 8) dX1_wouldBeLaw_8 (by decide) ?_
  refine r_callI (pc := 10) (kb' := 87) dX1_wouldBeLaw_10 kJ14_init q2066 (t_J14_init (n := 12) (hp.at 0 rfl) (by decide) (by omega)) (Nat.le_of_ble_eq_true rfl) (Nat.le_of_ble_eq_true rfl) rfl rfl (Nat.le_of_ble_eq_true rfl) (fun _ _ q => q.elim) (fun _ h hq => ?_)
  refine go_jN hq (fun hq2 => ?_)
  obtain ⟨hB, hF2⟩ := hq2
  have hF := (hp.fr (P := pQ) ⟨Or.inl hwn, trivial⟩).tr (hF2.wk (pQ_10 (by decide)))
  have hb := hF.get hb9 pQ_2
  have hX := hX9.q hF
  have hX2 := hX
  obtain ⟨w1, w2, w3, w4, w5, w6, w7, w8⟩ := hX2
  obtain ⟨ar1, w2s⟩ := w2.size
  refine r_astore_n (pc := 13) (L' := [_, _, _, _, _, _]) dX1_wouldBeLaw_13 rfl ?_
  refine r_iconst (pc := 14) dX1_wouldBeLaw_14 ?_
  refine r_istore_n (pc := 15) (L' := [_, _, _, _, _, _]) dX1_wouldBeLaw_15 rfl ?_
  have loop16 : ∀ (k16 : Nat) (k : Nat) (h : Hp), (k ≤ (r 0).toNat) → (BS (3, 10) w (bs (fun a => stdP r a x9) k) h) → (Fr pQ h9 h) → (r 0).toNat - k < k16 → Go G "CharterKiln" cX1_wouldBeLaw (6, some .int, "wouldBeLaw", []) 8 100 (qQ (zWla r x9) (kHt x9) (Fr pQ h9)) ((qX (kHt x9) eIAE "" (Fr pQ h9))) (7 * ((r 0).toNat - k)) h 16 [some (.ref o), some (.int (iZ x9)), some (.ref w), some (.int (iZ k)), none, none] [] := by
    intro k16
    induction k16 with
    | zero => intro k h hk hB hF hk; omega
    | succ k16 ih16 =>
      intro k h hk hB hF hk16
      have hb := hF.get hb9 pQ_2
      have hX := hX9.q hF
      have hX2 := hX
      obtain ⟨w1, w2, w3, w4, w5, w6, w7, w8⟩ := hX2
      obtain ⟨ar1, w2s⟩ := w2.size
      have hB0 := hB
      obtain ⟨bw, bf, bz, hB1, hB2⟩ := hB0
      refine r_iload_n (pc := 16) dX1_wouldBeLaw_16 rfl ?_
      refine r_aload_n (pc := 17) dX1_wouldBeLaw_17 rfl ?_
      refine gX1_10 (pc := 18) dX1_wouldBeLaw_18 hb rfl ?_
      refine gX1_95 (pc := 21) dX1_wouldBeLaw_21 w1 rfl ?_
      refine r_callV (pc := 24) (kb' := 7 * ((r 0).toNat - k)) dX1_wouldBeLaw_24 kJ2_size q1512 (t_J2_size w2s) w2s rfl (Nat.le_refl _) (Nat.le_of_ble_eq_true rfl) rfl rfl (Nat.le_of_ble_eq_true rfl) (fun _ _ q => q.elim) (fun _ _ hq => ?_)
      refine go_jE hq ?_
      refine go_cz (w := r 0) (by omega) ?_
      refine r_icmp_ge (pc := 27) (tgt := 99) dX1_wouldBeLaw_27 (by decide) (by omega) (by omega) (fun c27 => ?_) (fun c27 => ?_)
      · refine r_aload_n (pc := 99) dX1_wouldBeLaw_99 rfl ?_
        refine r_callS (pc := 100) (kb' := 7 * ((r 0).toNat - k)) dX1_wouldBeLaw_100 kX1_bits q2069 (t_X1_bits hB (by omega)) (Nat.le_refl _) (Nat.le_of_ble_eq_true rfl) rfl rfl (Nat.le_of_ble_eq_true rfl) (fun _ _ q => q.elim) (fun _ _ hq => ?_)
        refine go_jE hq ?_
        refine go_ci (z := btZ (fun a => stdP r a x9) (r 0)) (by rw [← btZ_e, show k = (r 0).toNat by omega]) ?_
        exact r_iret (pc := 103) dX1_wouldBeLaw_103 rfl rfl ⟨congrArg (fun q : Int => some (Value.int (iZ q))) (by unfold zWla; rw [if_pos (kHt_0 hpx)]), kHt_0 hpx, hF⟩
      · refine r_aload_n (pc := 30) dX1_wouldBeLaw_30 rfl ?_
        refine r_iload_n (pc := 31) dX1_wouldBeLaw_31 rfl ?_
        refine r_callV (pc := 32) (kb' := 7 * ((r 0).toNat - k)) dX1_wouldBeLaw_32 kX1_articleAt q1749 (t_X1_articleAt hb hX hI (by omega)) hb rfl (Nat.le_refl _) (Nat.le_of_ble_eq_true rfl) rfl rfl (Nat.le_of_ble_eq_true rfl) (fun _ _ q => q.elim) (fun _ _ hq => ?_)
        refine go_jE hq ?_
        refine go_cv (w := .ref (E k)) (by first | rfl | exact congrArg (fun q => Value.ref (E q)) (by omega)) ?_
        have ho := hI.2.1 ((k : Nat) : Int) (by omega) (by omega)
        have ho2 := ho
        unfold artOk at ho2
        refine r_callV (pc := 35) (kb' := 7 * ((r 0).toNat - k) - 7) dX1_wouldBeLaw_35 kX5_copy q2172 (t_X5_copy (w5 k (by omega)) ho (3, 13) (by decide)) (w5 k (by omega)) rfl (by omega) (Nat.le_of_ble_eq_true rfl) rfl rfl (Nat.le_of_ble_eq_true rfl) (fun _ _ q => q.elim) (fun _ h hq => ?_)
        refine go_jX hq (fun x hx2 => ?_)
        obtain ⟨hxn, e9⟩ := hx2
        subst e9
        replace hF := hF.tr (Fr.nw (x := ((3, 13), aC r k)) hxn)
        replace hB := hB.fr (P := pN) (Fr.nw (x := ((3, 13), aC r k)) hxn) (fun q => q)
        have hx5 := up_s (h := h) (a := x) (x := ((3, 13), aC r k))
        generalize up h x ((3, 13), aC r k) = h at hF hB hx5 ⊢
        refine r_astore (pc := 38) (L' := [_, _, _, _, _, _]) dX1_wouldBeLaw_38 rfl ?_
        refine r_aload (pc := 40) dX1_wouldBeLaw_40 rfl ?_
        refine r_callV (pc := 42) (kb' := 7 * ((r 0).toNat - k) - 7) dX1_wouldBeLaw_42 kX5_isLaw q1206 (t_X5_isLaw hx5 (by omega)) hx5 rfl (Nat.le_refl _) (Nat.le_of_ble_eq_true rfl) rfl rfl (Nat.le_of_ble_eq_true rfl) (fun _ _ q => q.elim) (fun _ _ hq => ?_)
        refine go_jE hq ?_
        refine r_ifB_ne (pc := 45) (tgt := 61) dX1_wouldBeLaw_45 (by decide) (fun c45 => ?_) (fun c45 => ?_)
        · refine r_iconst (pc := 61) dX1_wouldBeLaw_61 ?_
          refine r_istore (pc := 62) (L' := [_, _, _, _, _, _]) dX1_wouldBeLaw_62 rfl ?_
          refine r_aload (pc := 64) dX1_wouldBeLaw_64 rfl ?_
          refine r_iload_n (pc := 66) dX1_wouldBeLaw_66 rfl ?_
          refine r_callV (pc := 67) (kb' := 7 * ((r 0).toNat - k) - 7) dX1_wouldBeLaw_67 kX5_isIn q2173 (t_X5_isIn hx5 ho hpx (by decide)) hx5 rfl (Nat.le_refl _) (Nat.le_of_ble_eq_true rfl) rfl rfl (Nat.le_of_ble_eq_true rfl) (fun _ _ q => q.elim) (fun _ h hq => ?_)
          refine go_jN hq (fun e9 => ?_)
          subst e9
          replace hF := hF.tr (Fr.upd (o' := iC r k x9) hx5 ⟨rfl, by decide⟩)
          replace hB := hB.fr (P := fun t => t = (3, 13)) (Fr.upd (o' := iC r k x9) hx5 rfl) (by decide)
          replace hx5 := up_s (h := h) (a := x) (x := ((3, 13), iC r k x9))
          generalize up h x ((3, 13), iC r k x9) = h at hF hB hx5 ⊢
          have hB0 := hB
          obtain ⟨bw, bf, bz, hB1, hB2⟩ := hB0
          refine r_aload_n (pc := 70) dX1_wouldBeLaw_70 rfl ?_
          refine r_iload_n (pc := 71) dX1_wouldBeLaw_71 rfl ?_
          refine r_iload (pc := 72) dX1_wouldBeLaw_72 rfl ?_
          refine r_if_eq (pc := 74) (tgt := 89) dX1_wouldBeLaw_74 (by decide) (by decide) (fun _ => ?_) (fun q => absurd (by decide) q)
          refine r_iconst (pc := 89) dX1_wouldBeLaw_89 ?_
          refine go_cz (w := bZ (stdP r k x9)) (bZ_f (fun q => by first | exact absurd (std_can.mpr q) (by assumption) | (have q1 := q.1; have q2 := q.2.1; omega))).symm ?_
          refine r_callV (pc := 90) (kb' := 7 * ((r 0).toNat - k) - 7) dX1_wouldBeLaw_90 kJ14_set q2068 (t_J14_set (p := (fun a => stdP r a x9) k) hB (by decide) (by omega) (bs_lt k)) hB1 rfl (Nat.le_refl _) (Nat.le_of_ble_eq_true rfl) rfl rfl (Nat.le_of_ble_eq_true rfl) (fun _ _ q => q.elim) (fun _ h hq => ?_)
          refine go_jN hq (fun hq2 => ?_)
          obtain ⟨hB, hF2⟩ := hq2
          replace hF := hF.tr (hF2.wk (pQ_10 (by decide)))
          have hb := hF.get hb9 pQ_2
          have hX := hX9.q hF
          have hX2 := hX
          obtain ⟨w1, w2, w3, w4, w5, w6, w7, w8⟩ := hX2
          obtain ⟨ar1, w2s⟩ := w2.size
          refine r_iinc (pc := 93) (L' := [_, _, _, _, _, _]) dX1_wouldBeLaw_93 rfl rfl ?_
          refine r_goto (pc := 96) (tgt := 16) dX1_wouldBeLaw_96 (by decide) ?_
          refine goL (L' := [some (.ref o), some (.int (iZ x9)), some (.ref w), some (.int (iZ (k + 1 : Nat))), none, none]) ⟨rfl, rfl, rfl, rfl, trivial⟩ ?_
          refine go_kb (kb' := 7 * ((r 0).toNat - (k + 1))) (by omega) ?_
          exact ih16 (k + 1) h (by omega) hB hF (by omega)
        · refine r_aload (pc := 48) dX1_wouldBeLaw_48 rfl ?_
          refine r_iload_n (pc := 50) dX1_wouldBeLaw_50 rfl ?_
          refine r_callV (pc := 51) (kb' := 7 * ((r 0).toNat - k) - 7) dX1_wouldBeLaw_51 kX5_burstsBy q2067 (t_X5_burstsBy hx5 ho hpx) hx5 rfl (Nat.le_refl _) (Nat.le_of_ble_eq_true rfl) rfl rfl (Nat.le_of_ble_eq_true rfl) (fun _ _ q => q.elim) (fun _ _ hq => ?_)
          refine go_jE hq ?_
          refine r_ifB_ne (pc := 54) (tgt := 61) dX1_wouldBeLaw_54 (by decide) (fun c54 => ?_) (fun c54 => ?_)
          · refine r_iconst (pc := 61) dX1_wouldBeLaw_61 ?_
            refine r_istore (pc := 62) (L' := [_, _, _, _, _, _]) dX1_wouldBeLaw_62 rfl ?_
            refine r_aload (pc := 64) dX1_wouldBeLaw_64 rfl ?_
            refine r_iload_n (pc := 66) dX1_wouldBeLaw_66 rfl ?_
            refine r_callV (pc := 67) (kb' := 7 * ((r 0).toNat - k) - 7) dX1_wouldBeLaw_67 kX5_isIn q2173 (t_X5_isIn hx5 ho hpx (by decide)) hx5 rfl (Nat.le_refl _) (Nat.le_of_ble_eq_true rfl) rfl rfl (Nat.le_of_ble_eq_true rfl) (fun _ _ q => q.elim) (fun _ h hq => ?_)
            refine go_jN hq (fun e9 => ?_)
            subst e9
            replace hF := hF.tr (Fr.upd (o' := iC r k x9) hx5 ⟨rfl, by decide⟩)
            replace hB := hB.fr (P := fun t => t = (3, 13)) (Fr.upd (o' := iC r k x9) hx5 rfl) (by decide)
            replace hx5 := up_s (h := h) (a := x) (x := ((3, 13), iC r k x9))
            generalize up h x ((3, 13), iC r k x9) = h at hF hB hx5 ⊢
            have hB0 := hB
            obtain ⟨bw, bf, bz, hB1, hB2⟩ := hB0
            refine r_aload_n (pc := 70) dX1_wouldBeLaw_70 rfl ?_
            refine r_iload_n (pc := 71) dX1_wouldBeLaw_71 rfl ?_
            refine r_iload (pc := 72) dX1_wouldBeLaw_72 rfl ?_
            refine r_if_eq (pc := 74) (tgt := 89) dX1_wouldBeLaw_74 (by decide) (by decide) (fun _ => ?_) (fun q => absurd (by decide) q)
            refine r_iconst (pc := 89) dX1_wouldBeLaw_89 ?_
            refine go_cz (w := bZ (stdP r k x9)) (bZ_f (fun q => by first | exact absurd (std_can.mpr q) (by assumption) | (have q1 := q.1; have q2 := q.2.1; omega))).symm ?_
            refine r_callV (pc := 90) (kb' := 7 * ((r 0).toNat - k) - 7) dX1_wouldBeLaw_90 kJ14_set q2068 (t_J14_set (p := (fun a => stdP r a x9) k) hB (by decide) (by omega) (bs_lt k)) hB1 rfl (Nat.le_refl _) (Nat.le_of_ble_eq_true rfl) rfl rfl (Nat.le_of_ble_eq_true rfl) (fun _ _ q => q.elim) (fun _ h hq => ?_)
            refine go_jN hq (fun hq2 => ?_)
            obtain ⟨hB, hF2⟩ := hq2
            replace hF := hF.tr (hF2.wk (pQ_10 (by decide)))
            have hb := hF.get hb9 pQ_2
            have hX := hX9.q hF
            have hX2 := hX
            obtain ⟨w1, w2, w3, w4, w5, w6, w7, w8⟩ := hX2
            obtain ⟨ar1, w2s⟩ := w2.size
            refine r_iinc (pc := 93) (L' := [_, _, _, _, _, _]) dX1_wouldBeLaw_93 rfl rfl ?_
            refine r_goto (pc := 96) (tgt := 16) dX1_wouldBeLaw_96 (by decide) ?_
            refine goL (L' := [some (.ref o), some (.int (iZ x9)), some (.ref w), some (.int (iZ (k + 1 : Nat))), none, none]) ⟨rfl, rfl, rfl, rfl, trivial⟩ ?_
            refine go_kb (kb' := 7 * ((r 0).toNat - (k + 1))) (by omega) ?_
            exact ih16 (k + 1) h (by omega) hB hF (by omega)
          · refine r_iconst (pc := 57) dX1_wouldBeLaw_57 ?_
            refine r_goto (pc := 58) (tgt := 62) dX1_wouldBeLaw_58 (by decide) ?_
            refine r_istore (pc := 62) (L' := [_, _, _, _, _, _]) dX1_wouldBeLaw_62 rfl ?_
            refine r_aload (pc := 64) dX1_wouldBeLaw_64 rfl ?_
            refine r_iload_n (pc := 66) dX1_wouldBeLaw_66 rfl ?_
            refine r_callV (pc := 67) (kb' := 7 * ((r 0).toNat - k) - 7) dX1_wouldBeLaw_67 kX5_isIn q2173 (t_X5_isIn hx5 ho hpx (by decide)) hx5 rfl (Nat.le_refl _) (Nat.le_of_ble_eq_true rfl) rfl rfl (Nat.le_of_ble_eq_true rfl) (fun _ _ q => q.elim) (fun _ h hq => ?_)
            refine go_jN hq (fun e9 => ?_)
            subst e9
            replace hF := hF.tr (Fr.upd (o' := iC r k x9) hx5 ⟨rfl, by decide⟩)
            replace hB := hB.fr (P := fun t => t = (3, 13)) (Fr.upd (o' := iC r k x9) hx5 rfl) (by decide)
            replace hx5 := up_s (h := h) (a := x) (x := ((3, 13), iC r k x9))
            generalize up h x ((3, 13), iC r k x9) = h at hF hB hx5 ⊢
            have hB0 := hB
            obtain ⟨bw, bf, bz, hB1, hB2⟩ := hB0
            refine r_aload_n (pc := 70) dX1_wouldBeLaw_70 rfl ?_
            refine r_iload_n (pc := 71) dX1_wouldBeLaw_71 rfl ?_
            refine r_iload (pc := 72) dX1_wouldBeLaw_72 rfl ?_
            refine r_if_eq (pc := 74) (tgt := 89) dX1_wouldBeLaw_74 (by decide) (by decide) (fun q => absurd q (by decide)) (fun _ => ?_)
            refine r_aload (pc := 77) dX1_wouldBeLaw_77 rfl ?_
            refine r_callV (pc := 79) (kb' := 7 * ((r 0).toNat - k) - 7) dX1_wouldBeLaw_79 kX5_canBeLaw q2029 (t_X5_canBeLaw hx5 (by omega) (by split <;> omega) (by have := cr_in ho hpx; omega)) hx5 rfl (Nat.le_refl _) (Nat.le_of_ble_eq_true rfl) rfl rfl (Nat.le_of_ble_eq_true rfl) (fun _ _ q => q.elim) (fun _ _ hq => ?_)
            refine go_jE hq ?_
            refine r_ifB_eq (pc := 82) (tgt := 89) dX1_wouldBeLaw_82 (by decide) (fun c82 => ?_) (fun c82 => ?_)
            · refine r_iconst (pc := 89) dX1_wouldBeLaw_89 ?_
              refine go_cz (w := bZ (stdP r k x9)) (bZ_f (fun q => by first | exact absurd (std_can.mpr q) (by assumption) | (have q1 := q.1; have q2 := q.2.1; omega))).symm ?_
              refine r_callV (pc := 90) (kb' := 7 * ((r 0).toNat - k) - 7) dX1_wouldBeLaw_90 kJ14_set q2068 (t_J14_set (p := (fun a => stdP r a x9) k) hB (by decide) (by omega) (bs_lt k)) hB1 rfl (Nat.le_refl _) (Nat.le_of_ble_eq_true rfl) rfl rfl (Nat.le_of_ble_eq_true rfl) (fun _ _ q => q.elim) (fun _ h hq => ?_)
              refine go_jN hq (fun hq2 => ?_)
              obtain ⟨hB, hF2⟩ := hq2
              replace hF := hF.tr (hF2.wk (pQ_10 (by decide)))
              have hb := hF.get hb9 pQ_2
              have hX := hX9.q hF
              have hX2 := hX
              obtain ⟨w1, w2, w3, w4, w5, w6, w7, w8⟩ := hX2
              obtain ⟨ar1, w2s⟩ := w2.size
              refine r_iinc (pc := 93) (L' := [_, _, _, _, _, _]) dX1_wouldBeLaw_93 rfl rfl ?_
              refine r_goto (pc := 96) (tgt := 16) dX1_wouldBeLaw_96 (by decide) ?_
              refine goL (L' := [some (.ref o), some (.int (iZ x9)), some (.ref w), some (.int (iZ (k + 1 : Nat))), none, none]) ⟨rfl, rfl, rfl, rfl, trivial⟩ ?_
              refine go_kb (kb' := 7 * ((r 0).toNat - (k + 1))) (by omega) ?_
              exact ih16 (k + 1) h (by omega) hB hF (by omega)
            · refine r_iconst (pc := 85) dX1_wouldBeLaw_85 ?_
              refine go_cz (w := bZ (stdP r k x9)) (bZ_t (std_can.mp (by first | assumption | exact Classical.not_not.mp (by assumption)))).symm ?_
              refine r_goto (pc := 86) (tgt := 90) dX1_wouldBeLaw_86 (by decide) ?_
              refine r_callV (pc := 90) (kb' := 7 * ((r 0).toNat - k) - 7) dX1_wouldBeLaw_90 kJ14_set q2068 (t_J14_set (p := (fun a => stdP r a x9) k) hB (by decide) (by omega) (bs_lt k)) hB1 rfl (Nat.le_refl _) (Nat.le_of_ble_eq_true rfl) rfl rfl (Nat.le_of_ble_eq_true rfl) (fun _ _ q => q.elim) (fun _ h hq => ?_)
              refine go_jN hq (fun hq2 => ?_)
              obtain ⟨hB, hF2⟩ := hq2
              replace hF := hF.tr (hF2.wk (pQ_10 (by decide)))
              have hb := hF.get hb9 pQ_2
              have hX := hX9.q hF
              have hX2 := hX
              obtain ⟨w1, w2, w3, w4, w5, w6, w7, w8⟩ := hX2
              obtain ⟨ar1, w2s⟩ := w2.size
              refine r_iinc (pc := 93) (L' := [_, _, _, _, _, _]) dX1_wouldBeLaw_93 rfl rfl ?_
              refine r_goto (pc := 96) (tgt := 16) dX1_wouldBeLaw_96 (by decide) ?_
              refine goL (L' := [some (.ref o), some (.int (iZ x9)), some (.ref w), some (.int (iZ (k + 1 : Nat))), none, none]) ⟨rfl, rfl, rfl, rfl, trivial⟩ ?_
              refine go_kb (kb' := 7 * ((r 0).toNat - (k + 1))) (by omega) ?_
              exact ih16 (k + 1) h (by omega) hB hF (by omega)
  refine go_kb (kb' := 7 * ((r 0).toNat - 0)) (by omega) ?_
  exact loop16 _ 0 _ (by omega) hB hF (Nat.lt_succ_self _)
theorem t_X1_measure {G : Gl} {h : Hp} {q : Nat} {t : Tg} {r : Row} {a w : Int} (ha : h q = some (t, aC r a)) (hw : InR w) : Ct G 1 0 yX1_measure (Cond.code yX1_measure cX1_measure 2 (some .int)) [.ref q, .int (iZ w)] h (jE (.int (iZ (fA r a (wK w)))) h) noX := by
  refine Ct.of (own := "CharterKiln") (nm := "measure") (by decide +kernel) rfl rfl (L := [some (.ref q), some (.int (iZ w))]) rfl (Nat.le_of_ble_eq_true rfl) rfl ?_
  refine r_iload_n (pc := 0) dX1_measure_0 rfl ?_
  by_cases w1_0 : w = 0
  · refine r_tableIn (pc := 1) (off := 27) (tgt := 28) dX1_measure_1 (by omega) (by omega) (by omega) (by rw [w1_0]; rfl) (by decide) ?_
    refine r_aload_n (pc := 28) dX1_measure_28 rfl ?_
    refine gX1_189 (pc := 29) dX1_measure_29 ha rfl ?_
    exact r_iret (pc := 32) dX1_measure_32 rfl rfl ⟨congrArg (fun q : Int => some (Value.int (iZ q))) (congrArg (fA r a) (by unfold wK; (repeat' split) <;> omega)), rfl⟩
  by_cases w1_1 : w = 1
  · refine r_tableIn (pc := 1) (off := 32) (tgt := 33) dX1_measure_1 (by omega) (by omega) (by omega) (by rw [w1_1]; rfl) (by decide) ?_
    refine r_aload_n (pc := 33) dX1_measure_33 rfl ?_
    refine gX1_164 (pc := 34) dX1_measure_34 ha rfl ?_
    exact r_iret (pc := 37) dX1_measure_37 rfl rfl ⟨congrArg (fun q : Int => some (Value.int (iZ q))) (congrArg (fA r a) (by unfold wK; (repeat' split) <;> omega)), rfl⟩
  by_cases w1_2 : w = 2
  · refine r_tableIn (pc := 1) (off := 37) (tgt := 38) dX1_measure_1 (by omega) (by omega) (by omega) (by rw [w1_2]; rfl) (by decide) ?_
    refine r_aload_n (pc := 38) dX1_measure_38 rfl ?_
    refine gX1_193 (pc := 39) dX1_measure_39 ha rfl ?_
    exact r_iret (pc := 42) dX1_measure_42 rfl rfl ⟨congrArg (fun q : Int => some (Value.int (iZ q))) (congrArg (fA r a) (by unfold wK; (repeat' split) <;> omega)), rfl⟩
  refine r_tableOut (pc := 1) (tgt := 43) dX1_measure_1 (by omega) (by omega) (by decide) ?_
  refine r_aload_n (pc := 43) dX1_measure_43 rfl ?_
  refine gX1_224 (pc := 44) dX1_measure_44 ha rfl ?_
  exact r_iret (pc := 47) dX1_measure_47 rfl rfl ⟨congrArg (fun q : Int => some (Value.int (iZ q))) (congrArg (fA r a) (by unfold wK; (repeat' split) <;> omega)), rfl⟩
theorem t_X1_ranked {G : Gl} {h9 : Hp} {o s T : Nat} {v1 v2 v3 v4 v5 v6 v7 : Value} {r : Row} {al cl sl : Nat} {m1 m2 m3 : Int32} {n1 n2 E F : Nat → Nat} (hb9 : h9 o = some ((2, 0), ob 0 [.ref s, v1, v2, v3, v4, v5, v6, v7])) (hX9 : SWx G T s r al cl sl m1 m2 m3 n1 n2 E F h9) (hI : RI r) {w p : Int} (hw : InR w) (hp9 : InR p) (hN : ∀ j, InR (r j)) : Ct G 7 14 yX1_ranked (Cond.code yX1_ranked cX1_ranked 8 (some .int)) [.ref o, .int (iZ w), .int (iZ p)] h9 (qQ (zRan r w p) (kRan r w p) (Fr pQ h9)) (qX (kRan r w p) eIAE eNSE (Fr pQ h9)) := by
  have hF : Fr pQ h9 h9 := Fr.rf
  have hb := hb9
  have hX := hX9
  have b := hI.1
  have hX2 := hX
  obtain ⟨w1, w2, w3, w4, w5, w6, w7, w8⟩ := hX2
  obtain ⟨ar1, w2s⟩ := w2.size
  refine Ct.of (own := "CharterKiln") (nm := "ranked") (by decide +kernel) rfl rfl (L := [some (.ref o), some (.int (iZ w)), some (.int (iZ p)), none, none, none, none, none]) rfl (Nat.le_of_ble_eq_true rfl) rfl ?_
  refine r_iload_n (pc := 0) dX1_ranked_0 rfl ?_
  refine r_iconst (pc := 1) dX1_ranked_1 ?_
  refine r_iconst (pc := 2) dX1_ranked_2 ?_
  refine r_callS (pc := 3) (kb' := 14) dX1_ranked_3 kX1_isBetween q1525 (t_X1_isBetween (lo := 0) (hi := 3) (by omega) (by omega) (by omega)) (Nat.le_refl _) (Nat.le_of_ble_eq_true rfl) rfl rfl (Nat.le_of_ble_eq_true rfl) (fun _ _ q => q.elim) (fun _ _ hq => ?_)
  refine go_jE hq ?_
  refine r_callS (pc := 6) (kb' := 7) dX1_ranked_6 kX1_check q1964 (t_X1_check ) (Nat.le_of_ble_eq_true rfl) (Nat.le_of_ble_eq_true rfl) rfl rfl (Nat.le_of_ble_eq_true rfl) (fun E h7 hx => x_out rfl ⟨Or.inl ⟨hx.1, by unfold kRan; rw [if_pos hx.2.1]⟩, by rw [hx.2.2]; exact hF⟩) (fun _ h hq => ?_)
  refine go_jN hq (fun hq2 => ?_)
  obtain ⟨e9, hpw⟩ := hq2
  replace e9 := e9.symm
  subst e9
  refine r_iconst (pc := 9) dX1_ranked_9 ?_
  refine r_istore_n (pc := 10) (L' := [_, _, _, _, _, _, _, _]) dX1_ranked_10 rfl ?_
  have loop11 : ∀ (k11 : Nat) (i : Nat), (i ≤ (r 0).toNat) → (rkF r w p = fndZ (fun a => rkN r w a = p) i (r 0 - i).toNat) → (r 0).toNat - i < k11 → Go G "CharterKiln" cX1_ranked (8, some .int, "ranked", []) 7 14 (qQ (zRan r w p) (kRan r w p) (Fr pQ h9)) ((qX (kRan r w p) eIAE eNSE (Fr pQ h9))) 7 h9 11 [some (.ref o), some (.int (iZ w)), some (.int (iZ p)), some (.int (iZ i)), none, none, none, none] [] := by
    intro k11
    induction k11 with
    | zero => intro i hi hs hk; omega
    | succ k11 ih11 =>
      intro i hi hs hk11
      refine r_iload_n (pc := 11) dX1_ranked_11 rfl ?_
      refine r_aload_n (pc := 12) dX1_ranked_12 rfl ?_
      refine gX1_10 (pc := 13) dX1_ranked_13 hb rfl ?_
      refine gX1_95 (pc := 16) dX1_ranked_16 w1 rfl ?_
      refine r_callV (pc := 19) (kb' := 7) dX1_ranked_19 kJ2_size q1512 (t_J2_size w2s) w2s rfl (Nat.le_refl _) (Nat.le_of_ble_eq_true rfl) rfl rfl (Nat.le_of_ble_eq_true rfl) (fun _ _ q => q.elim) (fun _ _ hq => ?_)
      refine go_jE hq ?_
      refine go_cz (w := r 0) (by omega) ?_
      refine r_icmp_ge (pc := 22) (tgt := 119) dX1_ranked_22 (by decide) (by omega) (by omega) (fun c22 => ?_) (fun c22 => ?_)
      · exact r_thr (pc := 119) dX1_ranked_119 dX1_ranked_122 dX1_ranked_123 dX1_ranked_126 ftNSE q2020 q138 (atNSE (wokA q2021 rfl)) rfl rfl (by decide) (Nat.le_of_ble_eq_true rfl) (Nat.le_of_ble_eq_true rfl) (Nat.le_of_ble_eq_true rfl) ⟨Or.inr ⟨rfl, by unfold kRan; rw [if_neg (by omega), if_pos (by rw [hs, fnd_e (by omega)])]⟩, hF⟩
      · refine r_aload_n (pc := 25) dX1_ranked_25 rfl ?_
        refine r_iload_n (pc := 26) dX1_ranked_26 rfl ?_
        refine r_callV (pc := 27) (kb' := 7) dX1_ranked_27 kX1_articleAt q1749 (t_X1_articleAt hb hX hI (by omega)) hb rfl (Nat.le_refl _) (Nat.le_of_ble_eq_true rfl) rfl rfl (Nat.le_of_ble_eq_true rfl) (fun _ _ q => q.elim) (fun _ _ hq => ?_)
        refine go_jE hq ?_
        refine go_cv (w := .ref (E i)) rfl ?_
        refine r_iload_n (pc := 30) dX1_ranked_30 rfl ?_
        refine r_callS (pc := 31) (kb' := 7) dX1_ranked_31 kX1_measure q2137 (t_X1_measure (w5 i (by omega)) hw) (Nat.le_refl _) (Nat.le_of_ble_eq_true rfl) rfl rfl (Nat.le_of_ble_eq_true rfl) (fun _ _ q => q.elim) (fun _ _ hq => ?_)
        refine go_jE hq ?_
        refine r_istore (pc := 34) (L' := [_, _, _, _, _, _, _, _]) dX1_ranked_34 rfl ?_
        refine r_iconst (pc := 36) dX1_ranked_36 ?_
        refine r_istore (pc := 37) (L' := [_, _, _, _, _, _, _, _]) dX1_ranked_37 rfl ?_
        refine r_iconst (pc := 39) dX1_ranked_39 ?_
        refine r_istore (pc := 40) (L' := [_, _, _, _, _, _, _, _]) dX1_ranked_40 rfl ?_
        have loop42 : ∀ (k42 : Nat) (j : Nat), (j ≤ (r 0).toNat) → (r 0).toNat - j < k42 → Go G "CharterKiln" cX1_ranked (8, some .int, "ranked", []) 7 14 (qQ (zRan r w p) (kRan r w p) (Fr pQ h9)) ((qX (kRan r w p) eIAE eNSE (Fr pQ h9))) 7 h9 42 [some (.ref o), some (.int (iZ w)), some (.int (iZ p)), some (.int (iZ i)), some (.int (iZ (fA r i (wK w)))), some (.int (iZ (sumZ (fun o => bZ (rkP r w i o)) j))), some (.int (iZ j)), none] [] := by
          intro k42
          induction k42 with
          | zero => intro j hj hk; omega
          | succ k42 ih42 =>
            intro j hj hk42
            have hni : InR (fA r i (wK w)) := hN _
            have hnj : InR (fA r j (wK w)) := hN _
            have hsb := sumI_bd (f := fun o => bZ (rkP r w i o)) (c := 1) (fun a => by rcases bZ_01 (rkP r w i a) with e | e <;> rw [e] <;> decide) j
            refine r_iload (pc := 42) dX1_ranked_42 rfl ?_
            refine r_aload_n (pc := 44) dX1_ranked_44 rfl ?_
            refine gX1_10 (pc := 45) dX1_ranked_45 hb rfl ?_
            refine gX1_95 (pc := 48) dX1_ranked_48 w1 rfl ?_
            refine r_callV (pc := 51) (kb' := 7) dX1_ranked_51 kJ2_size q1512 (t_J2_size w2s) w2s rfl (Nat.le_refl _) (Nat.le_of_ble_eq_true rfl) rfl rfl (Nat.le_of_ble_eq_true rfl) (fun _ _ q => q.elim) (fun _ _ hq => ?_)
            refine go_jE hq ?_
            refine go_cz (w := r 0) (by omega) ?_
            refine r_icmp_ge (pc := 54) (tgt := 105) dX1_ranked_54 (by decide) (by omega) (by omega) (fun c54 => ?_) (fun c54 => ?_)
            · have hjn : rkN r w i = sumZ (fun o => bZ (rkP r w i o)) j := by rw [show j = (r 0).toNat by omega]; rfl
              refine r_iload (pc := 105) dX1_ranked_105 rfl ?_
              refine r_iload_n (pc := 107) dX1_ranked_107 rfl ?_
              refine r_icmp_ne (pc := 108) (tgt := 113) dX1_ranked_108 (by decide) (by omega) (by omega) (fun c108 => ?_) (fun c108 => ?_)
              · refine r_iinc (pc := 113) (L' := [_, _, _, _, _, _, _, _]) dX1_ranked_113 rfl rfl ?_
                refine r_goto (pc := 116) (tgt := 11) dX1_ranked_116 (by decide) ?_
                refine goL (L' := [some (.ref o), some (.int (iZ w)), some (.int (iZ p)), some (.int (iZ (i + 1 : Nat))), none, none, none, none]) ⟨rfl, rfl, rfl, rfl, trivial⟩ ?_
                exact ih11 (i + 1) (by omega) (by rw [hs, fnd_s (by omega), if_neg (by rw [hjn]; assumption)]; rfl) (by omega)
              · have hfz : rkF r w p = i := by rw [hs, fnd_s (by omega), if_pos (by rw [hjn]; omega)]
                refine r_iload_n (pc := 111) dX1_ranked_111 rfl ?_
                exact r_iret (pc := 112) dX1_ranked_112 rfl rfl ⟨congrArg (fun q : Int => some (Value.int (iZ q))) (by unfold zRan; rw [if_neg (by omega), if_neg (by rw [hfz]; omega), hfz]), by unfold kRan; rw [if_neg (by omega), if_neg (by rw [hfz]; omega)], hF⟩
            · refine r_aload_n (pc := 57) dX1_ranked_57 rfl ?_
              refine r_iload (pc := 58) dX1_ranked_58 rfl ?_
              refine r_callV (pc := 60) (kb' := 7) dX1_ranked_60 kX1_articleAt q1749 (t_X1_articleAt hb hX hI (by omega)) hb rfl (Nat.le_refl _) (Nat.le_of_ble_eq_true rfl) rfl rfl (Nat.le_of_ble_eq_true rfl) (fun _ _ q => q.elim) (fun _ _ hq => ?_)
              refine go_jE hq ?_
              refine go_cv (w := .ref (E j)) rfl ?_
              refine r_iload_n (pc := 63) dX1_ranked_63 rfl ?_
              refine r_callS (pc := 64) (kb' := 7) dX1_ranked_64 kX1_measure q2137 (t_X1_measure (w5 j (by omega)) hw) (Nat.le_refl _) (Nat.le_of_ble_eq_true rfl) rfl rfl (Nat.le_of_ble_eq_true rfl) (fun _ _ q => q.elim) (fun _ _ hq => ?_)
              refine go_jE hq ?_
              refine r_istore (pc := 67) (L' := [_, _, _, _, _, _, _, _]) dX1_ranked_67 rfl ?_
              refine r_iload (pc := 69) dX1_ranked_69 rfl ?_
              refine r_iload (pc := 71) dX1_ranked_71 rfl ?_
              refine r_iload (pc := 73) dX1_ranked_73 rfl ?_
              refine r_icmp_gt (pc := 75) (tgt := 91) dX1_ranked_75 (by decide) (by omega) (by omega) (fun c75 => ?_) (fun c75 => ?_)
              · refine r_iconst (pc := 91) dX1_ranked_91 ?_
                refine go_cz (w := bZ (rkP r w i j)) (bZ_t (by omega)).symm ?_
                refine r_goto (pc := 92) (tgt := 96) dX1_ranked_92 (by decide) ?_
                refine r_iadd (pc := 96) dX1_ranked_96 ?_
                refine go_cz (w := sumZ (fun o => bZ (rkP r w i o)) (j + 1)) rfl ?_
                refine r_istore (pc := 97) (L' := [_, _, _, _, _, _, _, _]) dX1_ranked_97 rfl ?_
                refine r_iinc (pc := 99) (L' := [_, _, _, _, _, _, _, _]) dX1_ranked_99 rfl rfl ?_
                refine r_goto (pc := 102) (tgt := 42) dX1_ranked_102 (by decide) ?_
                refine goL (L' := [some (.ref o), some (.int (iZ w)), some (.int (iZ p)), some (.int (iZ i)), some (.int (iZ (fA r i (wK w)))), some (.int (iZ (sumZ (fun o => bZ (rkP r w i o)) (j + 1)))), some (.int (iZ (j + 1 : Nat))), none]) ⟨rfl, rfl, rfl, rfl, rfl, rfl, rfl, trivial⟩ ?_
                exact ih42 (j + 1) (by omega) (by omega)
              · refine r_iload (pc := 78) dX1_ranked_78 rfl ?_
                refine r_iload (pc := 80) dX1_ranked_80 rfl ?_
                refine r_icmp_ne (pc := 82) (tgt := 95) dX1_ranked_82 (by decide) (by omega) (by omega) (fun c82 => ?_) (fun c82 => ?_)
                · refine r_iconst (pc := 95) dX1_ranked_95 ?_
                  refine go_cz (w := bZ (rkP r w i j)) (bZ_f (by omega)).symm ?_
                  refine r_iadd (pc := 96) dX1_ranked_96 ?_
                  refine go_cz (w := sumZ (fun o => bZ (rkP r w i o)) (j + 1)) rfl ?_
                  refine r_istore (pc := 97) (L' := [_, _, _, _, _, _, _, _]) dX1_ranked_97 rfl ?_
                  refine r_iinc (pc := 99) (L' := [_, _, _, _, _, _, _, _]) dX1_ranked_99 rfl rfl ?_
                  refine r_goto (pc := 102) (tgt := 42) dX1_ranked_102 (by decide) ?_
                  refine goL (L' := [some (.ref o), some (.int (iZ w)), some (.int (iZ p)), some (.int (iZ i)), some (.int (iZ (fA r i (wK w)))), some (.int (iZ (sumZ (fun o => bZ (rkP r w i o)) (j + 1)))), some (.int (iZ (j + 1 : Nat))), none]) ⟨rfl, rfl, rfl, rfl, rfl, rfl, rfl, trivial⟩ ?_
                  exact ih42 (j + 1) (by omega) (by omega)
                · refine r_iload (pc := 85) dX1_ranked_85 rfl ?_
                  refine r_iload_n (pc := 87) dX1_ranked_87 rfl ?_
                  refine r_icmp_ge (pc := 88) (tgt := 95) dX1_ranked_88 (by decide) (by omega) (by omega) (fun c88 => ?_) (fun c88 => ?_)
                  · refine r_iconst (pc := 95) dX1_ranked_95 ?_
                    refine go_cz (w := bZ (rkP r w i j)) (bZ_f (by omega)).symm ?_
                    refine r_iadd (pc := 96) dX1_ranked_96 ?_
                    refine go_cz (w := sumZ (fun o => bZ (rkP r w i o)) (j + 1)) rfl ?_
                    refine r_istore (pc := 97) (L' := [_, _, _, _, _, _, _, _]) dX1_ranked_97 rfl ?_
                    refine r_iinc (pc := 99) (L' := [_, _, _, _, _, _, _, _]) dX1_ranked_99 rfl rfl ?_
                    refine r_goto (pc := 102) (tgt := 42) dX1_ranked_102 (by decide) ?_
                    refine goL (L' := [some (.ref o), some (.int (iZ w)), some (.int (iZ p)), some (.int (iZ i)), some (.int (iZ (fA r i (wK w)))), some (.int (iZ (sumZ (fun o => bZ (rkP r w i o)) (j + 1)))), some (.int (iZ (j + 1 : Nat))), none]) ⟨rfl, rfl, rfl, rfl, rfl, rfl, rfl, trivial⟩ ?_
                    exact ih42 (j + 1) (by omega) (by omega)
                  · refine r_iconst (pc := 91) dX1_ranked_91 ?_
                    refine go_cz (w := bZ (rkP r w i j)) (bZ_t (by omega)).symm ?_
                    refine r_goto (pc := 92) (tgt := 96) dX1_ranked_92 (by decide) ?_
                    refine r_iadd (pc := 96) dX1_ranked_96 ?_
                    refine go_cz (w := sumZ (fun o => bZ (rkP r w i o)) (j + 1)) rfl ?_
                    refine r_istore (pc := 97) (L' := [_, _, _, _, _, _, _, _]) dX1_ranked_97 rfl ?_
                    refine r_iinc (pc := 99) (L' := [_, _, _, _, _, _, _, _]) dX1_ranked_99 rfl rfl ?_
                    refine r_goto (pc := 102) (tgt := 42) dX1_ranked_102 (by decide) ?_
                    refine goL (L' := [some (.ref o), some (.int (iZ w)), some (.int (iZ p)), some (.int (iZ i)), some (.int (iZ (fA r i (wK w)))), some (.int (iZ (sumZ (fun o => bZ (rkP r w i o)) (j + 1)))), some (.int (iZ (j + 1 : Nat))), none]) ⟨rfl, rfl, rfl, rfl, rfl, rfl, rfl, trivial⟩ ?_
                    exact ih42 (j + 1) (by omega) (by omega)
        exact loop42 _ 0 (by omega) (Nat.lt_succ_self _)
  exact loop11 _ 0 (by omega) (by unfold rkF; congr 2; omega) (Nat.lt_succ_self _)
