set_option maxRecDepth 100000
theorem cuJ8_552_14 {G : Gl} : CUok G "java/lang/String" "java/lang/StringBuilder" "java/lang/AbstractStringBuilder" 552 ⟨"java/lang/AbstractStringBuilder", "getValue", "()[B"⟩ yJ6_getValue cJ6_getValue 1 (some (.array .byte)) 0 := cu_U q782 q784 q783 q786 q785 ⟨q783, q114, q786, ⟨by decide, by decide⟩, by decide +kernel, by decide⟩
theorem cuJ8_549_14 {G : Gl} : CUok G "java/lang/String" "java/lang/StringBuilder" "java/lang/AbstractStringBuilder" 549 ⟨"java/lang/AbstractStringBuilder", "length", "()I"⟩ yJ7_length cJ7_length 1 (some .int) 0 := cu_U q787 q789 q788 q794 q790 ⟨q791, q115, q792, ⟨by decide, by decide⟩, by decide +kernel, by decide⟩
theorem cuJ8_1047_14 {G : Gl} : CUok G "java/lang/String" "java/lang/StringBuilder" "java/lang/AbstractStringBuilder" 1047 ⟨"java/lang/AbstractStringBuilder", "isLatin1", "()Z"⟩ yJ6_isLatin1 cJ6_isLatin1 1 (some .boolean) 0 := cu_U q795 q671 q670 q673 q672 ⟨q670, q114, q673, ⟨by decide, by decide⟩, by decide +kernel, by decide⟩
/-! JDK, part 16: Strings made, compared -/
/-- all old cells but q are kept -/
def Kp (q : Nat) (h h' : Hp) : Prop := ∀ (b : Nat) (x : Tg × Cl), b ≠ q → h b = some x → h' b = some x
theorem Kp.pN {q : Nat} {x : Tg × Cl} {h h' : Hp} (hq : h q = none) (k : Kp q (up h q x) h') : Fr pN h h' := by
  intro b t o hb _
  have e : b ≠ q := ne_nw hb hq
  exact k b (t, o) e (by unfold up; rw [if_neg e]; exact hb)
theorem STh.in {t : Tg} {a n : Nat} {c : Nat → Int} {h : Hp} (hS : STh t a n c h) : ∃ x, h a = some (t, x) := by
  obtain ⟨v, f, hs, q1, _⟩ := hS
  exact ⟨_, q1⟩
theorem ST.same {t1 t2 t3 t4 : Tg} {a n m : Nat} {c d : Nat → Int} {h : Hp} (h1 : ST t1 t2 a n c h) (h2 : ST t3 t4 a m d h) : n = m ∧ ∀ i, i < n → c i = d i := by
  obtain ⟨v, f, hs, hz, q1, q2, q3, q4⟩ := h1
  obtain ⟨v2, f2, hs2, hz2, r1, r2, r3, r4⟩ := h2
  rw [q1] at r1
  simp only [ob, Option.some.injEq, Prod.mk.injEq, Sum.inl.injEq, Sum.inr.injEq, List.cons.injEq, Value.ref.injEq] at r1
  have e := r1.2.2.1
  subst e
  rw [q2] at r2
  simp only [aI, Option.some.injEq, Prod.mk.injEq, Sum.inl.injEq] at r2
  obtain ⟨_, _, e, e2⟩ := r2
  subst e
  subst e2
  exact ⟨rfl, fun i hi => by
    have s1 := q4 i hi
    have s2 := r4 i hi
    exact iZ_inj (by omega) (by omega) (s1.1.symm.trans s2.1)⟩
theorem bZ_and {p q : Prop} [Decidable p] [Decidable q] (hp : p) : bZ (p ∧ q) = bZ q := by unfold bZ; simp [hp]

theorem t_J8_init_2 {G : Gl} {h : Hp} {q : Nat} {tq : Tg} (h1 : h q = some (tq, ob 15 [.null, .int 0, .int 0, .int 0])) (htq : tq ≠ frz) {a n : Nat} {t : Tg} {c : Nat → Int} (hA : SB t a n c h) (ht : t ≠ frz)  : Ct G 4 101 yJ8_init_2 (Cond.code yJ8_init_2 cJ8_init_2 5 (none)) [.ref q, .ref a, .null] h (jN (fun h' => STh tq q n c h' ∧ Kp q h h')) noX := by
  have hAs := hA
  obtain ⟨cap, hA⟩ := hA
  have hA0 := hA
  obtain ⟨v, f, ml, q1, q2, q3, q4, q5⟩ := hA0
  have hp := PW.one h1
  refine Ct.of (own := "java/lang/String") (nm := "<init>") (by decide +kernel) rfl rfl (L := [some (.ref q), some (.ref a), some (.null), none, none]) rfl (Nat.le_of_ble_eq_true rfl) rfl ?_
  refine r_aload_n (pc := 0) dJ8_init_2_0 rfl ?_
  refine r_objInit (pc := 1) dJ8_init_2_1 q781 q169 q170 (by decide) (Nat.le_of_ble_eq_true rfl) ?_
  refine r_aload_n (pc := 4) dJ8_init_2_4 rfl ?_
  refine r_callG (pc := 5) (kb' := 101) dJ8_init_2_5 cuJ8_552_14 (t_J6_getValue q1) q1 rfl (Nat.le_refl _) (Nat.le_of_ble_eq_true rfl) rfl rfl (Nat.le_of_ble_eq_true rfl) (fun _ _ q => q.elim) (fun _ _ hq => ?_)
  refine go_jE hq ?_
  refine r_astore_n (pc := 8) (L' := [_, _, _, _, _]) dJ8_init_2_8 rfl ?_
  refine r_aload_n (pc := 9) dJ8_init_2_9 rfl ?_
  refine r_callG (pc := 10) (kb' := 101) dJ8_init_2_10 cuJ8_549_14 (t_J7_length hAs) q1 rfl (Nat.le_refl _) (Nat.le_of_ble_eq_true rfl) rfl rfl (Nat.le_of_ble_eq_true rfl) (fun _ _ q => q.elim) (fun _ _ hq => ?_)
  refine go_jE hq ?_
  refine r_istore (pc := 13) (L' := [_, _, _, _, _]) dJ8_init_2_13 rfl ?_
  refine r_aload_n (pc := 15) dJ8_init_2_15 rfl ?_
  refine r_callG (pc := 16) (kb' := 101) dJ8_init_2_16 cuJ8_1047_14 (t_J6_isLatin1 hA) q1 rfl (Nat.le_refl _) (Nat.le_of_ble_eq_true rfl) rfl rfl (Nat.le_of_ble_eq_true rfl) (fun _ _ q => q.elim) (fun _ _ hq => ?_)
  refine go_jE hq ?_
  refine r_if_eq (pc := 19) (tgt := 41) dJ8_init_2_19 (by decide) (by decide) (fun q => absurd q (by decide)) (fun _ => ?_)
  refine r_aload_n (pc := 22) dJ8_init_2_22 rfl ?_
  refine r_iconst (pc := 23) dJ8_init_2_23 ?_
  refine pJ8_15 (pc := 24) dJ8_init_2_24 rfl rfl (by decide) (by decide) (hp.at 0 rfl) htq (Nat.le_of_ble_eq_true rfl) ?_
  refine go_pw (hp.put 0 rfl) (fun h hp => ?_)
  refine r_aload_n (pc := 27) dJ8_init_2_27 rfl ?_
  refine r_aload_n (pc := 28) dJ8_init_2_28 rfl ?_
  refine r_iconst (pc := 29) dJ8_init_2_29 ?_
  refine r_iload (pc := 30) dJ8_init_2_30 rfl ?_
  refine r_callS (pc := 32) (kb' := 0) dJ8_init_2_32 kJ20_copyOfRange q796 (t_J20_copyOfRange (i := 0) (j := n) tq htq ((hp.ot ⟨ne_of h1 q2 (by intro e; simp [ob, aI] at e), trivial⟩).trans q2) (by omega) q5 (Or.inl ht)) (Nat.le_of_ble_eq_true rfl) (Nat.le_of_ble_eq_true rfl) rfl rfl (Nat.le_of_ble_eq_true rfl) (fun _ _ q => q.elim) (fun _ h hq => ?_)
  refine go_jX hq (fun w hw => ?_)
  obtain ⟨hw, g9, hg9, e9⟩ := hw
  have hw0 := (hp.ot ⟨ne_nw (hp.at 0 rfl) hw, trivial⟩).symm.trans hw
  subst e9
  refine go_pw (hp.new hw _) (fun h hp => ?_)
  refine pJ8_9 (pc := 35) dJ8_init_2_35 rfl rfl rfl rfl (hp.at 0 rfl) htq (Nat.le_of_ble_eq_true rfl) ?_
  refine go_pw (hp.put 0 rfl) (fun h hp => ?_)
  refine r_goto (pc := 38) (tgt := 97) dJ8_init_2_38 (by decide) ?_
  exact r_vret (pc := 97) dJ8_init_2_97 rfl ⟨rfl, ⟨w, g9, 0, hp.at 0 rfl, hp.at 1 rfl, by omega, fun i hi => by
      rw [hg9 i (by omega), show 0 + i = i by omega]; exact q4 i hi, Or.inl rfl⟩, fun b x hb hx => (hp.ot ⟨hb.symm, (ne_nw hx hw0).symm, trivial⟩).trans hx⟩
theorem t_J8_init {G : Gl} {h : Hp} {q : Nat} {tq : Tg} (h1 : h q = some (tq, ob 15 [.null, .int 0, .int 0, .int 0])) (htq : tq ≠ frz) {a n : Nat} {t : Tg} {c : Nat → Int} (hA : SB t a n c h) (ht : t ≠ frz)  : Ct G 5 101 yJ8_init (Cond.code yJ8_init cJ8_init 2 (none)) [.ref q, .ref a] h (jN (fun h' => STh tq q n c h' ∧ Kp q h h')) noX := by
  refine Ct.of (own := "java/lang/String") (nm := "<init>") (by decide +kernel) rfl rfl (L := [some (.ref q), some (.ref a)]) rfl (Nat.le_of_ble_eq_true rfl) rfl ?_
  refine r_aload_n (pc := 0) dJ8_init_0 rfl ?_
  refine r_aload_n (pc := 1) dJ8_init_1 rfl ?_
  refine r_null (pc := 2) dJ8_init_2 ?_
  refine r_callI (pc := 3) (kb' := 0) dJ8_init_3 kJ8_init_2 q778 (t_J8_init_2 h1 htq hA ht) (Nat.le_of_ble_eq_true rfl) (Nat.le_of_ble_eq_true rfl) rfl rfl (Nat.le_of_ble_eq_true rfl) (fun _ _ q => q.elim) (fun _ h hq => ?_)
  refine go_jN hq (fun hq => ?_)
  exact r_vret (pc := 6) dJ8_init_6 rfl ⟨rfl, hq⟩
theorem t_J7_toString {G : Gl} {h : Hp} (tq : Tg) (htq : tq ≠ frz) {a n : Nat} {t : Tg} {c : Nat → Int} (hA : SB t a n c h) (ht : t ≠ frz)  : Ct G 6 106 yJ7_toString (Cond.code yJ7_toString cJ7_toString 1 (some (.object "java/lang/String"))) [.ref a] h (jX (fun q h' => STh tq q n c h' ∧ Fr pN h h')) noX := by
  have hp := PW.nil (h := h)
  refine Ct.of (own := "java/lang/StringBuilder") (nm := "toString") (by decide +kernel) rfl rfl (L := [some (.ref a)]) rfl (Nat.le_of_ble_eq_true rfl) rfl ?_
  refine r_new (pc := 0) (ci := 15) (T := TJ8) (N := 4) (tq) [.null, .int 0, .int 0, .int 0] (kb' := 101) dJ7_toString_0 rfl q773 q774 q116 (by intro j hj; revert j; decide +kernel) (Nat.le_of_ble_eq_true rfl) (fun q hq zq => ?_)
  refine go_pw (hp.new hq _) (fun h hp => ?_)
  have hqn := hq
  refine r_dup (pc := 3) dJ7_toString_3 rfl ?_
  refine r_aload_n (pc := 4) dJ7_toString_4 rfl ?_
  refine r_callI (pc := 5) (kb' := 0) dJ7_toString_5 kJ8_init q775 (t_J8_init (hp.at 0 rfl) htq (hA.fr (hp.fr (P := pN) ⟨Or.inl hq, trivial⟩) (fun q => q)) ht) (Nat.le_of_ble_eq_true rfl) (Nat.le_of_ble_eq_true rfl) rfl rfl (Nat.le_of_ble_eq_true rfl) (fun _ _ q => q.elim) (fun _ h hq => ?_)
  refine go_jN hq (fun hq2 => ?_)
  exact r_aret (pc := 8) dJ7_toString_8 rfl (Or.inl ⟨_, rfl⟩) (Or.inr ⟨_, rfl⟩) ⟨q, rfl, hq2.1, Kp.pN (x := (tq, ob 15 [.null, .int 0, .int 0, .int 0])) hqn (by rw [← hp.eq1]; exact hq2.2)⟩
theorem t_J8_init_3 {G : Gl} {h : Hp} {q v : Nat} {tq : Tg} (h1 : h q = some (tq, ob 15 [.null, .int 0, .int 0, .int 0])) (htq : tq ≠ frz) : Ct G 1 0 yJ8_init_3 (Cond.code yJ8_init_3 cJ8_init_3 3 (none)) [.ref q, .ref v, .int (iZ 0)] h (jN (· = up h q (tq, ob 15 [.ref v, .int (iZ 0), .int 0, .int 0]))) noX := by
  have hp := PW.one h1
  refine Ct.of (own := "java/lang/String") (nm := "<init>") (by decide +kernel) rfl rfl (L := [some (.ref q), some (.ref v), some (.int (iZ 0))]) rfl (Nat.le_of_ble_eq_true rfl) rfl ?_
  refine r_aload_n (pc := 0) dJ8_init_3_0 rfl ?_
  refine r_objInit (pc := 1) dJ8_init_3_1 q781 q169 q170 (by decide) (Nat.le_of_ble_eq_true rfl) ?_
  refine r_aload_n (pc := 4) dJ8_init_3_4 rfl ?_
  refine r_aload_n (pc := 5) dJ8_init_3_5 rfl ?_
  refine pJ8_9 (pc := 6) dJ8_init_3_6 rfl rfl rfl rfl (hp.at 0 rfl) htq (Nat.le_of_ble_eq_true rfl) ?_
  refine go_pw (hp.put 0 rfl) (fun h hp => ?_)
  refine r_aload_n (pc := 9) dJ8_init_3_9 rfl ?_
  refine r_iload_n (pc := 10) dJ8_init_3_10 rfl ?_
  refine pJ8_15 (pc := 11) dJ8_init_3_11 rfl rfl (by decide) (by decide) (hp.at 0 rfl) htq (Nat.le_of_ble_eq_true rfl) ?_
  refine go_pw (hp.put 0 rfl) (fun h hp => ?_)
  exact r_vret (pc := 14) dJ8_init_3_14 rfl ⟨rfl, hp.eq1⟩
theorem t_J21_newString {G : Gl} {h : Hp} {v n i j : Nat} {t2 : Tg} {f : Nat → Int32} {c : Nat → Int} (tg : Tg) (htg : tg ≠ frz) (ht2 : t2 ≠ frz ∨ 0 < i ∨ i + j < n) (hr : h v = some (t2, aI .byte n f)) (hij : i + j ≤ n ∧ n ≤ 100) (hb : ∀ x, x < n → f x = iZ (c x) ∧ 0 ≤ c x ∧ c x < 128) : Ct G 4 106 yJ21_newString (Cond.code yJ21_newString cJ21_newString 3 (some (.object "java/lang/String"))) [.ref v, .int (iZ i), .int (iZ j)] h (jX (fun q h' => Fr pN h h' ∧ ((j = 0 ∧ q = gS G 18 ∧ h' = h) ∨ (0 < j ∧ STh tg q (j) (fun x => c (i + x)) h')))) noX := by
  have hp := PW.nil (h := h)
  refine Ct.of (own := "java/lang/StringLatin1") (nm := "newString") (by decide +kernel) rfl rfl (L := [some (.ref v), some (.int (iZ i)), some (.int (iZ j))]) rfl (Nat.le_of_ble_eq_true rfl) rfl ?_
  refine r_iload_n (pc := 0) dJ21_newString_0 rfl ?_
  refine r_if_ne (pc := 1) (tgt := 7) dJ21_newString_1 (by decide) (by omega) (fun c1 => ?_) (fun c1 => ?_)
  · refine r_new (pc := 7) (ci := 15) (T := TJ8) (N := 4) (tg) [.null, .int 0, .int 0, .int 0] (kb' := 101) dJ21_newString_7 rfl q2259 q774 q116 (by intro j hj; revert j; decide +kernel) (Nat.le_of_ble_eq_true rfl) (fun q hq zq => ?_)
    refine go_pw (hp.new hq _) (fun h hp => ?_)
    have hqn := hq
    refine r_dup (pc := 10) dJ21_newString_10 rfl ?_
    refine r_aload_n (pc := 11) dJ21_newString_11 rfl ?_
    refine r_iload_n (pc := 12) dJ21_newString_12 rfl ?_
    refine r_iload_n (pc := 13) dJ21_newString_13 rfl ?_
    refine r_iload_n (pc := 14) dJ21_newString_14 rfl ?_
    refine r_iadd (pc := 15) dJ21_newString_15 ?_
    refine go_cz (w := ((i + j : Nat) : Int)) (by omega) ?_
    refine r_callS (pc := 16) (kb' := 0) dJ21_newString_16 kJ20_copyOfRange q2260 (t_J20_copyOfRange (i := i) (j := i + j) tg htg ((hp.ot ⟨(ne_nw hr hq).symm, trivial⟩).trans hr) (by omega) (fun x hx => by rw [(hb x hx).1]; exact fY (by have := (hb x hx).2; omega)) ht2) (Nat.le_of_ble_eq_true rfl) (Nat.le_of_ble_eq_true rfl) rfl rfl (Nat.le_of_ble_eq_true rfl) (fun _ _ q => q.elim) (fun _ h hq => ?_)
    refine go_jX hq (fun w hw => ?_)
    obtain ⟨hw, g9, hg9, e9⟩ := hw
    have hw0 := (hp.ot ⟨ne_nw (hp.at 0 rfl) hw, trivial⟩).symm.trans hw
    subst e9
    refine go_pw (hp.new hw _) (fun h hp => ?_)
    refine r_iconst (pc := 19) dJ21_newString_19 ?_
    refine r_callI (pc := 20) (kb' := 0) dJ21_newString_20 kJ8_init_3 q2261 (t_J8_init_3 (hp.at 0 rfl) htg) (Nat.le_refl _) (Nat.le_of_ble_eq_true rfl) rfl rfl (Nat.le_of_ble_eq_true rfl) (fun _ _ q => q.elim) (fun _ h hq => ?_)
    refine go_jN hq (fun e9 => ?_)
    subst e9
    refine go_pw (hp.put 0 rfl) (fun h hp => ?_)
    exact r_aret (pc := 23) dJ21_newString_23 rfl (Or.inl ⟨_, rfl⟩) (Or.inr ⟨_, rfl⟩) ⟨q, rfl, hp.fr ⟨Or.inl hqn, Or.inl hw0, trivial⟩, Or.inr ⟨by omega, w, g9, 0, hp.at 0 rfl, by rw [show j = i + j - i by omega]; exact hp.at 1 rfl, by omega, fun x hx => by
        rw [hg9 x (by omega)]; exact hb (i + x) (by omega), Or.inl rfl⟩⟩
  · refine r_ldcS (pc := 4) dJ21_newString_4 19 rfl ?_
    exact r_aret (pc := 6) dJ21_newString_6 rfl (Or.inl ⟨_, rfl⟩) (Or.inr ⟨_, rfl⟩) ⟨_, rfl, Fr.rf, Or.inl ⟨by omega, rfl, rfl⟩⟩
theorem t_J8_substring {G : Gl} {h : Hp} {s k : Nat} {ts : Tg} {e : Nat → Int} (hS : STh ts s k e h) {i j : Nat} (htg : ts ≠ frz) (hij : i ≤ j ∧ j ≤ k) : Ct G 5 106 yJ8_substring (Cond.code yJ8_substring cJ8_substring 5 (some (.object "java/lang/String"))) [.ref s, .int (iZ i), .int (iZ j)] h (jX (fun q h' => Fr pN h h' ∧ ((j = i ∧ q = gS G 18 ∧ h' = h) ∨ STh ts q (j - i) (fun x => e (i + x)) h'))) noX := by
  have hS0 := hS
  obtain ⟨u, g, hs, s1, s2, s3, s4, s5⟩ := hS0
  refine Ct.of (own := "java/lang/String") (nm := "substring") (by decide +kernel) rfl rfl (L := [some (.ref s), some (.int (iZ i)), some (.int (iZ j)), none, none]) rfl (Nat.le_of_ble_eq_true rfl) rfl ?_
  refine r_aload_n (pc := 0) dJ8_substring_0 rfl ?_
  refine r_callV (pc := 1) (kb' := 106) dJ8_substring_1 kJ8_length q2249 (t_J8_length hS.st) s1 rfl (Nat.le_refl _) (Nat.le_of_ble_eq_true rfl) rfl rfl (Nat.le_of_ble_eq_true rfl) (fun _ _ q => q.elim) (fun _ _ hq => ?_)
  refine go_jE hq ?_
  refine r_istore_n (pc := 4) (L' := [_, _, _, _, _]) dJ8_substring_4 rfl ?_
  refine r_iload_n (pc := 5) dJ8_substring_5 rfl ?_
  refine r_iload_n (pc := 6) dJ8_substring_6 rfl ?_
  refine r_iload_n (pc := 7) dJ8_substring_7 rfl ?_
  refine r_callS (pc := 8) (kb' := 106) dJ8_substring_8 kJ8_checkBoundsBeginEnd q2250 (t_J8_checkBoundsBeginEnd (by omega) (by omega) (by omega) (by omega)) (Nat.le_refl _) (Nat.le_of_ble_eq_true rfl) rfl rfl (Nat.le_of_ble_eq_true rfl) (fun _ _ q => q.elim) (fun _ h hq => ?_)
  refine go_jN hq (fun e => ?_)
  subst e
  refine r_iload_n (pc := 11) dJ8_substring_11 rfl ?_
  refine r_if_ne (pc := 12) (tgt := 22) dJ8_substring_12 (by decide) (by omega) (fun c12 => ?_) (fun c12 => ?_)
  · refine r_iload_n (pc := 22) dJ8_substring_22 rfl ?_
    refine r_iload_n (pc := 23) dJ8_substring_23 rfl ?_
    refine r_isub (pc := 24) dJ8_substring_24 ?_
    refine go_cz (w := ((j - i : Nat) : Int)) (by omega) ?_
    refine r_istore (pc := 25) (L' := [_, _, _, _, _]) dJ8_substring_25 rfl ?_
    refine r_aload_n (pc := 27) dJ8_substring_27 rfl ?_
    refine r_callV (pc := 28) (kb' := 106) dJ8_substring_28 kJ8_isLatin1 q2251 (t_J8_isLatin1 hS.st) s1 rfl (Nat.le_refl _) (Nat.le_of_ble_eq_true rfl) rfl rfl (Nat.le_of_ble_eq_true rfl) (fun _ _ q => q.elim) (fun _ _ hq => ?_)
    refine go_jE hq ?_
    refine r_if_eq (pc := 31) (tgt := 47) dJ8_substring_31 (by decide) (by decide) (fun q => absurd q (by decide)) (fun _ => ?_)
    refine r_aload_n (pc := 34) dJ8_substring_34 rfl ?_
    refine gJ8_9 (pc := 35) dJ8_substring_35 s1 rfl ?_
    refine r_iload_n (pc := 38) dJ8_substring_38 rfl ?_
    refine r_iload (pc := 39) dJ8_substring_39 rfl ?_
    refine r_callS (pc := 41) (kb' := 0) dJ8_substring_41 kJ21_newString q2255 (t_J21_newString (i := i) (j := j - i) (c := e) ts htg (Or.inl htg) s2 (by omega) s4) (Nat.le_of_ble_eq_true rfl) (Nat.le_of_ble_eq_true rfl) rfl rfl (Nat.le_of_ble_eq_true rfl) (fun _ _ q => q.elim) (fun _ h hq => ?_)
    refine go_jX hq (fun q hq => ?_)
    refine r_goto (pc := 44) (tgt := 57) dJ8_substring_44 (by decide) ?_
    exact r_aret (pc := 57) dJ8_substring_57 rfl (Or.inl ⟨_, rfl⟩) (Or.inr ⟨_, rfl⟩) ⟨q, rfl, hq.1, by
        rcases hq.2 with ⟨q1, q2, q3⟩ | ⟨q1, q2⟩
        · exact Or.inl ⟨by omega, q2, q3⟩
        · exact Or.inr q2⟩
  · refine r_iload_n (pc := 15) dJ8_substring_15 rfl ?_
    refine r_iload_n (pc := 16) dJ8_substring_16 rfl ?_
    refine r_icmp_ne (pc := 17) (tgt := 22) dJ8_substring_17 (by decide) (by omega) (by omega) (fun c17 => ?_) (fun c17 => ?_)
    · refine r_iload_n (pc := 22) dJ8_substring_22 rfl ?_
      refine r_iload_n (pc := 23) dJ8_substring_23 rfl ?_
      refine r_isub (pc := 24) dJ8_substring_24 ?_
      refine go_cz (w := ((j - i : Nat) : Int)) (by omega) ?_
      refine r_istore (pc := 25) (L' := [_, _, _, _, _]) dJ8_substring_25 rfl ?_
      refine r_aload_n (pc := 27) dJ8_substring_27 rfl ?_
      refine r_callV (pc := 28) (kb' := 106) dJ8_substring_28 kJ8_isLatin1 q2251 (t_J8_isLatin1 hS.st) s1 rfl (Nat.le_refl _) (Nat.le_of_ble_eq_true rfl) rfl rfl (Nat.le_of_ble_eq_true rfl) (fun _ _ q => q.elim) (fun _ _ hq => ?_)
      refine go_jE hq ?_
      refine r_if_eq (pc := 31) (tgt := 47) dJ8_substring_31 (by decide) (by decide) (fun q => absurd q (by decide)) (fun _ => ?_)
      refine r_aload_n (pc := 34) dJ8_substring_34 rfl ?_
      refine gJ8_9 (pc := 35) dJ8_substring_35 s1 rfl ?_
      refine r_iload_n (pc := 38) dJ8_substring_38 rfl ?_
      refine r_iload (pc := 39) dJ8_substring_39 rfl ?_
      refine r_callS (pc := 41) (kb' := 0) dJ8_substring_41 kJ21_newString q2255 (t_J21_newString (i := i) (j := j - i) (c := e) ts htg (Or.inl htg) s2 (by omega) s4) (Nat.le_of_ble_eq_true rfl) (Nat.le_of_ble_eq_true rfl) rfl rfl (Nat.le_of_ble_eq_true rfl) (fun _ _ q => q.elim) (fun _ h hq => ?_)
      refine go_jX hq (fun q hq => ?_)
      refine r_goto (pc := 44) (tgt := 57) dJ8_substring_44 (by decide) ?_
      exact r_aret (pc := 57) dJ8_substring_57 rfl (Or.inl ⟨_, rfl⟩) (Or.inr ⟨_, rfl⟩) ⟨q, rfl, hq.1, by
          rcases hq.2 with ⟨q1, q2, q3⟩ | ⟨q1, q2⟩
          · exact Or.inl ⟨by omega, q2, q3⟩
          · exact Or.inr q2⟩
    · refine r_aload_n (pc := 20) dJ8_substring_20 rfl ?_
      exact r_aret (pc := 21) dJ8_substring_21 rfl (Or.inl ⟨_, rfl⟩) (Or.inr ⟨_, rfl⟩) ⟨s, rfl, Fr.rf, Or.inr (by
          have e0 : i = 0 := by omega
          have e1 : j = k := by omega
          subst e0
          subst e1
          exact hS.cg (fun x _ => by rw [show 0 + x = x by omega]))⟩
