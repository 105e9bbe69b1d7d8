set_option maxRecDepth 100000
theorem uJ6_append : CUr "java/lang/AbstractStringBuilder" yJ6_append yJ6_append cJ6_append 3 (some (.object "java/lang/AbstractStringBuilder")) 1 := ⟨q628, q114, q629, ⟨by decide, by decide⟩, by decide +kernel, by decide⟩
theorem uJ6_append_2 : CUr "java/lang/AbstractStringBuilder" yJ6_append_2 yJ6_append_2 cJ6_append_2 4 (some (.object "java/lang/AbstractStringBuilder")) 1 := ⟨q748, q114, q749, ⟨by decide, by decide⟩, by decide +kernel, by decide⟩
theorem uJ6_append_3 : CUr "java/lang/AbstractStringBuilder" yJ6_append_3 yJ6_append_3 cJ6_append_3 2 (some (.object "java/lang/AbstractStringBuilder")) 1 := ⟨q1309, q114, q1310, ⟨by decide, by decide⟩, by decide +kernel, by decide⟩
theorem uJ6_length : CUr "java/lang/AbstractStringBuilder" yJ6_length yJ6_length cJ6_length 1 (some .int) 0 := ⟨q788, q114, q794, ⟨by decide, by decide⟩, by decide +kernel, by decide⟩
theorem uJ6_setLength : CUr "java/lang/AbstractStringBuilder" yJ6_setLength yJ6_setLength cJ6_setLength 2 (none) 1 := ⟨q1222, q114, q1223, ⟨by decide, by decide⟩, by decide +kernel, by decide⟩
theorem uJ6_charAt : CUr "java/lang/AbstractStringBuilder" yJ6_charAt yJ6_charAt cJ6_charAt 5 (some .char) 1 := ⟨q2596, q114, q2597, ⟨by decide, by decide⟩, by decide +kernel, by decide⟩
/-! JDK, part 15: StringBuilder's own methods, new Strings out of parts -/
/-- a text in a String that may be asked for its hash -/
def hshZ (c : Nat → Int) : Nat → Int
  | 0 => 0
  | n + 1 => 31 * hshZ c n + c n
def STh (t : Tg) (a n : Nat) (c : Nat → Int) (h : Hp) : Prop :=
  ∃ (v : Nat) (f : Nat → Int32) (hs : Int32), h a = some (t, ob 15 [.ref v, .int (iZ 0), .int hs, .int 0]) ∧ h v = some (t, aI .byte n f) ∧ n ≤ 100 ∧ (∀ i, i < n → f i = iZ (c i) ∧ 0 ≤ c i ∧ c i < 128) ∧ (hs = 0 ∨ hs = iZ (hshZ c n))
theorem STh.st {t : Tg} {a n : Nat} {c : Nat → Int} {h : Hp} (hS : STh t a n c h) : ST t t a n c h := by
  obtain ⟨v, f, hs, q1, q2, q3, q4, q5⟩ := hS
  exact ⟨v, f, _, _, q1, q2, q3, q4⟩
theorem STh.fr {t : Tg} {a n : Nat} {c : Nat → Int} {h h' : Hp} {P : Tg → Prop} (hS : STh t a n c h) (hf : Fr P h h') (h1 : ¬ P t) : STh t a n c h' := by
  obtain ⟨v, f, hs, q1, q2, q3, q4, q5⟩ := hS
  exact ⟨v, f, hs, hf.get q1 h1, hf.get q2 h1, q3, q4, q5⟩
theorem hsh_cg {c d : Nat → Int} : ∀ {n : Nat}, (∀ i, i < n → d i = c i) → hshZ d n = hshZ c n
  | 0, _ => rfl
  | n + 1, he => by
    show 31 * hshZ d n + d n = 31 * hshZ c n + c n
    rw [hsh_cg (fun i hi => he i (by omega)), he n (by omega)]
theorem STh.cg {t : Tg} {a n : Nat} {c c' : Nat → Int} {h : Hp} (hS : STh t a n c h) (he : ∀ i, i < n → c' i = c i) : STh t a n c' h := by
  obtain ⟨v, f, hs, q1, q2, q3, q4, q5⟩ := hS
  exact ⟨v, f, hs, q1, q2, q3, fun i hi => by rw [he i hi]; exact q4 i hi, by rw [hsh_cg he]; exact q5⟩
theorem FrpN_up {h : Hp} {q : Nat} {x : Tg × Cl} {P : Tg → Prop} (hq : h q = none) : Fr P h (up h q x) := Fr.nw hq

theorem t_J7_append {G : Gl} {h : Hp} {a n : Nat} {t : Tg} {c : Nat → Int} (hA : SB t a n c h) (ht : t ≠ frz) {s k : Nat} {ts ts2 : Tg} {e : Nat → Int} (hS : ST ts ts2 s k e h) (hts : ts ≠ t) (hts2 : ts2 ≠ t) (hn : n < 60 ∧ k ≤ 10) : Ct G 6 71 yJ7_append (Cond.code yJ7_append cJ7_append 2 (some (.object "java/lang/StringBuilder"))) [.ref a, .ref s] h (jP (.ref a) (fun h' => SB t a (n + k) (catC c n e) h' ∧ Fr (fun x => x = t) h h')) noX := by
  have hAs := hA
  obtain ⟨cap, hA⟩ := hA
  have hA0 := hA
  obtain ⟨v, f, ml, q1, q2, q3, q4, q5⟩ := hA0
  refine Ct.of (own := "java/lang/StringBuilder") (nm := "append") (by decide +kernel) rfl rfl (L := [some (.ref a), some (.ref s)]) rfl (Nat.le_of_ble_eq_true rfl) rfl ?_
  refine r_aload_n (pc := 0) dJ7_append_0 rfl ?_
  refine r_aload_n (pc := 1) dJ7_append_1 rfl ?_
  refine r_callSU (pc := 2) (kb' := 0) dJ7_append_2 q627 q3220 q321 (by decide) uJ6_append (t_J6_append hAs ht hS hts hts2 hn) q1 rfl (Nat.le_of_ble_eq_true rfl) (Nat.le_of_ble_eq_true rfl) rfl rfl (Nat.le_of_ble_eq_true rfl) (fun _ _ q => q.elim) (fun _ h hq => ?_)
  refine go_jP hq (fun hq => ?_)
  refine r_pop (pc := 5) dJ7_append_5 rfl ?_
  refine r_aload_n (pc := 6) dJ7_append_6 rfl ?_
  exact r_aret (pc := 7) dJ7_append_7 rfl (Or.inl ⟨_, rfl⟩) (Or.inr ⟨_, rfl⟩) ⟨rfl, hq⟩
theorem t_J7_append_2 {G : Gl} {h : Hp} {a n : Nat} {t : Tg} {c : Nat → Int} (hA : SB t a n c h) (ht : t ≠ frz) {z : Int} (hz : 0 ≤ z ∧ z ≤ 99) (hn : n < 60) (hO : h (gS G 2) = some (frz, aI .byte 100 fDO)) (hT : h (gS G 3) = some (frz, aI .byte 100 fDT)) : Ct G 6 71 yJ7_append_2 (Cond.code yJ7_append_2 cJ7_append_2 2 (some (.object "java/lang/StringBuilder"))) [.ref a, .int (iZ z)] h (jP (.ref a) (fun h' => SB t a (n + nmL z) (catC c n (nmC z)) h' ∧ Fr (fun x => x = t) h h')) noX := by
  have hAs := hA
  obtain ⟨cap, hA⟩ := hA
  have hA0 := hA
  obtain ⟨v, f, ml, q1, q2, q3, q4, q5⟩ := hA0
  refine Ct.of (own := "java/lang/StringBuilder") (nm := "append") (by decide +kernel) rfl rfl (L := [some (.ref a), some (.int (iZ z))]) rfl (Nat.le_of_ble_eq_true rfl) rfl ?_
  refine r_aload_n (pc := 0) dJ7_append_2_0 rfl ?_
  refine r_iload_n (pc := 1) dJ7_append_2_1 rfl ?_
  refine r_callSU (pc := 2) (kb' := 0) dJ7_append_2_2 q747 q3227 q321 (by decide) uJ6_append_2 (t_J6_append_2 hAs ht hz hn hO hT) q1 rfl (Nat.le_of_ble_eq_true rfl) (Nat.le_of_ble_eq_true rfl) rfl rfl (Nat.le_of_ble_eq_true rfl) (fun _ _ q => q.elim) (fun _ h hq => ?_)
  refine go_jP hq (fun hq => ?_)
  refine r_pop (pc := 5) dJ7_append_2_5 rfl ?_
  refine r_aload_n (pc := 6) dJ7_append_2_6 rfl ?_
  exact r_aret (pc := 7) dJ7_append_2_7 rfl (Or.inl ⟨_, rfl⟩) (Or.inr ⟨_, rfl⟩) ⟨rfl, hq⟩
theorem t_J7_append_3 {G : Gl} {h : Hp} {a n : Nat} {t : Tg} {c : Nat → Int} (hA : SB t a n c h) (ht : t ≠ frz) {ch : Int} (hc : 0 ≤ ch ∧ ch < 128) (hn : n < 60) : Ct G 6 71 yJ7_append_3 (Cond.code yJ7_append_3 cJ7_append_3 2 (some (.object "java/lang/StringBuilder"))) [.ref a, .int (iZ ch)] h (jP (.ref a) (fun h' => SB t a (n + 1) (catC c n (fun _ => ch)) h' ∧ Fr (fun x => x = t) h h')) noX := by
  have hAs := hA
  obtain ⟨cap, hA⟩ := hA
  have hA0 := hA
  obtain ⟨v, f, ml, q1, q2, q3, q4, q5⟩ := hA0
  refine Ct.of (own := "java/lang/StringBuilder") (nm := "append") (by decide +kernel) rfl rfl (L := [some (.ref a), some (.int (iZ ch))]) rfl (Nat.le_of_ble_eq_true rfl) rfl ?_
  refine r_aload_n (pc := 0) dJ7_append_3_0 rfl ?_
  refine r_iload_n (pc := 1) dJ7_append_3_1 rfl ?_
  refine r_callSU (pc := 2) (kb' := 0) dJ7_append_3_2 q1308 q3230 q321 (by decide) uJ6_append_3 (t_J6_append_3 hAs ht hc hn) q1 rfl (Nat.le_of_ble_eq_true rfl) (Nat.le_of_ble_eq_true rfl) rfl rfl (Nat.le_of_ble_eq_true rfl) (fun _ _ q => q.elim) (fun _ h hq => ?_)
  refine go_jP hq (fun hq => ?_)
  refine r_pop (pc := 5) dJ7_append_3_5 rfl ?_
  refine r_aload_n (pc := 6) dJ7_append_3_6 rfl ?_
  exact r_aret (pc := 7) dJ7_append_3_7 rfl (Or.inl ⟨_, rfl⟩) (Or.inr ⟨_, rfl⟩) ⟨rfl, hq⟩
theorem t_J7_length {G : Gl} {h : Hp} {a n : Nat} {t : Tg} {c : Nat → Int} (hA : SB t a n c h) : Ct G 2 0 yJ7_length (Cond.code yJ7_length cJ7_length 1 (some .int)) [.ref a] h (jE (.int (iZ n)) h) noX := by
  obtain ⟨cap, hA⟩ := hA
  have hA0 := hA
  obtain ⟨v, f, ml, q1, q2, q3, q4, q5⟩ := hA0
  refine Ct.of (own := "java/lang/StringBuilder") (nm := "length") (by decide +kernel) rfl rfl (L := [some (.ref a)]) rfl (Nat.le_of_ble_eq_true rfl) rfl ?_
  refine r_aload_n (pc := 0) dJ7_length_0 rfl ?_
  refine r_callSU (pc := 1) (kb' := 0) dJ7_length_1 q793 q789 q321 (by decide) uJ6_length (t_J6_length hA) q1 rfl (Nat.le_refl _) (Nat.le_of_ble_eq_true rfl) rfl rfl (Nat.le_of_ble_eq_true rfl) (fun _ _ q => q.elim) (fun _ _ hq => ?_)
  refine go_jE hq ?_
  exact r_iret (pc := 4) dJ7_length_4 rfl rfl ⟨rfl, rfl⟩
theorem t_J7_setLength {G : Gl} {h : Hp} {a n : Nat} {t : Tg} {c : Nat → Int} (hA : SB t a n c h) (ht : t ≠ frz)  : Ct G 6 71 yJ7_setLength (Cond.code yJ7_setLength cJ7_setLength 2 (none)) [.ref a, .int (iZ 0)] h (jN (fun h' => SB t a 0 (fun _ => 0) h' ∧ Fr (fun x => x = t) h h')) noX := by
  have hAs := hA
  obtain ⟨cap, hA⟩ := hA
  have hA0 := hA
  obtain ⟨v, f, ml, q1, q2, q3, q4, q5⟩ := hA0
  refine Ct.of (own := "java/lang/StringBuilder") (nm := "setLength") (by decide +kernel) rfl rfl (L := [some (.ref a), some (.int (iZ 0))]) rfl (Nat.le_of_ble_eq_true rfl) rfl ?_
  refine r_aload_n (pc := 0) dJ7_setLength_0 rfl ?_
  refine r_iload_n (pc := 1) dJ7_setLength_1 rfl ?_
  refine r_callSU (pc := 2) (kb' := 0) dJ7_setLength_2 q1221 q3229 q321 (by decide) uJ6_setLength (t_J6_setLength hAs ht) q1 rfl (Nat.le_of_ble_eq_true rfl) (Nat.le_of_ble_eq_true rfl) rfl rfl (Nat.le_of_ble_eq_true rfl) (fun _ _ q => q.elim) (fun _ h hq => ?_)
  refine go_jN hq (fun hq => ?_)
  exact r_vret (pc := 5) dJ7_setLength_5 rfl ⟨rfl, hq⟩
theorem t_J7_charAt {G : Gl} {h : Hp} {a n : Nat} {t : Tg} {c : Nat → Int} (hA : SB t a n c h) (ht : t ≠ frz) {i : Nat} (hi : i < n) : Ct G 4 0 yJ7_charAt (Cond.code yJ7_charAt cJ7_charAt 2 (some .char)) [.ref a, .int (iZ i)] h (jE (.int (iZ (c i))) h) noX := by
  have hAs := hA
  obtain ⟨cap, hA⟩ := hA
  have hA0 := hA
  obtain ⟨v, f, ml, q1, q2, q3, q4, q5⟩ := hA0
  have q6 := q4 i hi
  refine Ct.of (own := "java/lang/StringBuilder") (nm := "charAt") (by decide +kernel) rfl rfl (L := [some (.ref a), some (.int (iZ i))]) rfl (Nat.le_of_ble_eq_true rfl) rfl ?_
  refine r_aload_n (pc := 0) dJ7_charAt_0 rfl ?_
  refine r_iload_n (pc := 1) dJ7_charAt_1 rfl ?_
  refine r_callSU (pc := 2) (kb' := 0) dJ7_charAt_2 q2595 q3244 q321 (by decide) uJ6_charAt (t_J6_charAt hAs ht hi) q1 rfl (Nat.le_refl _) (Nat.le_of_ble_eq_true rfl) rfl rfl (Nat.le_of_ble_eq_true rfl) (fun _ _ q => q.elim) (fun _ _ hq => ?_)
  refine go_jE hq ?_
  exact r_iret (pc := 5) dJ7_charAt_5 rfl (nC (by omega)) ⟨rfl, rfl⟩
theorem t_J20_checkLength {G : Gl} {h : Hp} {i j : Int} (h0 : InR i) (h1 : InR j) (h2 : i ≤ j) : Ct G 1 0 yJ20_checkLength (Cond.code yJ20_checkLength cJ20_checkLength 2 (none)) [.int (iZ i), .int (iZ j)] h (jN (· = h)) noX := by
  refine Ct.of (own := "java/util/Arrays") (nm := "checkLength") (by decide +kernel) rfl rfl (L := [some (.int (iZ i)), some (.int (iZ j))]) rfl (Nat.le_of_ble_eq_true rfl) rfl ?_
  refine r_iload_n (pc := 0) dJ20_checkLength_0 rfl ?_
  refine r_iload_n (pc := 1) dJ20_checkLength_1 rfl ?_
  refine r_icmp_ge (pc := 2) (tgt := 37) dJ20_checkLength_2 (by decide) (by omega) (by omega) (fun c2 => ?_) (fun c2 => absurd (by omega) c2)
  exact r_vret (pc := 37) dJ20_checkLength_37 rfl ⟨rfl, rfl⟩
theorem t_J20_copyOfRangeByte {G : Gl} {h : Hp} {v n i j : Nat} {t2 : Tg} {f : Nat → Int32} (tg : Tg) (htg : tg ≠ frz) (hr : h v = some (t2, aI .byte n f)) (hij : i ≤ j ∧ j ≤ n ∧ n ≤ 100) (hb : ∀ x, x < n → fits .byte (.int (f x)) = true) : Ct G 2 101 yJ20_copyOfRangeByte (Cond.code yJ20_copyOfRangeByte cJ20_copyOfRangeByte 5 (some (.array .byte))) [.ref v, .int (iZ i), .int (iZ j)] h (jX (fun q h' => h q = none ∧ ∃ g, (∀ x, x < j - i → g x = f (i + x)) ∧ h' = up h q (tg, aI .byte (j - i) g))) noX := by
  have hp := PW.nil (h := h)
  refine Ct.of (own := "java/util/Arrays") (nm := "copyOfRangeByte") (by decide +kernel) rfl rfl (L := [some (.ref v), some (.int (iZ i)), some (.int (iZ j)), none, none]) rfl (Nat.le_of_ble_eq_true rfl) rfl ?_
  refine r_iload_n (pc := 0) dJ20_copyOfRangeByte_0 rfl ?_
  refine r_iload_n (pc := 1) dJ20_copyOfRangeByte_1 rfl ?_
  refine r_callS (pc := 2) (kb' := 101) dJ20_copyOfRangeByte_2 kJ20_checkLength q802 (t_J20_checkLength (by omega) (by omega) (by omega)) (Nat.le_refl _) (Nat.le_of_ble_eq_true rfl) rfl rfl (Nat.le_of_ble_eq_true rfl) (fun _ _ q => q.elim) (fun _ h hq => ?_)
  refine go_jN hq (fun e => ?_)
  subst e
  refine r_iload_n (pc := 5) dJ20_copyOfRangeByte_5 rfl ?_
  refine r_iload_n (pc := 6) dJ20_copyOfRangeByte_6 rfl ?_
  refine r_isub (pc := 7) dJ20_copyOfRangeByte_7 ?_
  refine go_cz (w := ((j - i : Nat) : Int)) (by omega) ?_
  refine r_istore_n (pc := 8) (L' := [_, _, _, _, _]) dJ20_copyOfRangeByte_8 rfl ?_
  refine r_iload_n (pc := 9) dJ20_copyOfRangeByte_9 rfl ?_
  refine r_newB (pc := 10) (N := (j - i)) (kb' := 0) (tg) dJ20_copyOfRangeByte_10 q322 rfl (by omega) (by omega) (fun w hw zw => ?_)
  refine go_pw (hp.new hw _) (fun h hp => ?_)
  refine r_astore (pc := 12) (L' := [_, _, _, _, _]) dJ20_copyOfRangeByte_12 rfl ?_
  have hr := (hp.ot (b := v) ⟨(ne_nw hr hw).symm, trivial⟩).trans hr
  refine r_aload_n (pc := 14) dJ20_copyOfRangeByte_14 rfl ?_
  refine r_iload_n (pc := 15) dJ20_copyOfRangeByte_15 rfl ?_
  refine r_aload (pc := 16) dJ20_copyOfRangeByte_16 rfl ?_
  refine r_iconst (pc := 18) dJ20_copyOfRangeByte_18 ?_
  refine r_aload_n (pc := 19) dJ20_copyOfRangeByte_19 rfl ?_
  refine r_alen (pc := 20) dJ20_copyOfRangeByte_20 (by decide) hr (by omega) ?_
  refine r_iload_n (pc := 21) dJ20_copyOfRangeByte_21 rfl ?_
  refine r_isub (pc := 22) dJ20_copyOfRangeByte_22 ?_
  refine r_iload_n (pc := 23) dJ20_copyOfRangeByte_23 rfl ?_
  refine r_callS (pc := 24) (kb' := 0) dJ20_copyOfRangeByte_24 kJ19_min q663 (t_J19_min (by omega) (by omega)) (Nat.le_refl _) (Nat.le_of_ble_eq_true rfl) rfl rfl (Nat.le_of_ble_eq_true rfl) (fun _ _ q => q.elim) (fun _ _ hq => ?_)
  refine go_jE hq ?_
  refine go_cz (w := ((j - i : Nat) : Int)) (by split <;> omega) ?_
  refine r_copyB (pc := 27) dJ20_copyOfRangeByte_27 q666 hr (hp.at 0 rfl) htg (by omega) (by omega) (by omega) (by omega) (by omega) (by omega) (by omega) (fun x hx => by
      rw [show (i : Int).toNat + x = i + x from rfl]
      exact hb (i + x) (by omega)) (Nat.le_of_ble_eq_true rfl) (Nat.le_of_ble_eq_true rfl) ?_
  refine go_pw (hp.put 0 rfl) (fun h hp => ?_)
  refine r_aload (pc := 30) dJ20_copyOfRangeByte_30 rfl ?_
  exact r_aret (pc := 32) dJ20_copyOfRangeByte_32 rfl (Or.inr ⟨_, rfl⟩) (Or.inr ⟨_, rfl⟩) ⟨w, rfl, hw, _, fun x hx => (pk_cpy_in (by omega) (by omega)).trans (congrArg f (by show (i : Int).toNat + (x - (0 : Int).toNat) = i + x; omega)), hp.eq1⟩
theorem t_J20_copyOfRange {G : Gl} {h : Hp} {v n i j : Nat} {t2 : Tg} {f : Nat → Int32} (tg : Tg) (htg : tg ≠ frz) (hr : h v = some (t2, aI .byte n f)) (hij : i ≤ j ∧ j ≤ n ∧ n ≤ 100) (hb : ∀ x, x < n → fits .byte (.int (f x)) = true) (ht2 : t2 ≠ frz ∨ 0 < i ∨ j < n) : Ct G 3 101 yJ20_copyOfRange (Cond.code yJ20_copyOfRange cJ20_copyOfRange 3 (some (.array .byte))) [.ref v, .int (iZ i), .int (iZ j)] h (jX (fun q h' => h q = none ∧ ∃ g, (∀ x, x < j - i → g x = f (i + x)) ∧ h' = up h q (tg, aI .byte (j - i) g))) noX := by
  have hp := PW.nil (h := h)
  refine Ct.of (own := "java/util/Arrays") (nm := "copyOfRange") (by decide +kernel) rfl rfl (L := [some (.ref v), some (.int (iZ i)), some (.int (iZ j))]) rfl (Nat.le_of_ble_eq_true rfl) rfl ?_
  refine r_iload_n (pc := 0) dJ20_copyOfRange_0 rfl ?_
  refine r_if_ne (pc := 1) (tgt := 10) dJ20_copyOfRange_1 (by decide) (by omega) (fun c1 => ?_) (fun c1 => ?_)
  · refine r_aload_n (pc := 10) dJ20_copyOfRange_10 rfl ?_
    refine r_iload_n (pc := 11) dJ20_copyOfRange_11 rfl ?_
    refine r_iload_n (pc := 12) dJ20_copyOfRange_12 rfl ?_
    refine r_callS (pc := 13) (kb' := 0) dJ20_copyOfRange_13 kJ20_copyOfRangeByte q799 (t_J20_copyOfRangeByte tg htg hr hij hb) (Nat.le_of_ble_eq_true rfl) (Nat.le_of_ble_eq_true rfl) rfl rfl (Nat.le_of_ble_eq_true rfl) (fun _ _ q => q.elim) (fun _ h hq => ?_)
    refine go_jX hq (fun q hq => ?_)
    exact r_aret (pc := 16) dJ20_copyOfRange_16 rfl (Or.inr ⟨_, rfl⟩) (Or.inr ⟨_, rfl⟩) ⟨q, rfl, hq⟩
  · refine r_iload_n (pc := 4) dJ20_copyOfRange_4 rfl ?_
    refine r_aload_n (pc := 5) dJ20_copyOfRange_5 rfl ?_
    refine r_alen (pc := 6) dJ20_copyOfRange_6 (by decide) hr (by omega) ?_
    refine r_icmp_eq (pc := 7) (tgt := 17) dJ20_copyOfRange_7 (by decide) (by omega) (by omega) (fun c7 => ?_) (fun c7 => ?_)
    · refine r_aload_n (pc := 17) dJ20_copyOfRange_17 rfl ?_
      refine r_cloneB (pc := 18) (kb' := 0) (tg) dJ20_copyOfRange_18 q656 hr hb (Nat.le_of_ble_eq_true rfl) (Nat.le_of_ble_eq_true rfl) (by omega) (fun w hw zw => ?_)
      refine go_pw (hp.new hw _) (fun h hp => ?_)
      refine r_castA (pc := 21) dJ20_copyOfRange_21 q662 (hp.at 0 rfl) (by decide) (fun _ => nmB) ?_
      exact r_aret (pc := 24) dJ20_copyOfRange_24 rfl (Or.inr ⟨_, rfl⟩) (Or.inr ⟨_, rfl⟩) ⟨w, rfl, hw, f, fun x hx => by congr 1; omega, by rw [hp.eq1, show n = j - i by omega]⟩
    · refine r_aload_n (pc := 10) dJ20_copyOfRange_10 rfl ?_
      refine r_iload_n (pc := 11) dJ20_copyOfRange_11 rfl ?_
      refine r_iload_n (pc := 12) dJ20_copyOfRange_12 rfl ?_
      refine r_callS (pc := 13) (kb' := 0) dJ20_copyOfRange_13 kJ20_copyOfRangeByte q799 (t_J20_copyOfRangeByte tg htg hr hij hb) (Nat.le_of_ble_eq_true rfl) (Nat.le_of_ble_eq_true rfl) rfl rfl (Nat.le_of_ble_eq_true rfl) (fun _ _ q => q.elim) (fun _ h hq => ?_)
      refine go_jX hq (fun q hq => ?_)
      exact r_aret (pc := 16) dJ20_copyOfRange_16 rfl (Or.inr ⟨_, rfl⟩) (Or.inr ⟨_, rfl⟩) ⟨q, rfl, hq⟩
