set_option maxRecDepth 100000
theorem cuJ6_104_14 {G : Gl} : CUok G "java/lang/AbstractStringBuilder" "java/lang/StringBuilder" "java/lang/AbstractStringBuilder" 104 ⟨"java/lang/AbstractStringBuilder", "newCapacity", "(I)I"⟩ yJ6_newCapacity cJ6_newCapacity 6 (some .int) 1 := cu_P q638 q3223 q639 q291 ⟨q640, q114, q641, ⟨by decide, by decide⟩, by decide +kernel, by decide⟩
/-! JDK, part 12: StringBuilder -/
def SBc (t : Tg) (a n : Nat) (c : Nat → Int) (cap : Nat) (h : Hp) : Prop :=
  ∃ (v : Nat) (f : Nat → Int32) (ml : Int), h a = some (t, ob 14 [.ref v, .int (iZ 0), .int (iZ ml), .int (iZ n)]) ∧ h v = some (t, aI .byte cap f) ∧ (n ≤ cap ∧ (cap = 16 ∨ cap = 34 ∨ cap = 70)) ∧ (∀ i, i < n → f i = iZ (c i) ∧ 0 ≤ c i ∧ c i < 128) ∧ (∀ i, i < cap → fits .byte (.int (f i)) = true)
def SB (t : Tg) (a n : Nat) (c : Nat → Int) (h : Hp) : Prop := ∃ cap, SBc t a n c cap h
theorem SBc.fr {t : Tg} {a n cap : Nat} {c : Nat → Int} {h h' : Hp} {P : Tg → Prop} (hA : SBc t a n c cap h) (hf : Fr P h h') (h1 : ¬ P t) : SBc t a n c cap h' := by
  obtain ⟨v, f, ml, q1, q2, q3, q4, q5⟩ := hA
  exact ⟨v, f, ml, hf.get q1 h1, hf.get q2 h1, q3, q4, q5⟩
theorem SB.fr {t : Tg} {a n : Nat} {c : Nat → Int} {h h' : Hp} {P : Tg → Prop} (hA : SB t a n c h) (hf : Fr P h h') (h1 : ¬ P t) : SB t a n c h' := by
  obtain ⟨cap, hA⟩ := hA
  exact ⟨cap, hA.fr hf h1⟩
theorem SB.cg {t : Tg} {a n : Nat} {c c' : Nat → Int} {h : Hp} (hA : SB t a n c h) (he : ∀ i, i < n → c' i = c i) : SB t a n c' h := by
  obtain ⟨cap, v, f, ml, q1, q2, q3, q4, q5⟩ := hA
  exact ⟨cap, v, f, ml, q1, q2, q3, fun i hi => by rw [he i hi]; exact q4 i hi, q5⟩
theorem SB.obj {t : Tg} {a n : Nat} {c : Nat → Int} {h : Hp} (hA : SB t a n c h) : ∃ v ml, h a = some (t, ob 14 [v, .int (iZ 0), ml, .int (iZ n)]) := by
  obtain ⟨cap, v, f, ml, q1, q2, q3, q4, q5⟩ := hA
  exact ⟨_, _, q1⟩
/-- a text in a String -/
def ST (t t2 : Tg) (a n : Nat) (c : Nat → Int) (h : Hp) : Prop :=
  ∃ (v : Nat) (f : Nat → Int32) (hs hz : Value), h a = some (t, ob 15 [.ref v, .int (iZ 0), hs, hz]) ∧ h v = some (t2, aI .byte n f) ∧ n ≤ 100 ∧ (∀ i, i < n → f i = iZ (c i) ∧ 0 ≤ c i ∧ c i < 128)
theorem ST.fr {t t2 : Tg} {a n : Nat} {c : Nat → Int} {h h' : Hp} {P : Tg → Prop} (hA : ST t t2 a n c h) (hf : Fr P h h') (h1 : ¬ P t) (h2 : ¬ P t2) : ST t t2 a n c h' := by
  obtain ⟨v, f, hs, hz, q1, q2, q3, q4⟩ := hA
  exact ⟨v, f, hs, hz, hf.get q1 h1, hf.get q2 h2, q3, q4⟩
theorem ST.cg {t t2 : Tg} {a n : Nat} {c c' : Nat → Int} {h : Hp} (hA : ST t t2 a n c h) (he : ∀ i, i < n → c' i = c i) : ST t t2 a n c' h := by
  obtain ⟨v, f, hs, hz, q1, q2, q3, q4⟩ := hA
  exact ⟨v, f, hs, hz, q1, q2, q3, fun i hi => by rw [he i hi]; exact q4 i hi⟩
theorem sbE {h : Hp} {x : Nat} {t : Tg} {m v1 v2 v3 w3 : Value} (hx : h x = some (t, ob 14 [m, v1, v2, v3])) (e3 : v3 = w3) : h x = some (t, ob 14 [m, v1, v2, w3]) := by rw [hx, e3]
theorem aI0 {h : Hp} {x n : Nat} {t : Tg} {f g : Nat → Int32} (hx : h x = some (t, aI .byte n f)) (e : f = g) : h x = some (t, aI .byte n g) := by rw [hx, e]

theorem t_J6_init {G : Gl} {h : Hp} {a : Nat} {t : Tg} (ha : h a = some (t, ob 14 [.null, .int 0, .int 0, .int 0])) (ht : t ≠ frz) : Ct G 1 17 yJ6_init (Cond.code yJ6_init cJ6_init 2 (none)) [.ref a, .int (iZ 16)] h (jN (fun h' => SB t a 0 (fun _ => 0) h' ∧ Fr (fun x => x = t) h h')) noX := by
  have hp := PW.one ha
  refine Ct.of (own := "java/lang/AbstractStringBuilder") (nm := "<init>") (by decide +kernel) rfl rfl (L := [some (.ref a), some (.int (iZ 16))]) rfl (Nat.le_of_ble_eq_true rfl) rfl ?_
  refine r_aload_n (pc := 0) dJ6_init_0 rfl ?_
  refine r_objInit (pc := 1) dJ6_init_1 q298 q169 q170 (by decide) (Nat.le_of_ble_eq_true rfl) ?_
  refine r_gets (pc := 4) dJ6_init_4 1 rfl q299 rfl ?_
  refine go_ci (z := 1) rfl ?_
  refine r_if_eq (pc := 7) (tgt := 25) dJ6_init_7 (by decide) (by decide) (fun q => absurd q (by decide)) (fun _ => ?_)
  refine r_aload_n (pc := 10) dJ6_init_10 rfl ?_
  refine r_iload_n (pc := 11) dJ6_init_11 rfl ?_
  refine r_newB (pc := 12) (N := 16) (kb' := 0) (t) dJ6_init_12 q322 rfl (by omega) (Nat.le_of_ble_eq_true rfl) (fun w hw zw => ?_)
  refine go_pw (hp.new hw _) (fun h hp => ?_)
  refine pJ6_15_14 (pc := 14) dJ6_init_14 rfl rfl rfl (hp.at 0 rfl) ht (Nat.le_of_ble_eq_true rfl) ?_
  refine go_pw (hp.put 0 rfl) (fun h hp => ?_)
  refine r_aload_n (pc := 17) dJ6_init_17 rfl ?_
  refine r_iconst (pc := 18) dJ6_init_18 ?_
  refine pJ6_22_14 (pc := 19) dJ6_init_19 rfl (by decide) (by decide) (hp.at 0 rfl) ht (Nat.le_of_ble_eq_true rfl) ?_
  refine go_pw (hp.put 0 rfl) (fun h hp => ?_)
  refine r_goto (pc := 22) (tgt := 38) dJ6_init_22 (by decide) ?_
  exact r_vret (pc := 38) dJ6_init_38 rfl ⟨rfl, ⟨16, w, _, 0, hp.at 0 rfl, hp.at 1 rfl, ⟨by omega, by omega⟩, fun i hi => absurd hi (by omega), fun i hi => rfl⟩, hp.fr ⟨FA.t ha, Or.inl hw, trivial⟩⟩
theorem t_J7_init {G : Gl} {h : Hp} {a : Nat} {t : Tg} (ha : h a = some (t, ob 14 [.null, .int 0, .int 0, .int 0])) (ht : t ≠ frz) : Ct G 2 17 yJ7_init (Cond.code yJ7_init cJ7_init 1 (none)) [.ref a] h (jN (fun h' => SB t a 0 (fun _ => 0) h' ∧ Fr (fun x => x = t) h h')) noX := by
  refine Ct.of (own := "java/lang/StringBuilder") (nm := "<init>") (by decide +kernel) rfl rfl (L := [some (.ref a)]) rfl (Nat.le_of_ble_eq_true rfl) rfl ?_
  refine r_aload_n (pc := 0) dJ7_init_0 rfl ?_
  refine r_bipush (pc := 1) dJ7_init_1 (by decide) ?_
  refine r_callI (pc := 3) (kb' := 0) dJ7_init_3 kJ6_init q295 (t_J6_init ha ht) (Nat.le_of_ble_eq_true rfl) (Nat.le_of_ble_eq_true rfl) rfl rfl (Nat.le_of_ble_eq_true rfl) (fun _ _ q => q.elim) (fun _ h hq => ?_)
  refine go_jN hq (fun hq => ?_)
  exact r_vret (pc := 6) dJ7_init_6 rfl ⟨rfl, hq⟩
theorem t_J6_isLatin1 {G : Gl} {h : Hp} {a n cap : Nat} {t : Tg} {c : Nat → Int} (hA : SBc t a n c cap h) : Ct G 1 0 yJ6_isLatin1 (Cond.code yJ6_isLatin1 cJ6_isLatin1 1 (some .boolean)) [.ref a] h (jE (.int (iZ 1)) h) noX := by
  have hA0 := hA
  obtain ⟨v, f, ml, q1, q2, q3, q4, q5⟩ := hA0
  refine Ct.of (own := "java/lang/AbstractStringBuilder") (nm := "isLatin1") (by decide +kernel) rfl rfl (L := [some (.ref a)]) rfl (Nat.le_of_ble_eq_true rfl) rfl ?_
  refine r_gets (pc := 0) dJ6_isLatin1_0 1 rfl q299 rfl ?_
  refine go_ci (z := 1) rfl ?_
  refine r_if_eq (pc := 3) (tgt := 17) dJ6_isLatin1_3 (by decide) (by decide) (fun q => absurd q (by decide)) (fun _ => ?_)
  refine r_aload_n (pc := 6) dJ6_isLatin1_6 rfl ?_
  refine gJ6_22_14 (pc := 7) dJ6_isLatin1_7 q1 rfl ?_
  refine r_if_ne (pc := 10) (tgt := 17) dJ6_isLatin1_10 (by decide) (by decide) (fun q => absurd q (by decide)) (fun _ => ?_)
  refine r_iconst (pc := 13) dJ6_isLatin1_13 ?_
  refine r_goto (pc := 14) (tgt := 18) dJ6_isLatin1_14 (by decide) ?_
  exact r_iret (pc := 18) dJ6_isLatin1_18 rfl (nB' (by first | (left; rfl) | (right; rfl) | exact bZ_01' _ | omega)) ⟨rfl, rfl⟩
theorem t_J6_length {G : Gl} {h : Hp} {a n cap : Nat} {t : Tg} {c : Nat → Int} (hA : SBc t a n c cap h) : Ct G 1 0 yJ6_length (Cond.code yJ6_length cJ6_length 1 (some .int)) [.ref a] h (jE (.int (iZ n)) h) noX := by
  have hA0 := hA
  obtain ⟨v, f, ml, q1, q2, q3, q4, q5⟩ := hA0
  refine Ct.of (own := "java/lang/AbstractStringBuilder") (nm := "length") (by decide +kernel) rfl rfl (L := [some (.ref a)]) rfl (Nat.le_of_ble_eq_true rfl) rfl ?_
  refine r_aload_n (pc := 0) dJ6_length_0 rfl ?_
  refine gJ6_79_14 (pc := 1) dJ6_length_1 q1 rfl ?_
  exact r_iret (pc := 4) dJ6_length_4 rfl rfl ⟨rfl, rfl⟩
theorem t_J6_getValue {G : Gl} {h : Hp} {a v : Nat} {t : Tg} {x y z : Value} (q1 : h a = some (t, ob 14 [.ref v, x, y, z])) : Ct G 1 0 yJ6_getValue (Cond.code yJ6_getValue cJ6_getValue 1 (some (.array .byte))) [.ref a] h (jE (.ref v) h) noX := by
  refine Ct.of (own := "java/lang/AbstractStringBuilder") (nm := "getValue") (by decide +kernel) rfl rfl (L := [some (.ref a)]) rfl (Nat.le_of_ble_eq_true rfl) rfl ?_
  refine r_aload_n (pc := 0) dJ6_getValue_0 rfl ?_
  refine gJ6_15_14 (pc := 1) dJ6_getValue_1 q1 rfl ?_
  exact r_aret (pc := 4) dJ6_getValue_4 rfl (Or.inr ⟨_, rfl⟩) (Or.inr ⟨_, rfl⟩) ⟨rfl, rfl⟩
theorem t_J6_newCapacity {G : Gl} {h : Hp} {a n cap : Nat} {t : Tg} {c : Nat → Int} (hA : SBc t a n c cap h) {m : Nat} (hm : cap < m ∧ m ≤ 2 * cap + 2) : Ct G 3 0 yJ6_newCapacity (Cond.code yJ6_newCapacity cJ6_newCapacity 6 (some .int)) [.ref a, .int (iZ m)] h (jE (.int (iZ (2 * cap + 2))) h) noX := by
  have hA0 := hA
  obtain ⟨v, f, ml, q1, q2, q3, q4, q5⟩ := hA0
  refine Ct.of (own := "java/lang/AbstractStringBuilder") (nm := "newCapacity") (by decide +kernel) rfl rfl (L := [some (.ref a), some (.int (iZ m)), none, none, none, none]) rfl (Nat.le_of_ble_eq_true rfl) rfl ?_
  refine r_aload_n (pc := 0) dJ6_newCapacity_0 rfl ?_
  refine gJ6_15_14 (pc := 1) dJ6_newCapacity_1 q1 rfl ?_
  refine r_alen (pc := 4) dJ6_newCapacity_4 (by decide) q2 (by omega) ?_
  refine r_istore_n (pc := 5) (L' := [_, _, _, _, _, _]) dJ6_newCapacity_5 rfl ?_
  refine r_iload_n (pc := 6) dJ6_newCapacity_6 rfl ?_
  refine r_aload_n (pc := 7) dJ6_newCapacity_7 rfl ?_
  refine gJ6_22_14 (pc := 8) dJ6_newCapacity_8 q1 rfl ?_
  refine r_ishl0 (pc := 11) dJ6_newCapacity_11 (by omega) ?_
  refine r_istore_n (pc := 12) (L' := [_, _, _, _, _, _]) dJ6_newCapacity_12 rfl ?_
  refine r_iload_n (pc := 13) dJ6_newCapacity_13 rfl ?_
  refine r_iload_n (pc := 14) dJ6_newCapacity_14 rfl ?_
  refine r_isub (pc := 15) dJ6_newCapacity_15 ?_
  refine r_istore (pc := 16) (L' := [_, _, _, _, _, _]) dJ6_newCapacity_16 rfl ?_
  refine r_iload_n (pc := 18) dJ6_newCapacity_18 rfl ?_
  refine r_iload (pc := 19) dJ6_newCapacity_19 rfl ?_
  refine r_iload_n (pc := 21) dJ6_newCapacity_21 rfl ?_
  refine r_iconst (pc := 22) dJ6_newCapacity_22 ?_
  refine r_aload_n (pc := 23) dJ6_newCapacity_23 rfl ?_
  refine gJ6_22_14 (pc := 24) dJ6_newCapacity_24 q1 rfl ?_
  refine r_ishl0 (pc := 27) dJ6_newCapacity_27 (by omega) ?_
  refine r_iadd (pc := 28) dJ6_newCapacity_28 ?_
  refine r_callS (pc := 29) (kb' := 0) dJ6_newCapacity_29 kJ18_newLength q642 (t_J18_newLength (by omega) (by omega) (by omega)) (Nat.le_refl _) (Nat.le_of_ble_eq_true rfl) rfl rfl (Nat.le_of_ble_eq_true rfl) (fun _ _ q => q.elim) (fun _ _ hq => ?_)
  refine go_jE hq ?_
  refine go_cz (w := 2 * (cap : Int) + 2) (by split <;> omega) ?_
  refine r_istore (pc := 32) (L' := [_, _, _, _, _, _]) dJ6_newCapacity_32 rfl ?_
  refine r_iload (pc := 34) dJ6_newCapacity_34 rfl ?_
  refine r_ldc (pc := 36) dJ6_newCapacity_36 q652 ?_
  refine go_ci (z := 2147483647) rfl ?_
  refine r_icmp_ne (pc := 38) (tgt := 51) dJ6_newCapacity_38 (by decide) (by omega) (by omega) (fun c38 => ?_) (fun c38 => absurd (by omega) c38)
  refine r_iload (pc := 51) dJ6_newCapacity_51 rfl ?_
  refine r_aload_n (pc := 53) dJ6_newCapacity_53 rfl ?_
  refine gJ6_22_14 (pc := 54) dJ6_newCapacity_54 q1 rfl ?_
  refine r_ishr0 (pc := 57) dJ6_newCapacity_57 (by omega) ?_
  exact r_iret (pc := 58) dJ6_newCapacity_58 rfl rfl ⟨rfl, rfl⟩
theorem t_J20_copyOf {G : Gl} {h : Hp} {v cap N : Nat} {t2 : Tg} {f : Nat → Int32} (tg : Tg) (htg : tg ≠ frz) (hr : h v = some (t2, aI .byte cap f)) (hN : cap < N ∧ N ≤ 70) (hb : ∀ i, i < cap → fits .byte (.int (f i)) = true) : Ct G 2 71 yJ20_copyOf (Cond.code yJ20_copyOf cJ20_copyOf 3 (some (.array .byte))) [.ref v, .int (iZ N)] h (jX (fun q h' => h q = none ∧ h' = up h q (tg, aI .byte N (va_cpy f (fun _ => 0) 0 0 cap)))) noX := by
  have hp := PW.nil (h := h)
  refine Ct.of (own := "java/util/Arrays") (nm := "copyOf") (by decide +kernel) rfl rfl (L := [some (.ref v), some (.int (iZ N)), none]) rfl (Nat.le_of_ble_eq_true rfl) rfl ?_
  refine r_iload_n (pc := 0) dJ20_copyOf_0 rfl ?_
  refine r_aload_n (pc := 1) dJ20_copyOf_1 rfl ?_
  refine r_alen (pc := 2) dJ20_copyOf_2 (by decide) hr (by omega) ?_
  refine r_icmp_ne (pc := 3) (tgt := 14) dJ20_copyOf_3 (by decide) (by omega) (by omega) (fun c3 => ?_) (fun c3 => absurd (by omega) c3)
  refine r_iload_n (pc := 14) dJ20_copyOf_14 rfl ?_
  refine r_newB (pc := 15) (N := N) (kb' := 0) (tg) dJ20_copyOf_15 q322 rfl (by omega) (by omega) (fun w hw zw => ?_)
  refine go_pw (hp.new hw _) (fun h hp => ?_)
  refine r_astore_n (pc := 17) (L' := [_, _, _]) dJ20_copyOf_17 rfl ?_
  have hr := (hp.ot (b := v) ⟨(ne_nw hr hw).symm, trivial⟩).trans hr
  refine r_aload_n (pc := 18) dJ20_copyOf_18 rfl ?_
  refine r_iconst (pc := 19) dJ20_copyOf_19 ?_
  refine r_aload_n (pc := 20) dJ20_copyOf_20 rfl ?_
  refine r_iconst (pc := 21) dJ20_copyOf_21 ?_
  refine r_aload_n (pc := 22) dJ20_copyOf_22 rfl ?_
  refine r_alen (pc := 23) dJ20_copyOf_23 (by decide) hr (by omega) ?_
  refine r_iload_n (pc := 24) dJ20_copyOf_24 rfl ?_
  refine r_callS (pc := 25) (kb' := 0) dJ20_copyOf_25 kJ19_min q663 (t_J19_min (by omega) (by omega)) (Nat.le_refl _) (Nat.le_of_ble_eq_true rfl) rfl rfl (Nat.le_of_ble_eq_true rfl) (fun _ _ q => q.elim) (fun _ _ hq => ?_)
  refine go_jE hq ?_
  refine go_cz (w := (cap : Int)) (if_pos (by omega)) ?_
  refine r_copyB (pc := 28) dJ20_copyOf_28 q666 hr (hp.at 0 rfl) htg (by omega) (by omega) (by omega) (by omega) (by omega) (by omega) (by omega) (fun i hi => by simpa using hb i (by omega)) (Nat.le_of_ble_eq_true rfl) (Nat.le_of_ble_eq_true rfl) ?_
  refine go_pw (hp.put 0 rfl) (fun h hp => ?_)
  refine r_aload_n (pc := 31) dJ20_copyOf_31 rfl ?_
  exact r_aret (pc := 32) dJ20_copyOf_32 rfl (Or.inr ⟨_, rfl⟩) (Or.inr ⟨_, rfl⟩) ⟨w, rfl, hw, hp.eq1⟩
theorem t_J6_ensureCapacityInternal {G : Gl} {h : Hp} {a n cap : Nat} {t : Tg} {c : Nat → Int} (hA : SBc t a n c cap h) {m : Nat} (ht : t ≠ frz) (hm : m ≤ 70 ∧ m ≤ 2 * cap + 2) : Ct G 4 71 yJ6_ensureCapacityInternal (Cond.code yJ6_ensureCapacityInternal cJ6_ensureCapacityInternal 3 (none)) [.ref a, .int (iZ m)] h (jN (fun h' => ∃ cap', m ≤ cap' ∧ SBc t a n c cap' h' ∧ Fr (fun x => x = t) h h')) noX := by
  have hA0 := hA
  obtain ⟨v, f, ml, q1, q2, q3, q4, q5⟩ := hA0
  have hp := PW.one q1
  · refine Ct.of (own := "java/lang/AbstractStringBuilder") (nm := "ensureCapacityInternal") (by decide +kernel) rfl rfl (L := [some (.ref a), some (.int (iZ m)), none]) rfl (Nat.le_of_ble_eq_true rfl) rfl ?_
    refine r_aload_n (pc := 0) dJ6_ensureCapacityInternal_0 rfl ?_
    refine gJ6_15_14 (pc := 1) dJ6_ensureCapacityInternal_1 (hp.at 0 rfl) rfl ?_
    refine r_alen (pc := 4) dJ6_ensureCapacityInternal_4 (by decide) q2 (by omega) ?_
    refine r_aload_n (pc := 5) dJ6_ensureCapacityInternal_5 rfl ?_
    refine gJ6_22_14 (pc := 6) dJ6_ensureCapacityInternal_6 (hp.at 0 rfl) rfl ?_
    refine r_ishr0 (pc := 9) dJ6_ensureCapacityInternal_9 (by omega) ?_
    refine r_istore_n (pc := 10) (L' := [_, _, _]) dJ6_ensureCapacityInternal_10 rfl ?_
    refine r_iload_n (pc := 11) dJ6_ensureCapacityInternal_11 rfl ?_
    refine r_iload_n (pc := 12) dJ6_ensureCapacityInternal_12 rfl ?_
    refine r_isub (pc := 13) dJ6_ensureCapacityInternal_13 ?_
    refine r_if_le (pc := 14) (tgt := 38) dJ6_ensureCapacityInternal_14 (by decide) (by omega) (fun c14 => ?_) (fun c14 => ?_)
    · exact r_vret (pc := 38) dJ6_ensureCapacityInternal_38 rfl ⟨rfl, cap, by omega, hA, Fr.rf⟩
    · refine r_aload_n (pc := 17) dJ6_ensureCapacityInternal_17 rfl ?_
      refine r_aload_n (pc := 18) dJ6_ensureCapacityInternal_18 rfl ?_
      refine gJ6_15_14 (pc := 19) dJ6_ensureCapacityInternal_19 (hp.at 0 rfl) rfl ?_
      refine r_aload_n (pc := 22) dJ6_ensureCapacityInternal_22 rfl ?_
      refine r_iload_n (pc := 23) dJ6_ensureCapacityInternal_23 rfl ?_
      refine r_callG (pc := 24) (kb' := 71) dJ6_ensureCapacityInternal_24 cuJ6_104_14 (t_J6_newCapacity hA (by omega)) (hp.at 0 rfl) rfl (Nat.le_refl _) (Nat.le_of_ble_eq_true rfl) rfl rfl (Nat.le_of_ble_eq_true rfl) (fun _ _ q => q.elim) (fun _ _ hq => ?_)
      refine go_jE hq ?_
      refine r_aload_n (pc := 27) dJ6_ensureCapacityInternal_27 rfl ?_
      refine gJ6_22_14 (pc := 28) dJ6_ensureCapacityInternal_28 (hp.at 0 rfl) rfl ?_
      refine r_ishl0 (pc := 31) dJ6_ensureCapacityInternal_31 (by omega) ?_
      refine r_callS (pc := 32) (kb' := 0) dJ6_ensureCapacityInternal_32 kJ20_copyOf q653 (t_J20_copyOf t ht q2 (N := 2 * cap + 2) (by omega) q5) (Nat.le_of_ble_eq_true rfl) (Nat.le_of_ble_eq_true rfl) rfl rfl (Nat.le_of_ble_eq_true rfl) (fun _ _ q => q.elim) (fun _ h hq => ?_)
      refine go_jX hq (fun w hw => ?_)
      obtain ⟨hw, e9⟩ := hw
      subst e9
      refine go_pw (hp.new hw _) (fun h hp => ?_)
      refine pJ6_15_14 (pc := 35) dJ6_ensureCapacityInternal_35 rfl rfl rfl (hp.at 0 rfl) ht (Nat.le_of_ble_eq_true rfl) ?_
      refine go_pw (hp.put 0 rfl) (fun h hp => ?_)
      exact r_vret (pc := 38) dJ6_ensureCapacityInternal_38 rfl ⟨rfl, 2 * cap + 2, by omega, ⟨w, _, ml, hp.at 0 rfl, hp.at 1 rfl, ⟨by omega, by omega⟩, fun i hi => by
          rw [show va_cpy f (fun _ => 0) 0 0 cap i = f i from (pk_cpy_in (by omega) (by omega)).trans (congrArg f (by omega))]
          exact q4 i hi, fun i hi => by
          by_cases hc : i < cap
          · rw [show va_cpy f (fun _ => 0) 0 0 cap i = f i from (pk_cpy_in (by omega) (by omega)).trans (congrArg f (by omega))]
            exact q5 i hc
          · rw [show va_cpy f (fun _ => 0) 0 0 cap i = 0 from pk_cpy_out (by omega)]; rfl⟩, hp.fr ⟨FA.t q1, Or.inl hw, trivial⟩⟩
