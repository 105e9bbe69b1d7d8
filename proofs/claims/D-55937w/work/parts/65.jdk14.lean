set_option maxRecDepth 100000
theorem cuJ6_397_14 {G : Gl} : CUok G "java/lang/AbstractStringBuilder" "java/lang/StringBuilder" "java/lang/AbstractStringBuilder" 397 ⟨"java/lang/AbstractStringBuilder", "inflateIfNeededFor", "(Ljava/lang/String;)V"⟩ yJ6_inflateIfNeededFor cJ6_inflateIfNeededFor 2 (none) 1 := cu_P q713 q3225 q714 q291 ⟨q715, q114, q716, ⟨by decide, by decide⟩, by decide +kernel, by decide⟩
theorem cuJ6_208_14 {G : Gl} : CUok G "java/lang/AbstractStringBuilder" "java/lang/StringBuilder" "java/lang/AbstractStringBuilder" 208 ⟨"java/lang/AbstractStringBuilder", "putStringAt", "(ILjava/lang/String;)V"⟩ yJ6_putStringAt cJ6_putStringAt 3 (none) 2 := cu_P q709 q3224 q710 q291 ⟨q711, q114, q712, ⟨by decide, by decide⟩, by decide +kernel, by decide⟩
/-! JDK, part 14: Strings; StringBuilder with Strings -/
theorem t_J8_coder {G : Gl} {h : Hp} {s k : Nat} {ts ts2 : Tg} {e : Nat → Int} (hS : ST ts ts2 s k e h) : Ct G 1 0 yJ8_coder (Cond.code yJ8_coder cJ8_coder 1 (some .byte)) [.ref s] h (jE (.int (iZ 0)) h) noX := by
  have hS0 := hS
  obtain ⟨u, g, hs, hz, s1, s2, s3, s4⟩ := hS0
  refine Ct.of (own := "java/lang/String") (nm := "coder") (by decide +kernel) rfl rfl (L := [some (.ref s)]) rfl (Nat.le_of_ble_eq_true rfl) rfl ?_
  refine r_gets (pc := 0) dJ8_coder_0 1 rfl q708 rfl ?_
  refine go_ci (z := 1) rfl ?_
  refine r_if_eq (pc := 3) (tgt := 13) dJ8_coder_3 (by decide) (by decide) (fun q => absurd q (by decide)) (fun _ => ?_)
  refine r_aload_n (pc := 6) dJ8_coder_6 rfl ?_
  refine gJ8_15 (pc := 7) dJ8_coder_7 s1 rfl ?_
  refine r_goto (pc := 10) (tgt := 14) dJ8_coder_10 (by decide) ?_
  exact r_iret (pc := 14) dJ8_coder_14 rfl (nY (by omega)) ⟨rfl, rfl⟩
theorem t_J8_isLatin1 {G : Gl} {h : Hp} {s k : Nat} {ts ts2 : Tg} {e : Nat → Int} (hS : ST ts ts2 s k e h) : Ct G 1 0 yJ8_isLatin1 (Cond.code yJ8_isLatin1 cJ8_isLatin1 1 (some .boolean)) [.ref s] h (jE (.int (iZ 1)) h) noX := by
  have hS0 := hS
  obtain ⟨u, g, hs, hz, s1, s2, s3, s4⟩ := hS0
  refine Ct.of (own := "java/lang/String") (nm := "isLatin1") (by decide +kernel) rfl rfl (L := [some (.ref s)]) rfl (Nat.le_of_ble_eq_true rfl) rfl ?_
  refine r_gets (pc := 0) dJ8_isLatin1_0 1 rfl q708 rfl ?_
  refine go_ci (z := 1) rfl ?_
  refine r_if_eq (pc := 3) (tgt := 17) dJ8_isLatin1_3 (by decide) (by decide) (fun q => absurd q (by decide)) (fun _ => ?_)
  refine r_aload_n (pc := 6) dJ8_isLatin1_6 rfl ?_
  refine gJ8_15 (pc := 7) dJ8_isLatin1_7 s1 rfl ?_
  refine r_if_ne (pc := 10) (tgt := 17) dJ8_isLatin1_10 (by decide) (by decide) (fun q => absurd q (by decide)) (fun _ => ?_)
  refine r_iconst (pc := 13) dJ8_isLatin1_13 ?_
  refine r_goto (pc := 14) (tgt := 18) dJ8_isLatin1_14 (by decide) ?_
  exact r_iret (pc := 18) dJ8_isLatin1_18 rfl (nB' (by first | (left; rfl) | (right; rfl) | exact bZ_01' _ | omega)) ⟨rfl, rfl⟩
theorem t_J8_length {G : Gl} {h : Hp} {s k : Nat} {ts ts2 : Tg} {e : Nat → Int} (hS : ST ts ts2 s k e h) : Ct G 2 0 yJ8_length (Cond.code yJ8_length cJ8_length 1 (some .int)) [.ref s] h (jE (.int (iZ k)) h) noX := by
  have hS0 := hS
  obtain ⟨u, g, hs, hz, s1, s2, s3, s4⟩ := hS0
  refine Ct.of (own := "java/lang/String") (nm := "length") (by decide +kernel) rfl rfl (L := [some (.ref s)]) rfl (Nat.le_of_ble_eq_true rfl) rfl ?_
  refine r_aload_n (pc := 0) dJ8_length_0 rfl ?_
  refine gJ8_9 (pc := 1) dJ8_length_1 s1 rfl ?_
  refine r_alen (pc := 4) dJ8_length_4 (by decide) s2 (by omega) ?_
  refine r_aload_n (pc := 5) dJ8_length_5 rfl ?_
  refine r_callV (pc := 6) (kb' := 0) dJ8_length_6 kJ8_coder q704 (t_J8_coder hS) s1 rfl (Nat.le_refl _) (Nat.le_of_ble_eq_true rfl) rfl rfl (Nat.le_of_ble_eq_true rfl) (fun _ _ q => q.elim) (fun _ _ hq => ?_)
  refine go_jE hq ?_
  refine r_ishr0 (pc := 9) dJ8_length_9 (by omega) ?_
  exact r_iret (pc := 10) dJ8_length_10 rfl rfl ⟨rfl, rfl⟩
theorem t_J8_checkIndex {G : Gl} {h : Hp} {i n : Int} (h0 : 0 ≤ i) (h1 : i < n) (h2 : n < 2147483648) : Ct G 2 0 yJ8_checkIndex (Cond.code yJ8_checkIndex cJ8_checkIndex 2 (none)) [.int (iZ i), .int (iZ n)] h (jN (· = h)) noX := by
  refine Ct.of (own := "java/lang/String") (nm := "checkIndex") (by decide +kernel) rfl rfl (L := [some (.int (iZ i)), some (.int (iZ n))]) rfl (Nat.le_of_ble_eq_true rfl) rfl ?_
  refine r_iload_n (pc := 0) dJ8_checkIndex_0 rfl ?_
  refine r_iload_n (pc := 1) dJ8_checkIndex_1 rfl ?_
  refine r_gets (pc := 2) dJ8_checkIndex_2 8 rfl q686 rfl ?_
  refine r_callS (pc := 5) (kb' := 0) dJ8_checkIndex_5 kJ16_checkIndex q1323 (t_J16_checkIndex (x := gS G 4) (by omega) (by omega) (by omega)) (Nat.le_refl _) (Nat.le_of_ble_eq_true rfl) rfl rfl (Nat.le_of_ble_eq_true rfl) (fun _ _ q => q.elim) (fun _ _ hq => ?_)
  refine go_jE hq ?_
  refine r_pop (pc := 8) dJ8_checkIndex_8 rfl ?_
  exact r_vret (pc := 9) dJ8_checkIndex_9 rfl ⟨rfl, rfl⟩
theorem t_J8_checkBoundsBeginEnd {G : Gl} {h : Hp} {i j n : Int} (h0 : 0 ≤ i) (h1 : i ≤ j) (h2 : j ≤ n) (h3 : n < 2147483648) : Ct G 2 0 yJ8_checkBoundsBeginEnd (Cond.code yJ8_checkBoundsBeginEnd cJ8_checkBoundsBeginEnd 3 (none)) [.int (iZ i), .int (iZ j), .int (iZ n)] h (jN (· = h)) noX := by
  refine Ct.of (own := "java/lang/String") (nm := "checkBoundsBeginEnd") (by decide +kernel) rfl rfl (L := [some (.int (iZ i)), some (.int (iZ j)), some (.int (iZ n))]) rfl (Nat.le_of_ble_eq_true rfl) rfl ?_
  refine r_iload_n (pc := 0) dJ8_checkBoundsBeginEnd_0 rfl ?_
  refine r_iload_n (pc := 1) dJ8_checkBoundsBeginEnd_1 rfl ?_
  refine r_iload_n (pc := 2) dJ8_checkBoundsBeginEnd_2 rfl ?_
  refine r_gets (pc := 3) dJ8_checkBoundsBeginEnd_3 8 rfl q686 rfl ?_
  refine r_callS (pc := 6) (kb' := 0) dJ8_checkBoundsBeginEnd_6 kJ16_checkFromToIndex q688 (t_J16_checkFromToIndex (x := gS G 4) (by omega) (by omega) (by omega) (by omega)) (Nat.le_refl _) (Nat.le_of_ble_eq_true rfl) rfl rfl (Nat.le_of_ble_eq_true rfl) (fun _ _ q => q.elim) (fun _ _ hq => ?_)
  refine go_jE hq ?_
  refine r_pop (pc := 9) dJ8_checkBoundsBeginEnd_9 rfl ?_
  exact r_vret (pc := 10) dJ8_checkBoundsBeginEnd_10 rfl ⟨rfl, rfl⟩
theorem t_J21_charAt {G : Gl} {h : Hp} {u n i : Nat} {t : Tg} {f : Nat → Int32} {c : Int} (hu : h u = some (t, aI .byte n f)) (hi : i < n ∧ n ≤ 100) (hf : f i = iZ c) (hc : 0 ≤ c ∧ c < 128) : Ct G 3 0 yJ21_charAt (Cond.code yJ21_charAt cJ21_charAt 2 (some .char)) [.ref u, .int (iZ i)] h (jE (.int (iZ c)) h) noX := by
  refine Ct.of (own := "java/lang/StringLatin1") (nm := "charAt") (by decide +kernel) rfl rfl (L := [some (.ref u), some (.int (iZ i))]) rfl (Nat.le_of_ble_eq_true rfl) rfl ?_
  refine r_iload_n (pc := 0) dJ21_charAt_0 rfl ?_
  refine r_aload_n (pc := 1) dJ21_charAt_1 rfl ?_
  refine r_alen (pc := 2) dJ21_charAt_2 (by decide) hu (by omega) ?_
  refine r_callS (pc := 3) (kb' := 0) dJ21_charAt_3 kJ8_checkIndex q2332 (t_J8_checkIndex (by omega) (by omega) (by omega)) (Nat.le_refl _) (Nat.le_of_ble_eq_true rfl) rfl rfl (Nat.le_of_ble_eq_true rfl) (fun _ _ q => q.elim) (fun _ h hq => ?_)
  refine go_jN hq (fun e => ?_)
  subst e
  refine r_aload_n (pc := 6) dJ21_charAt_6 rfl ?_
  refine r_iload_n (pc := 7) dJ21_charAt_7 rfl ?_
  refine r_bald (pc := 8) dJ21_charAt_8 hu (by omega) (by omega) (by omega) ?_
  refine go_ci (z := c) hf ?_
  refine r_sipush (pc := 9) dJ21_charAt_9 (by decide) ?_
  refine r_and255 (pc := 12) dJ21_charAt_12 (by omega) ?_
  refine r_i2c (pc := 13) dJ21_charAt_13 (i2cZ2 (by omega)) ?_
  exact r_iret (pc := 14) dJ21_charAt_14 rfl (nC (by omega)) ⟨rfl, rfl⟩
theorem t_J8_charAt {G : Gl} {h : Hp} {s k : Nat} {ts ts2 : Tg} {e : Nat → Int} (hS : ST ts ts2 s k e h) {i : Nat} (hi : i < k) : Ct G 4 0 yJ8_charAt (Cond.code yJ8_charAt cJ8_charAt 2 (some .char)) [.ref s, .int (iZ i)] h (jE (.int (iZ (e i))) h) noX := by
  have hS0 := hS
  obtain ⟨u, g, hs, hz, s1, s2, s3, s4⟩ := hS0
  have s5 := s4 i hi
  refine Ct.of (own := "java/lang/String") (nm := "charAt") (by decide +kernel) rfl rfl (L := [some (.ref s), some (.int (iZ i))]) rfl (Nat.le_of_ble_eq_true rfl) rfl ?_
  refine r_aload_n (pc := 0) dJ8_charAt_0 rfl ?_
  refine r_callV (pc := 1) (kb' := 0) dJ8_charAt_1 kJ8_isLatin1 q2251 (t_J8_isLatin1 hS) s1 rfl (Nat.le_refl _) (Nat.le_of_ble_eq_true rfl) rfl rfl (Nat.le_of_ble_eq_true rfl) (fun _ _ q => q.elim) (fun _ _ hq => ?_)
  refine go_jE hq ?_
  refine r_if_eq (pc := 4) (tgt := 16) dJ8_charAt_4 (by decide) (by decide) (fun q => absurd q (by decide)) (fun _ => ?_)
  refine r_aload_n (pc := 7) dJ8_charAt_7 rfl ?_
  refine gJ8_9 (pc := 8) dJ8_charAt_8 s1 rfl ?_
  refine r_iload_n (pc := 11) dJ8_charAt_11 rfl ?_
  refine r_callS (pc := 12) (kb' := 0) dJ8_charAt_12 kJ21_charAt q2329 (t_J21_charAt s2 ⟨hi, s3⟩ s5.1 s5.2) (Nat.le_refl _) (Nat.le_of_ble_eq_true rfl) rfl rfl (Nat.le_of_ble_eq_true rfl) (fun _ _ q => q.elim) (fun _ _ hq => ?_)
  refine go_jE hq ?_
  exact r_iret (pc := 15) dJ8_charAt_15 rfl (nC (by omega)) ⟨rfl, rfl⟩
theorem t_J8_getBytes {G : Gl} {h : Hp} {s k : Nat} {ts ts2 : Tg} {e : Nat → Int} (hS : ST ts ts2 s k e h) {v n cap : Nat} {t : Tg} {f : Nat → Int32} (q2 : h v = some (t, aI .byte cap f)) (ht : t ≠ frz) (hn : n + k ≤ cap ∧ cap ≤ 100) : Ct G 2 0 yJ8_getBytes (Cond.code yJ8_getBytes cJ8_getBytes 4 (none)) [.ref s, .ref v, .int (iZ n), .int (iZ 0)] h (jN (fun h' => ∃ g, (∀ i, i < k → g i = iZ (e i)) ∧ h' = up h v (t, aI .byte cap (va_cpy g f 0 n k)))) noX := by
  have hS0 := hS
  obtain ⟨u, g, hs, hz, s1, s2, s3, s4⟩ := hS0
  refine Ct.of (own := "java/lang/String") (nm := "getBytes") (by decide +kernel) rfl rfl (L := [some (.ref s), some (.ref v), some (.int (iZ n)), some (.int (iZ 0))]) rfl (Nat.le_of_ble_eq_true rfl) rfl ?_
  refine r_aload_n (pc := 0) dJ8_getBytes_0 rfl ?_
  refine r_callV (pc := 1) (kb' := 0) dJ8_getBytes_1 kJ8_coder q704 (t_J8_coder hS) s1 rfl (Nat.le_refl _) (Nat.le_of_ble_eq_true rfl) rfl rfl (Nat.le_of_ble_eq_true rfl) (fun _ _ q => q.elim) (fun _ _ hq => ?_)
  refine go_jE hq ?_
  refine r_iload_n (pc := 4) dJ8_getBytes_4 rfl ?_
  refine r_icmp_ne (pc := 5) (tgt := 28) dJ8_getBytes_5 (by decide) (by omega) (by omega) (fun c5 => absurd rfl c5) (fun c5 => ?_)
  refine r_aload_n (pc := 8) dJ8_getBytes_8 rfl ?_
  refine gJ8_9 (pc := 9) dJ8_getBytes_9 s1 rfl ?_
  refine r_iconst (pc := 12) dJ8_getBytes_12 ?_
  refine r_aload_n (pc := 13) dJ8_getBytes_13 rfl ?_
  refine r_iload_n (pc := 14) dJ8_getBytes_14 rfl ?_
  refine r_iload_n (pc := 15) dJ8_getBytes_15 rfl ?_
  refine r_ishl0 (pc := 16) dJ8_getBytes_16 (by omega) ?_
  refine r_aload_n (pc := 17) dJ8_getBytes_17 rfl ?_
  refine gJ8_9 (pc := 18) dJ8_getBytes_18 s1 rfl ?_
  refine r_alen (pc := 21) dJ8_getBytes_21 (by decide) s2 (by omega) ?_
  refine r_copyB (pc := 22) dJ8_getBytes_22 q741 s2 q2 ht (by omega) (by omega) (by omega) (by omega) (by omega) (by omega) (by omega) (fun i hi => by
      have s5 := s4 i (by omega)
      rw [show (0 : Int).toNat + i = i by omega, s5.1]
      exact fY (by omega)) (Nat.le_of_ble_eq_true rfl) (Nat.le_of_ble_eq_true rfl) ?_
  
  refine r_goto (pc := 25) (tgt := 43) dJ8_getBytes_25 (by decide) ?_
  exact r_vret (pc := 43) dJ8_getBytes_43 rfl ⟨rfl, g, fun i hi => (s4 i hi).1, rfl⟩
theorem t_J6_inflateIfNeededFor {G : Gl} {h : Hp} {s k : Nat} {ts ts2 : Tg} {e : Nat → Int} (hS : ST ts ts2 s k e h) {a : Nat} {t : Tg} {x y z : Value} (q1 : h a = some (t, ob 14 [x, .int (iZ 0), y, z])) : Ct G 2 0 yJ6_inflateIfNeededFor (Cond.code yJ6_inflateIfNeededFor cJ6_inflateIfNeededFor 2 (none)) [.ref a, .ref s] h (jN (· = h)) noX := by
  have hS0 := hS
  obtain ⟨u, g, hs, hz, s1, s2, s3, s4⟩ := hS0
  refine Ct.of (own := "java/lang/AbstractStringBuilder") (nm := "inflateIfNeededFor") (by decide +kernel) rfl rfl (L := [some (.ref a), some (.ref s)]) rfl (Nat.le_of_ble_eq_true rfl) rfl ?_
  refine r_gets (pc := 0) dJ6_inflateIfNeededFor_0 1 rfl q299 rfl ?_
  refine go_ci (z := 1) rfl ?_
  refine r_if_eq (pc := 3) (tgt := 21) dJ6_inflateIfNeededFor_3 (by decide) (by decide) (fun q => absurd q (by decide)) (fun _ => ?_)
  refine r_aload_n (pc := 6) dJ6_inflateIfNeededFor_6 rfl ?_
  refine gJ6_22_14 (pc := 7) dJ6_inflateIfNeededFor_7 q1 rfl ?_
  refine r_aload_n (pc := 10) dJ6_inflateIfNeededFor_10 rfl ?_
  refine r_callV (pc := 11) (kb' := 0) dJ6_inflateIfNeededFor_11 kJ8_coder q717 (t_J8_coder hS) s1 rfl (Nat.le_refl _) (Nat.le_of_ble_eq_true rfl) rfl rfl (Nat.le_of_ble_eq_true rfl) (fun _ _ q => q.elim) (fun _ _ hq => ?_)
  refine go_jE hq ?_
  refine r_icmp_eq (pc := 14) (tgt := 21) dJ6_inflateIfNeededFor_14 (by decide) (by omega) (by omega) (fun c14 => ?_) (fun c14 => absurd rfl c14)
  exact r_vret (pc := 21) dJ6_inflateIfNeededFor_21 rfl ⟨rfl, rfl⟩
theorem t_J6_putStringAt {G : Gl} {h : Hp} {s k : Nat} {ts ts2 : Tg} {e : Nat → Int} (hS : ST ts ts2 s k e h) {a v n cap : Nat} {t : Tg} {f : Nat → Int32} {y z : Value} (q1 : h a = some (t, ob 14 [.ref v, .int (iZ 0), y, z])) (q2 : h v = some (t, aI .byte cap f)) (ht : t ≠ frz) (hn : n + k ≤ cap ∧ cap ≤ 100) : Ct G 3 0 yJ6_putStringAt (Cond.code yJ6_putStringAt cJ6_putStringAt 3 (none)) [.ref a, .int (iZ n), .ref s] h (jN (fun h' => ∃ g, (∀ i, i < k → g i = iZ (e i)) ∧ h' = up h v (t, aI .byte cap (va_cpy g f 0 n k)))) noX := by
  have hS0 := hS
  obtain ⟨u, g, hs, hz, s1, s2, s3, s4⟩ := hS0
  refine Ct.of (own := "java/lang/AbstractStringBuilder") (nm := "putStringAt") (by decide +kernel) rfl rfl (L := [some (.ref a), some (.int (iZ n)), some (.ref s)]) rfl (Nat.le_of_ble_eq_true rfl) rfl ?_
  refine r_aload_n (pc := 0) dJ6_putStringAt_0 rfl ?_
  refine r_aload_n (pc := 1) dJ6_putStringAt_1 rfl ?_
  refine r_callG (pc := 2) (kb' := 0) dJ6_putStringAt_2 cuJ6_397_14 (t_J6_inflateIfNeededFor hS q1) q1 rfl (Nat.le_refl _) (Nat.le_of_ble_eq_true rfl) rfl rfl (Nat.le_of_ble_eq_true rfl) (fun _ _ q => q.elim) (fun _ h hq => ?_)
  refine go_jN hq (fun e => ?_)
  subst e
  refine r_aload_n (pc := 5) dJ6_putStringAt_5 rfl ?_
  refine r_aload_n (pc := 6) dJ6_putStringAt_6 rfl ?_
  refine gJ6_15_14 (pc := 7) dJ6_putStringAt_7 q1 rfl ?_
  refine r_iload_n (pc := 10) dJ6_putStringAt_10 rfl ?_
  refine r_aload_n (pc := 11) dJ6_putStringAt_11 rfl ?_
  refine gJ6_22_14 (pc := 12) dJ6_putStringAt_12 q1 rfl ?_
  refine r_callV (pc := 15) (kb' := 0) dJ6_putStringAt_15 kJ8_getBytes q737 (t_J8_getBytes hS q2 ht hn) s1 rfl (Nat.le_refl _) (Nat.le_of_ble_eq_true rfl) rfl rfl (Nat.le_of_ble_eq_true rfl) (fun _ _ q => q.elim) (fun _ h hq => ?_)
  refine go_jN hq (fun hq => ?_)
  exact r_vret (pc := 18) dJ6_putStringAt_18 rfl ⟨rfl, hq⟩
theorem t_J6_append {G : Gl} {h : Hp} {a n : Nat} {t : Tg} {c : Nat → Int} (hA : SB t a n c h) (ht : t ≠ frz) {s k : Nat} {ts ts2 : Tg} {e : Nat → Int} (hS : ST ts ts2 s k e h) (hts : ts ≠ t) (hts2 : ts2 ≠ t) (hn : n < 60 ∧ k ≤ 10) : Ct G 5 71 yJ6_append (Cond.code yJ6_append cJ6_append 3 (some (.object "java/lang/AbstractStringBuilder"))) [.ref a, .ref s] h (jP (.ref a) (fun h' => SB t a (n + k) (catC c n e) h' ∧ Fr (fun x => x = t) h h')) noX := by
  obtain ⟨cap, hA⟩ := hA
  have hA0 := hA
  obtain ⟨v, f, ml, q1, q2, q3, q4, q5⟩ := hA0
  have hS0 := hS
  obtain ⟨u, g, hs, hz, s1, s2, s3, s4⟩ := hS0
  refine Ct.of (own := "java/lang/AbstractStringBuilder") (nm := "append") (by decide +kernel) rfl rfl (L := [some (.ref a), some (.ref s), none]) rfl (Nat.le_of_ble_eq_true rfl) rfl ?_
  refine r_aload_n (pc := 0) dJ6_append_0 rfl ?_
  refine r_ifnonnull (pc := 1) (tgt := 9) dJ6_append_1 (by decide) ?_
  refine r_aload_n (pc := 9) dJ6_append_9 rfl ?_
  refine r_callV (pc := 10) (kb' := 71) dJ6_append_10 kJ8_length q700 (t_J8_length hS) s1 rfl (Nat.le_refl _) (Nat.le_of_ble_eq_true rfl) rfl rfl (Nat.le_of_ble_eq_true rfl) (fun _ _ q => q.elim) (fun _ _ hq => ?_)
  refine go_jE hq ?_
  refine r_istore_n (pc := 13) (L' := [_, _, _]) dJ6_append_13 rfl ?_
  refine r_aload_n (pc := 14) dJ6_append_14 rfl ?_
  refine r_aload_n (pc := 15) dJ6_append_15 rfl ?_
  refine gJ6_79_14 (pc := 16) dJ6_append_16 q1 rfl ?_
  refine r_iload_n (pc := 19) dJ6_append_19 rfl ?_
  refine r_iadd (pc := 20) dJ6_append_20 ?_
  refine r_callG (pc := 21) (kb' := 0) dJ6_append_21 cuJ6_100_14 (t_J6_ensureCapacityInternal hA ht (m := n + k) (by omega)) q1 rfl (Nat.le_of_ble_eq_true rfl) (Nat.le_of_ble_eq_true rfl) rfl rfl (Nat.le_of_ble_eq_true rfl) (fun _ _ q => q.elim) (fun _ h hq => ?_)
  refine go_jN hq (fun hq => ?_)
  obtain ⟨cap2, hm2, hA2, hF⟩ := hq
  have hA3 := hA2
  obtain ⟨v, f, ml, q1, q2, q3, q4, q5⟩ := hA2
  have hp := PW.two q1 q2 (ne_of q1 q2 (by intro e; simp [ob, aI] at e))
  have hS2 := hS.fr hF hts hts2
  refine r_aload_n (pc := 24) dJ6_append_24 rfl ?_
  refine r_aload_n (pc := 25) dJ6_append_25 rfl ?_
  refine gJ6_79_14 (pc := 26) dJ6_append_26 (hp.at 0 rfl) rfl ?_
  refine r_aload_n (pc := 29) dJ6_append_29 rfl ?_
  refine r_callG (pc := 30) (kb' := 0) dJ6_append_30 cuJ6_208_14 (t_J6_putStringAt (hS.fr hF hts hts2) (hp.at 0 rfl) (hp.at 1 rfl) ht (by omega)) (hp.at 0 rfl) rfl (Nat.le_refl _) (Nat.le_of_ble_eq_true rfl) rfl rfl (Nat.le_of_ble_eq_true rfl) (fun _ _ q => q.elim) (fun _ h hq => ?_)
  refine go_jN hq (fun hq => ?_)
  obtain ⟨g9, hg9, e9⟩ := hq
  subst e9
  refine go_pw (hp.put 1 rfl) (fun h hp => ?_)
  refine r_aload_n (pc := 33) dJ6_append_33 rfl ?_
  refine r_dup (pc := 34) dJ6_append_34 rfl ?_
  refine gJ6_79_14 (pc := 35) dJ6_append_35 (hp.at 0 rfl) rfl ?_
  refine r_iload_n (pc := 38) dJ6_append_38 rfl ?_
  refine r_iadd (pc := 39) dJ6_append_39 ?_
  refine pJ6_79_14 (pc := 40) dJ6_append_40 (hp.at 0 rfl) ht (Nat.le_of_ble_eq_true rfl) ?_
  refine go_pw (hp.put 0 rfl) (fun h hp => ?_)
  refine r_aload_n (pc := 43) dJ6_append_43 rfl ?_
  exact r_aret (pc := 44) dJ6_append_44 rfl (Or.inl ⟨_, rfl⟩) (Or.inr ⟨_, rfl⟩) ⟨rfl, SBc.cat (cap := cap2) (hp.at 0 rfl) (hp.at 1 rfl) (by omega) q4 q5 (fun i hi => pk_cpy_out (by omega)) (fun i hi => ⟨(pk_cpy_in (by omega) (by omega)).trans ((congrArg g9 (by omega)).trans (hg9 i hi)), (s4 i hi).2⟩) (fun i hi => pk_cpy_out (by omega)), (hF.tr (hp.fr (P := fun x => x = t) ⟨FA.t q1, FA.t q2, trivial⟩))⟩
theorem t_J20_rangeCheck {G : Gl} {h : Hp} {n i j : Int} (h0 : 0 ≤ i) (h1 : i ≤ j) (h2 : j ≤ n) (h3 : n < 2147483648) : Ct G 1 0 yJ20_rangeCheck (Cond.code yJ20_rangeCheck cJ20_rangeCheck 3 (none)) [.int (iZ n), .int (iZ i), .int (iZ j)] h (jN (· = h)) noX := by
  refine Ct.of (own := "java/util/Arrays") (nm := "rangeCheck") (by decide +kernel) rfl rfl (L := [some (.int (iZ n)), some (.int (iZ i)), some (.int (iZ j))]) rfl (Nat.le_of_ble_eq_true rfl) rfl ?_
  refine r_iload_n (pc := 0) dJ20_rangeCheck_0 rfl ?_
  refine r_iload_n (pc := 1) dJ20_rangeCheck_1 rfl ?_
  refine r_icmp_le (pc := 2) (tgt := 46) dJ20_rangeCheck_2 (by decide) (by omega) (by omega) (fun c2 => ?_) (fun c2 => absurd (by omega) c2)
  refine r_iload_n (pc := 46) dJ20_rangeCheck_46 rfl ?_
  refine r_if_ge (pc := 47) (tgt := 59) dJ20_rangeCheck_47 (by decide) (by omega) (fun c47 => ?_) (fun c47 => absurd (by omega) c47)
  refine r_iload_n (pc := 59) dJ20_rangeCheck_59 rfl ?_
  refine r_iload_n (pc := 60) dJ20_rangeCheck_60 rfl ?_
  refine r_icmp_le (pc := 61) (tgt := 73) dJ20_rangeCheck_61 (by decide) (by omega) (by omega) (fun c61 => ?_) (fun c61 => absurd (by omega) c61)
  exact r_vret (pc := 73) dJ20_rangeCheck_73 rfl ⟨rfl, rfl⟩
theorem t_J6_setLength {G : Gl} {h : Hp} {a n : Nat} {t : Tg} {c : Nat → Int} (hA : SB t a n c h) (ht : t ≠ frz)  : Ct G 5 71 yJ6_setLength (Cond.code yJ6_setLength cJ6_setLength 2 (none)) [.ref a, .int (iZ 0)] h (jN (fun h' => SB t a 0 (fun _ => 0) h' ∧ Fr (fun x => x = t) h h')) noX := by
  obtain ⟨cap, hA⟩ := hA
  have hA0 := hA
  obtain ⟨v, f, ml, q1, q2, q3, q4, q5⟩ := hA0
  refine Ct.of (own := "java/lang/AbstractStringBuilder") (nm := "setLength") (by decide +kernel) rfl rfl (L := [some (.ref a), some (.int (iZ 0))]) rfl (Nat.le_of_ble_eq_true rfl) rfl ?_
  refine r_iload_n (pc := 0) dJ6_setLength_0 rfl ?_
  refine r_if_ge (pc := 1) (tgt := 13) dJ6_setLength_1 (by decide) (by decide) (fun _ => ?_) (fun q => absurd (by decide) q)
  refine r_aload_n (pc := 13) dJ6_setLength_13 rfl ?_
  refine r_iload_n (pc := 14) dJ6_setLength_14 rfl ?_
  refine r_callG (pc := 15) (kb' := 0) dJ6_setLength_15 cuJ6_100_14 (t_J6_ensureCapacityInternal hA ht (m := 0) (by omega)) q1 rfl (Nat.le_of_ble_eq_true rfl) (Nat.le_of_ble_eq_true rfl) rfl rfl (Nat.le_of_ble_eq_true rfl) (fun _ _ q => q.elim) (fun _ h hq => ?_)
  refine go_jN hq (fun hq => ?_)
  obtain ⟨cap2, hm2, hA2, hF⟩ := hq
  have hA3 := hA2
  obtain ⟨v, f, ml, q1, q2, q3, q4, q5⟩ := hA2
  have hp := PW.two q1 q2 (ne_of q1 q2 (by intro e; simp [ob, aI] at e))
  refine r_aload_n (pc := 18) dJ6_setLength_18 rfl ?_
  refine gJ6_79_14 (pc := 19) dJ6_setLength_19 (hp.at 0 rfl) rfl ?_
  refine r_iload_n (pc := 22) dJ6_setLength_22 rfl ?_
  refine r_icmp_ge (pc := 23) (tgt := 63) dJ6_setLength_23 (by decide) (by omega) (by omega) (fun c23 => ?_) (fun c23 => absurd (by omega) c23)
  refine r_aload_n (pc := 63) dJ6_setLength_63 rfl ?_
  refine gJ6_79_14 (pc := 64) dJ6_setLength_64 (hp.at 0 rfl) rfl ?_
  refine r_iload_n (pc := 67) dJ6_setLength_67 rfl ?_
  refine r_icmp_le (pc := 68) (tgt := 76) dJ6_setLength_68 (by decide) (by omega) (by omega) (fun c68 => ?_) (fun c68 => ?_)
  · refine r_aload_n (pc := 76) dJ6_setLength_76 rfl ?_
    refine r_iload_n (pc := 77) dJ6_setLength_77 rfl ?_
    refine pJ6_79_14 (pc := 78) dJ6_setLength_78 (hp.at 0 rfl) ht (Nat.le_of_ble_eq_true rfl) ?_
    refine go_pw (hp.put 0 rfl) (fun h hp => ?_)
    exact r_vret (pc := 81) dJ6_setLength_81 rfl ⟨rfl, ⟨cap2, v, f, _, sbE (hp.at 0 rfl) rfl, hp.at 1 rfl, ⟨by omega, q3.2⟩, fun i hi => absurd hi (by omega), q5⟩, (hF.tr (hp.fr (P := fun x => x = t) ⟨FA.t q1, FA.t q2, trivial⟩))⟩
  · refine r_aload_n (pc := 71) dJ6_setLength_71 rfl ?_
    refine r_iconst (pc := 72) dJ6_setLength_72 ?_
    refine pJ6_73_14 (pc := 73) dJ6_setLength_73 (iZ01' (by first | (left; rfl) | (right; rfl) | exact bZ_01' _ | omega)) (hp.at 0 rfl) ht (Nat.le_of_ble_eq_true rfl) ?_
    refine go_pw (hp.put 0 rfl) (fun h hp => ?_)
    refine r_aload_n (pc := 76) dJ6_setLength_76 rfl ?_
    refine r_iload_n (pc := 77) dJ6_setLength_77 rfl ?_
    refine pJ6_79_14 (pc := 78) dJ6_setLength_78 (hp.at 0 rfl) ht (Nat.le_of_ble_eq_true rfl) ?_
    refine go_pw (hp.put 0 rfl) (fun h hp => ?_)
    exact r_vret (pc := 81) dJ6_setLength_81 rfl ⟨rfl, ⟨cap2, v, f, _, sbE (hp.at 0 rfl) rfl, hp.at 1 rfl, ⟨by omega, q3.2⟩, fun i hi => absurd hi (by omega), q5⟩, (hF.tr (hp.fr (P := fun x => x = t) ⟨FA.t q1, FA.t q2, trivial⟩))⟩
theorem t_J6_charAt {G : Gl} {h : Hp} {a n : Nat} {t : Tg} {c : Nat → Int} (hA : SB t a n c h) (ht : t ≠ frz) {i : Nat} (hi : i < n) : Ct G 3 0 yJ6_charAt (Cond.code yJ6_charAt cJ6_charAt 5 (some .char)) [.ref a, .int (iZ i)] h (jE (.int (iZ (c i))) h) noX := by
  obtain ⟨cap, hA⟩ := hA
  have hA0 := hA
  obtain ⟨v, f, ml, q1, q2, q3, q4, q5⟩ := hA0
  have q6 := q4 i hi
  refine Ct.of (own := "java/lang/AbstractStringBuilder") (nm := "charAt") (by decide +kernel) rfl rfl (L := [some (.ref a), some (.int (iZ i)), none, none, none]) rfl (Nat.le_of_ble_eq_true rfl) rfl ?_
  refine r_aload_n (pc := 0) dJ6_charAt_0 rfl ?_
  refine gJ6_22_14 (pc := 1) dJ6_charAt_1 q1 rfl ?_
  refine r_istore_n (pc := 4) (L' := [_, _, _, _, _]) dJ6_charAt_4 rfl ?_
  refine r_aload_n (pc := 5) dJ6_charAt_5 rfl ?_
  refine gJ6_15_14 (pc := 6) dJ6_charAt_6 q1 rfl ?_
  refine r_astore_n (pc := 9) (L' := [_, _, _, _, _]) dJ6_charAt_9 rfl ?_
  refine r_aload_n (pc := 10) dJ6_charAt_10 rfl ?_
  refine gJ6_79_14 (pc := 11) dJ6_charAt_11 q1 rfl ?_
  refine r_aload_n (pc := 14) dJ6_charAt_14 rfl ?_
  refine r_alen (pc := 15) dJ6_charAt_15 (by decide) q2 (by omega) ?_
  refine r_iload_n (pc := 16) dJ6_charAt_16 rfl ?_
  refine r_ishr0 (pc := 17) dJ6_charAt_17 (by omega) ?_
  refine r_callS (pc := 18) (kb' := 0) dJ6_charAt_18 kJ19_min q2598 (t_J19_min (by omega) (by omega)) (Nat.le_refl _) (Nat.le_of_ble_eq_true rfl) rfl rfl (Nat.le_of_ble_eq_true rfl) (fun _ _ q => q.elim) (fun _ _ hq => ?_)
  refine go_jE hq ?_
  refine go_cz (w := (n : Int)) (if_pos (by omega)) ?_
  refine r_istore (pc := 21) (L' := [_, _, _, _, _]) dJ6_charAt_21 rfl ?_
  refine r_iload_n (pc := 23) dJ6_charAt_23 rfl ?_
  refine r_iload (pc := 24) dJ6_charAt_24 rfl ?_
  refine r_callS (pc := 26) (kb' := 0) dJ6_charAt_26 kJ8_checkIndex q2599 (t_J8_checkIndex (by omega) (by omega) (by omega)) (Nat.le_refl _) (Nat.le_of_ble_eq_true rfl) rfl rfl (Nat.le_of_ble_eq_true rfl) (fun _ _ q => q.elim) (fun _ h hq => ?_)
  refine go_jN hq (fun e => ?_)
  subst e
  refine r_iload_n (pc := 29) dJ6_charAt_29 rfl ?_
  refine r_if_ne (pc := 30) (tgt := 42) dJ6_charAt_30 (by decide) (by decide) (fun q => absurd q (by decide)) (fun _ => ?_)
  refine r_aload_n (pc := 33) dJ6_charAt_33 rfl ?_
  refine r_iload_n (pc := 34) dJ6_charAt_34 rfl ?_
  refine r_bald (pc := 35) dJ6_charAt_35 q2 (by omega) (by omega) (by omega) ?_
  refine go_ci (z := c i) q6.1 ?_
  refine r_sipush (pc := 36) dJ6_charAt_36 (by decide) ?_
  refine r_and255 (pc := 39) dJ6_charAt_39 (by omega) ?_
  refine r_i2c (pc := 40) dJ6_charAt_40 (i2cZ2 (by omega)) ?_
  exact r_iret (pc := 41) dJ6_charAt_41 rfl (nC (by omega)) ⟨rfl, rfl⟩
