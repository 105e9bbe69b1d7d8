set_option maxRecDepth 100000
theorem cuJ6_100_14 {G : Gl} : CUok G "java/lang/AbstractStringBuilder" "java/lang/StringBuilder" "java/lang/AbstractStringBuilder" 100 ⟨"java/lang/AbstractStringBuilder", "ensureCapacityInternal", "(I)V"⟩ yJ6_ensureCapacityInternal cJ6_ensureCapacityInternal 3 (none) 1 := cu_P q634 q3222 q635 q291 ⟨q636, q114, q637, ⟨by decide, by decide⟩, by decide +kernel, by decide⟩
theorem cuJ6_83_14 {G : Gl} : CUok G "java/lang/AbstractStringBuilder" "java/lang/StringBuilder" "java/lang/AbstractStringBuilder" 83 ⟨"java/lang/AbstractStringBuilder", "isLatin1", "()Z"⟩ yJ6_isLatin1 cJ6_isLatin1 1 (some .boolean) 0 := cu_U q669 q671 q670 q673 q672 ⟨q670, q114, q673, ⟨by decide, by decide⟩, by decide +kernel, by decide⟩
/-! JDK, part 13: StringBuilder: appending -/
def catC (c : Nat → Int) (n : Nat) (d : Nat → Int) : Nat → Int := fun i => if i < n then c i else d (i - n)
theorem cat_l {c d : Nat → Int} {n i : Nat} (h : i < n) : catC c n d i = c i := if_pos h
theorem cat_r {c d : Nat → Int} {n i : Nat} (h : n ≤ i) : catC c n d i = d (i - n) := if_neg (by omega)
theorem SB.len {t : Tg} {a n k k' : Nat} {c : Nat → Int} {h : Hp} (e : k = k') (hA : SB t a (n + k) c h) : SB t a (n + k') c h := e ▸ hA
def nmL (z : Int) : Nat := if z < 10 then 1 else 2
def nmC (z : Int) : Nat → Int := fun j => if z < 10 then 48 + z else if j = 0 then 48 + z / 10 else 48 + z % 10
theorem narB {z : Int} (h : -128 ≤ z ∧ z < 128) : vp_nar .byte (iZ z) = iZ z := by
  rw [vp_nar_byte, i2bZ h]
def fDO : Nat → Int32 := fun k => iZ (48 + (k : Int) % 10)
def fDT : Nat → Int32 := fun k => iZ (48 + (k : Int) / 10)
theorem SBc.cat {t : Tg} {a n k cap v : Nat} {ml : Int} {c d : Nat → Int} {f g : Nat → Int32} {h : Hp} (h1 : h a = some (t, ob 14 [.ref v, .int (iZ 0), .int (iZ ml), .int (iZ ((n + k : Nat) : Int))])) (h2 : h v = some (t, aI .byte cap g)) (hc : n + k ≤ cap ∧ (cap = 16 ∨ cap = 34 ∨ cap = 70)) (hf : ∀ i, i < n → f i = iZ (c i) ∧ 0 ≤ c i ∧ c i < 128) (hb : ∀ i, i < cap → fits .byte (.int (f i)) = true) (hl : ∀ i, i < n → g i = f i) (hr : ∀ i, i < k → g (n + i) = iZ (d i) ∧ 0 ≤ d i ∧ d i < 128) (hx : ∀ i, n + k ≤ i → g i = f i) : SB t a (n + k) (catC c n d) h := by
  refine ⟨cap, v, g, ml, h1, h2, hc, fun i hi => ?_, fun i hi => ?_⟩
  · by_cases q : i < n
    · rw [cat_l q, hl i q]; exact hf i q
    · rw [cat_r (by omega), show g i = g (n + (i - n)) by congr 1; omega]; exact hr (i - n) (by omega)
  · by_cases q : i < n
    · rw [hl i q]; exact hb i hi
    · by_cases q2 : i < n + k
      · have := hr (i - n) (by omega)
        rw [show g i = g (n + (i - n)) by congr 1; omega, this.1]
        exact fY (by omega)
      · rw [hx i (by omega)]; exact hb i hi

theorem t_J23_stringSize {G : Gl} {h : Hp} {z : Int} (hz : 0 ≤ z ∧ z ≤ 99) : Ct G 1 0 yJ23_stringSize (Cond.code yJ23_stringSize cJ23_stringSize 4 (some .int)) [.int (iZ z)] h (jE (.int (iZ (nmL z))) h) noX := by
  refine Ct.of (own := "java/lang/Integer") (nm := "stringSize") (by decide +kernel) rfl rfl (L := [some (.int (iZ z)), none, none, none]) rfl (Nat.le_of_ble_eq_true rfl) rfl ?_
  refine r_iconst (pc := 0) dJ23_stringSize_0 ?_
  refine r_istore_n (pc := 1) (L' := [_, _, _, _]) dJ23_stringSize_1 rfl ?_
  refine r_iload_n (pc := 2) dJ23_stringSize_2 rfl ?_
  refine r_if_lt (pc := 3) (tgt := 11) dJ23_stringSize_3 (by decide) (by omega) (fun c3 => absurd c3 (by omega)) (fun c3 => ?_)
  refine r_iconst (pc := 6) dJ23_stringSize_6 ?_
  refine r_istore_n (pc := 7) (L' := [_, _, _, _]) dJ23_stringSize_7 rfl ?_
  refine r_iload_n (pc := 8) dJ23_stringSize_8 rfl ?_
  refine r_ineg (pc := 9) dJ23_stringSize_9 ?_
  refine r_istore_n (pc := 10) (L' := [_, _, _, _]) dJ23_stringSize_10 rfl ?_
  refine r_bipush (pc := 11) dJ23_stringSize_11 (by decide) ?_
  refine r_istore_n (pc := 13) (L' := [_, _, _, _]) dJ23_stringSize_13 rfl ?_
  refine r_iconst (pc := 14) dJ23_stringSize_14 ?_
  refine r_istore_n (pc := 15) (L' := [_, _, _, _]) dJ23_stringSize_15 rfl ?_
  refine r_iload_n (pc := 16) dJ23_stringSize_16 rfl ?_
  refine r_bipush (pc := 17) dJ23_stringSize_17 (by decide) ?_
  refine r_icmp_ge (pc := 19) (tgt := 42) dJ23_stringSize_19 (by decide) (by omega) (by omega) (fun c19 => absurd c19 (by omega)) (fun c19 => ?_)
  refine r_iload_n (pc := 22) dJ23_stringSize_22 rfl ?_
  refine r_iload_n (pc := 23) dJ23_stringSize_23 rfl ?_
  refine r_icmp_le (pc := 24) (tgt := 31) dJ23_stringSize_24 (by decide) (by omega) (by omega) (fun c24 => ?_) (fun c24 => ?_)
  · refine r_bipush (pc := 31) dJ23_stringSize_31 (by decide) ?_
    refine r_iload_n (pc := 33) dJ23_stringSize_33 rfl ?_
    refine r_imul (pc := 34) dJ23_stringSize_34 ?_
    refine r_istore_n (pc := 35) (L' := [_, _, _, _]) dJ23_stringSize_35 rfl ?_
    refine r_iinc (pc := 36) (L' := [_, _, _, _]) dJ23_stringSize_36 rfl rfl ?_
    refine r_goto (pc := 39) (tgt := 16) dJ23_stringSize_39 (by decide) ?_
    refine r_iload_n (pc := 16) dJ23_stringSize_16 rfl ?_
    refine r_bipush (pc := 17) dJ23_stringSize_17 (by decide) ?_
    refine r_icmp_ge (pc := 19) (tgt := 42) dJ23_stringSize_19 (by decide) (by omega) (by omega) (fun c19 => absurd c19 (by omega)) (fun c19 => ?_)
    refine r_iload_n (pc := 22) dJ23_stringSize_22 rfl ?_
    refine r_iload_n (pc := 23) dJ23_stringSize_23 rfl ?_
    refine r_icmp_le (pc := 24) (tgt := 31) dJ23_stringSize_24 (by decide) (by omega) (by omega) (fun c24 => absurd c24 (by omega)) (fun c24 => ?_)
    refine r_iload_n (pc := 27) dJ23_stringSize_27 rfl ?_
    refine r_iload_n (pc := 28) dJ23_stringSize_28 rfl ?_
    refine r_iadd (pc := 29) dJ23_stringSize_29 ?_
    exact r_iret (pc := 30) dJ23_stringSize_30 rfl rfl ⟨congrArg (fun q : Int => some (Value.int (iZ q))) (by unfold nmL; split <;> omega), rfl⟩
  · refine r_iload_n (pc := 27) dJ23_stringSize_27 rfl ?_
    refine r_iload_n (pc := 28) dJ23_stringSize_28 rfl ?_
    refine r_iadd (pc := 29) dJ23_stringSize_29 ?_
    exact r_iret (pc := 30) dJ23_stringSize_30 rfl rfl ⟨congrArg (fun q : Int => some (Value.int (iZ q))) (by unfold nmL; split <;> omega), rfl⟩
theorem t_J23_getChars1 {G : Gl} {h : Hp} {z : Int} {b cap n : Nat} {t : Tg} {f : Nat → Int32} (q2 : h b = some (t, aI .byte cap f)) (ht : t ≠ frz) (hcap : cap ≤ 100) (hz : 0 ≤ z ∧ z < 10) (hn : n + 1 ≤ cap) (hO : h (gS G 2) = some (frz, aI .byte 100 fDO)) (hT : h (gS G 3) = some (frz, aI .byte 100 fDT)) : Ct G 1 0 yJ23_getChars (Cond.code yJ23_getChars cJ23_getChars 7 (some .int)) [.int (iZ z), .int (iZ (n + 1)), .ref b] h (jP (.int (iZ n)) (· = up h b (t, aI .byte cap (va_up f n (iZ (48 + z)))))) noX := by
  have hp := PW.one q2
  have hbt : b ≠ gS G 3 := ne_of q2 hT (by intro e; exact ht (congrArg Prod.fst e))
  refine Ct.of (own := "java/lang/Integer") (nm := "getChars") (by decide +kernel) rfl rfl (L := [some (.int (iZ z)), some (.int (iZ (n + 1))), some (.ref b), none, none, none, none]) rfl (Nat.le_of_ble_eq_true rfl) rfl ?_
  refine r_iload_n (pc := 0) dJ23_getChars_0 rfl ?_
  refine r_istore (pc := 1) (L' := [_, _, _, _, _, _, _]) dJ23_getChars_1 rfl ?_
  refine r_iload_n (pc := 3) dJ23_getChars_3 rfl ?_
  refine r_if_ge (pc := 4) (tgt := 11) dJ23_getChars_4 (by decide) (by omega) (fun c4 => ?_) (fun c4 => absurd (by omega) c4)
  refine r_iconst (pc := 11) dJ23_getChars_11 ?_
  refine r_istore (pc := 12) (L' := [_, _, _, _, _, _, _]) dJ23_getChars_12 rfl ?_
  refine r_iload (pc := 14) dJ23_getChars_14 rfl ?_
  refine r_if_ne (pc := 16) (tgt := 22) dJ23_getChars_16 (by decide) (by decide) (fun q => absurd q (by decide)) (fun _ => ?_)
  refine r_iload_n (pc := 19) dJ23_getChars_19 rfl ?_
  refine r_ineg (pc := 20) dJ23_getChars_20 ?_
  refine r_istore_n (pc := 21) (L' := [_, _, _, _, _, _, _]) dJ23_getChars_21 rfl ?_
  refine r_iload_n (pc := 22) dJ23_getChars_22 rfl ?_
  refine r_bipush (pc := 23) dJ23_getChars_23 (by decide) ?_
  refine r_icmp_gt (pc := 25) (tgt := 72) dJ23_getChars_25 (by decide) (by omega) (by omega) (fun c25 => ?_) (fun c25 => absurd (by omega) c25)
  refine r_aload_n (pc := 72) dJ23_getChars_72 rfl ?_
  refine r_iinc (pc := 73) (L' := [_, _, _, _, _, _, _]) dJ23_getChars_73 rfl rfl ?_
  refine r_iload (pc := 76) dJ23_getChars_76 rfl ?_
  refine r_gets (pc := 78) dJ23_getChars_78 6 rfl q756 rfl ?_
  refine r_iload_n (pc := 81) dJ23_getChars_81 rfl ?_
  refine r_ineg (pc := 82) dJ23_getChars_82 ?_
  refine r_bald (pc := 83) dJ23_getChars_83 hO (by omega) (by omega) (by omega) ?_
  refine go_ci (z := 48 + z % 10) (by show fDO _ = _; unfold fDO; congr 1; omega) ?_
  refine r_bast (pc := 84) dJ23_getChars_84 (hp.at 0 rfl) ht (by omega) (by omega) (by omega) ?_
  rw [narB (by omega)]
  refine go_pw (hp.put 0 rfl) (fun h hp => ?_)
  refine r_iload_n (pc := 85) dJ23_getChars_85 rfl ?_
  refine r_bipush (pc := 86) dJ23_getChars_86 (by decide) ?_
  refine r_icmp_ge (pc := 88) (tgt := 104) dJ23_getChars_88 (by decide) (by omega) (by omega) (fun c88 => ?_) (fun c88 => absurd (by omega) c88)
  refine r_iload (pc := 104) dJ23_getChars_104 rfl ?_
  refine r_if_eq (pc := 106) (tgt := 118) dJ23_getChars_106 (by decide) (by decide) (fun _ => ?_) (fun q => absurd (by decide) q)
  refine r_iload (pc := 118) dJ23_getChars_118 rfl ?_
  exact r_iret (pc := 120) dJ23_getChars_120 rfl rfl ⟨congrArg (fun q : Int => some (Value.int (iZ q))) (by omega), (hp.eq1).trans (by congr 3; rw [show ((n : Int) + 1 + -1).toNat = n by omega]; congr 2; omega)⟩
theorem t_J23_getChars2 {G : Gl} {h : Hp} {z : Int} {b cap n : Nat} {t : Tg} {f : Nat → Int32} (q2 : h b = some (t, aI .byte cap f)) (ht : t ≠ frz) (hcap : cap ≤ 100) (hz : 10 ≤ z ∧ z ≤ 99) (hn : n + 2 ≤ cap) (hO : h (gS G 2) = some (frz, aI .byte 100 fDO)) (hT : h (gS G 3) = some (frz, aI .byte 100 fDT)) : Ct G 1 0 yJ23_getChars (Cond.code yJ23_getChars cJ23_getChars 7 (some .int)) [.int (iZ z), .int (iZ (n + 2)), .ref b] h (jP (.int (iZ n)) (· = up h b (t, aI .byte cap (va_up (va_up f (n + 1) (iZ (48 + z % 10))) n (iZ (48 + z / 10)))))) noX := by
  have hp := PW.one q2
  have hbt : b ≠ gS G 3 := ne_of q2 hT (by intro e; exact ht (congrArg Prod.fst e))
  refine Ct.of (own := "java/lang/Integer") (nm := "getChars") (by decide +kernel) rfl rfl (L := [some (.int (iZ z)), some (.int (iZ (n + 2))), some (.ref b), none, none, none, none]) rfl (Nat.le_of_ble_eq_true rfl) rfl ?_
  refine r_iload_n (pc := 0) dJ23_getChars_0 rfl ?_
  refine r_istore (pc := 1) (L' := [_, _, _, _, _, _, _]) dJ23_getChars_1 rfl ?_
  refine r_iload_n (pc := 3) dJ23_getChars_3 rfl ?_
  refine r_if_ge (pc := 4) (tgt := 11) dJ23_getChars_4 (by decide) (by omega) (fun c4 => ?_) (fun c4 => absurd (by omega) c4)
  refine r_iconst (pc := 11) dJ23_getChars_11 ?_
  refine r_istore (pc := 12) (L' := [_, _, _, _, _, _, _]) dJ23_getChars_12 rfl ?_
  refine r_iload (pc := 14) dJ23_getChars_14 rfl ?_
  refine r_if_ne (pc := 16) (tgt := 22) dJ23_getChars_16 (by decide) (by decide) (fun q => absurd q (by decide)) (fun _ => ?_)
  refine r_iload_n (pc := 19) dJ23_getChars_19 rfl ?_
  refine r_ineg (pc := 20) dJ23_getChars_20 ?_
  refine r_istore_n (pc := 21) (L' := [_, _, _, _, _, _, _]) dJ23_getChars_21 rfl ?_
  refine r_iload_n (pc := 22) dJ23_getChars_22 rfl ?_
  refine r_bipush (pc := 23) dJ23_getChars_23 (by decide) ?_
  refine r_icmp_gt (pc := 25) (tgt := 72) dJ23_getChars_25 (by decide) (by omega) (by omega) (fun c25 => ?_) (fun c25 => absurd (by omega) c25)
  refine r_aload_n (pc := 72) dJ23_getChars_72 rfl ?_
  refine r_iinc (pc := 73) (L' := [_, _, _, _, _, _, _]) dJ23_getChars_73 rfl rfl ?_
  refine r_iload (pc := 76) dJ23_getChars_76 rfl ?_
  refine r_gets (pc := 78) dJ23_getChars_78 6 rfl q756 rfl ?_
  refine r_iload_n (pc := 81) dJ23_getChars_81 rfl ?_
  refine r_ineg (pc := 82) dJ23_getChars_82 ?_
  refine r_bald (pc := 83) dJ23_getChars_83 hO (by omega) (by omega) (by omega) ?_
  refine go_ci (z := 48 + z % 10) (by show fDO _ = _; unfold fDO; congr 1; omega) ?_
  refine r_bast (pc := 84) dJ23_getChars_84 (hp.at 0 rfl) ht (by omega) (by omega) (by omega) ?_
  rw [narB (by omega)]
  refine go_pw (hp.put 0 rfl) (fun h hp => ?_)
  refine r_iload_n (pc := 85) dJ23_getChars_85 rfl ?_
  refine r_bipush (pc := 86) dJ23_getChars_86 (by decide) ?_
  refine r_icmp_ge (pc := 88) (tgt := 104) dJ23_getChars_88 (by decide) (by omega) (by omega) (fun c88 => absurd c88 (by omega)) (fun c88 => ?_)
  refine r_aload_n (pc := 91) dJ23_getChars_91 rfl ?_
  refine r_iinc (pc := 92) (L' := [_, _, _, _, _, _, _]) dJ23_getChars_92 rfl rfl ?_
  refine r_iload (pc := 95) dJ23_getChars_95 rfl ?_
  refine r_gets (pc := 97) dJ23_getChars_97 7 rfl q758 rfl ?_
  refine r_iload_n (pc := 100) dJ23_getChars_100 rfl ?_
  refine r_ineg (pc := 101) dJ23_getChars_101 ?_
  refine r_bald (pc := 102) dJ23_getChars_102 ((hp.ot ⟨hbt, trivial⟩).trans hT) (by omega) (by omega) (by omega) ?_
  refine go_ci (z := 48 + z / 10) (by show fDT _ = _; unfold fDT; congr 1; omega) ?_
  refine r_bast (pc := 103) dJ23_getChars_103 (hp.at 0 rfl) ht (by omega) (by omega) (by omega) ?_
  rw [narB (by omega)]
  refine go_pw (hp.put 0 rfl) (fun h hp => ?_)
  refine r_iload (pc := 104) dJ23_getChars_104 rfl ?_
  refine r_if_eq (pc := 106) (tgt := 118) dJ23_getChars_106 (by decide) (by decide) (fun _ => ?_) (fun q => absurd (by decide) q)
  refine r_iload (pc := 118) dJ23_getChars_118 rfl ?_
  exact r_iret (pc := 120) dJ23_getChars_120 rfl rfl ⟨congrArg (fun q : Int => some (Value.int (iZ q))) (by omega), (hp.eq1).trans (by congr 3; rw [show ((n : Int) + 2 + -1).toNat = n + 1 by omega, show ((n : Int) + 2 + -1 + -1).toNat = n by omega])⟩
theorem t_J21_canEncode {G : Gl} {h : Hp} {c : Int} (hc : 0 ≤ c ∧ c < 128) : Ct G 1 0 yJ21_canEncode (Cond.code yJ21_canEncode cJ21_canEncode 1 (some .boolean)) [.int (iZ c)] h (jE (.int (iZ 1)) h) noX := by
  refine Ct.of (own := "java/lang/StringLatin1") (nm := "canEncode") (by decide +kernel) rfl rfl (L := [some (.int (iZ c))]) rfl (Nat.le_of_ble_eq_true rfl) rfl ?_
  refine r_iload_n (pc := 0) dJ21_canEncode_0 rfl ?_
  refine r_sipush (pc := 1) dJ21_canEncode_1 (by decide) ?_
  refine r_icmp_gt (pc := 4) (tgt := 11) dJ21_canEncode_4 (by decide) (by omega) (by omega) (fun c4 => absurd c4 (by omega)) (fun c4 => ?_)
  refine r_iconst (pc := 7) dJ21_canEncode_7 ?_
  refine r_goto (pc := 8) (tgt := 12) dJ21_canEncode_8 (by decide) ?_
  exact r_iret (pc := 12) dJ21_canEncode_12 rfl (nB' (by first | (left; rfl) | (right; rfl) | exact bZ_01' _ | omega)) ⟨rfl, rfl⟩
theorem t_J6_append_3 {G : Gl} {h : Hp} {a n : Nat} {t : Tg} {c : Nat → Int} (hA : SB t a n c h) (ht : t ≠ frz) {ch : Int} (hc : 0 ≤ ch ∧ ch < 128) (hn : n < 60) : Ct G 5 71 yJ6_append_3 (Cond.code yJ6_append_3 cJ6_append_3 2 (some (.object "java/lang/AbstractStringBuilder"))) [.ref a, .int (iZ ch)] h (jP (.ref a) (fun h' => SB t a (n + 1) (catC c n (fun _ => ch)) h' ∧ Fr (fun x => x = t) h h')) noX := by
  obtain ⟨cap, hA⟩ := hA
  have hA0 := hA
  obtain ⟨v, f, ml, q1, q2, q3, q4, q5⟩ := hA0
  refine Ct.of (own := "java/lang/AbstractStringBuilder") (nm := "append") (by decide +kernel) rfl rfl (L := [some (.ref a), some (.int (iZ ch))]) rfl (Nat.le_of_ble_eq_true rfl) rfl ?_
  refine r_aload_n (pc := 0) dJ6_append_3_0 rfl ?_
  refine r_aload_n (pc := 1) dJ6_append_3_1 rfl ?_
  refine gJ6_79_14 (pc := 2) dJ6_append_3_2 q1 rfl ?_
  refine r_iconst (pc := 5) dJ6_append_3_5 ?_
  refine r_iadd (pc := 6) dJ6_append_3_6 ?_
  refine r_callG (pc := 7) (kb' := 0) dJ6_append_3_7 cuJ6_100_14 (t_J6_ensureCapacityInternal hA ht (m := n + 1) (by omega)) q1 rfl (Nat.le_of_ble_eq_true rfl) (Nat.le_of_ble_eq_true rfl) rfl rfl (Nat.le_of_ble_eq_true rfl) (fun _ _ q => q.elim) (fun _ h hq => ?_)
  refine go_jN hq (fun hq => ?_)
  obtain ⟨cap2, hm2, hA2, hF⟩ := hq
  have hA3 := hA2
  obtain ⟨v, f, ml, q1, q2, q3, q4, q5⟩ := hA2
  have hp := PW.two q1 q2 (ne_of q1 q2 (by intro e; simp [ob, aI] at e))
  refine r_aload_n (pc := 10) dJ6_append_3_10 rfl ?_
  refine r_callG (pc := 11) (kb' := 0) dJ6_append_3_11 cuJ6_83_14 (t_J6_isLatin1 hA3) (hp.at 0 rfl) rfl (Nat.le_refl _) (Nat.le_of_ble_eq_true rfl) rfl rfl (Nat.le_of_ble_eq_true rfl) (fun _ _ q => q.elim) (fun _ _ hq => ?_)
  refine go_jE hq ?_
  refine r_if_eq (pc := 14) (tgt := 45) dJ6_append_3_14 (by decide) (by decide) (fun q => absurd q (by decide)) (fun _ => ?_)
  refine r_iload_n (pc := 17) dJ6_append_3_17 rfl ?_
  refine r_callS (pc := 18) (kb' := 0) dJ6_append_3_18 kJ21_canEncode q1311 (t_J21_canEncode hc) (Nat.le_refl _) (Nat.le_of_ble_eq_true rfl) rfl rfl (Nat.le_of_ble_eq_true rfl) (fun _ _ q => q.elim) (fun _ _ hq => ?_)
  refine go_jE hq ?_
  refine r_if_eq (pc := 21) (tgt := 45) dJ6_append_3_21 (by decide) (by decide) (fun q => absurd q (by decide)) (fun _ => ?_)
  refine r_aload_n (pc := 24) dJ6_append_3_24 rfl ?_
  refine gJ6_15_14 (pc := 25) dJ6_append_3_25 (hp.at 0 rfl) rfl ?_
  refine r_aload_n (pc := 28) dJ6_append_3_28 rfl ?_
  refine r_dup (pc := 29) dJ6_append_3_29 rfl ?_
  refine gJ6_79_14 (pc := 30) dJ6_append_3_30 (hp.at 0 rfl) rfl ?_
  refine r_dup_x1 (pc := 33) dJ6_append_3_33 rfl rfl ?_
  refine r_iconst (pc := 34) dJ6_append_3_34 ?_
  refine r_iadd (pc := 35) dJ6_append_3_35 ?_
  refine pJ6_79_14 (pc := 36) dJ6_append_3_36 (hp.at 0 rfl) ht (Nat.le_of_ble_eq_true rfl) ?_
  refine go_pw (hp.put 0 rfl) (fun h hp => ?_)
  refine r_iload_n (pc := 39) dJ6_append_3_39 rfl ?_
  refine r_i2b (pc := 40) dJ6_append_3_40 (i2bZ (by omega)) ?_
  refine r_bast (pc := 41) dJ6_append_3_41 (hp.at 1 rfl) ht (by omega) (by omega) (by omega) ?_
  rw [narB (by omega)]
  refine go_pw (hp.put 1 rfl) (fun h hp => ?_)
  refine r_goto (pc := 42) (tgt := 75) dJ6_append_3_42 (by decide) ?_
  refine r_aload_n (pc := 75) dJ6_append_3_75 rfl ?_
  exact r_aret (pc := 76) dJ6_append_3_76 rfl (Or.inl ⟨_, rfl⟩) (Or.inr ⟨_, rfl⟩) ⟨rfl, SBc.cat (cap := cap2) (hp.at 0 rfl) (hp.at 1 rfl) (by omega) q4 q5 (fun i hi => if_neg (by omega)) (fun i hi => ⟨if_pos (by omega), hc⟩) (fun i hi => if_neg (by omega)), (hF.tr (hp.fr (P := fun x => x = t) ⟨FA.t q1, FA.t q2, trivial⟩))⟩
theorem t_J6_append_2 {G : Gl} {h : Hp} {a n : Nat} {t : Tg} {c : Nat → Int} (hA : SB t a n c h) (ht : t ≠ frz) {z : Int} (hz : 0 ≤ z ∧ z ≤ 99) (hn : n < 60) (hO : h (gS G 2) = some (frz, aI .byte 100 fDO)) (hT : h (gS G 3) = some (frz, aI .byte 100 fDT)) : Ct G 5 71 yJ6_append_2 (Cond.code yJ6_append_2 cJ6_append_2 4 (some (.object "java/lang/AbstractStringBuilder"))) [.ref a, .int (iZ z)] h (jP (.ref a) (fun h' => SB t a (n + nmL z) (catC c n (nmC z)) h' ∧ Fr (fun x => x = t) h h')) noX := by
  obtain ⟨cap, hA⟩ := hA
  have hA0 := hA
  obtain ⟨v, f, ml, q1, q2, q3, q4, q5⟩ := hA0
  by_cases z10 : z < 10
  · have hL : nmL z = 1 := if_pos z10
    refine Ct.of (own := "java/lang/AbstractStringBuilder") (nm := "append") (by decide +kernel) rfl rfl (L := [some (.ref a), some (.int (iZ z)), none, none]) rfl (Nat.le_of_ble_eq_true rfl) rfl ?_
    refine r_aload_n (pc := 0) dJ6_append_2_0 rfl ?_
    refine gJ6_79_14 (pc := 1) dJ6_append_2_1 q1 rfl ?_
    refine r_istore_n (pc := 4) (L' := [_, _, _, _]) dJ6_append_2_4 rfl ?_
    refine r_iload_n (pc := 5) dJ6_append_2_5 rfl ?_
    refine r_iload_n (pc := 6) dJ6_append_2_6 rfl ?_
    refine r_callS (pc := 7) (kb' := 71) dJ6_append_2_7 kJ23_stringSize q750 (t_J23_stringSize hz) (Nat.le_refl _) (Nat.le_of_ble_eq_true rfl) rfl rfl (Nat.le_of_ble_eq_true rfl) (fun _ _ q => q.elim) (fun _ _ hq => ?_)
    refine go_jE hq ?_
    refine r_iadd (pc := 10) dJ6_append_2_10 ?_
    refine go_cz (w := (n : Int) + 1) (by rw [hL]; rfl) ?_
    refine r_istore_n (pc := 11) (L' := [_, _, _, _]) dJ6_append_2_11 rfl ?_
    refine r_aload_n (pc := 12) dJ6_append_2_12 rfl ?_
    refine r_iload_n (pc := 13) dJ6_append_2_13 rfl ?_
    refine r_callG (pc := 14) (kb' := 0) dJ6_append_2_14 cuJ6_100_14 (t_J6_ensureCapacityInternal hA ht (m := n + 1) (by omega)) q1 rfl (Nat.le_of_ble_eq_true rfl) (Nat.le_of_ble_eq_true rfl) rfl rfl (Nat.le_of_ble_eq_true rfl) (fun _ _ q => q.elim) (fun _ h hq => ?_)
    refine go_jN hq (fun hq => ?_)
    obtain ⟨cap2, hm2, hA2, hF⟩ := hq
    have hA3 := hA2
    obtain ⟨v, f, ml, q1, q2, q3, q4, q5⟩ := hA2
    have hp := PW.two q1 q2 (ne_of q1 q2 (by intro e; simp [ob, aI] at e))
    have hO2 := hF.get hO (fun q => ht q.symm)
    have hT2 := hF.get hT (fun q => ht q.symm)
    have fa := ne_of q1 hO2 (by intro e; exact ht (congrArg Prod.fst e))
    have fb := ne_of q2 hO2 (by intro e; exact ht (congrArg Prod.fst e))
    have fa2 := ne_of q1 hT2 (by intro e; exact ht (congrArg Prod.fst e))
    have fb2 := ne_of q2 hT2 (by intro e; exact ht (congrArg Prod.fst e))
    refine r_aload_n (pc := 17) dJ6_append_2_17 rfl ?_
    refine r_callG (pc := 18) (kb' := 0) dJ6_append_2_18 cuJ6_83_14 (t_J6_isLatin1 hA3) (hp.at 0 rfl) rfl (Nat.le_refl _) (Nat.le_of_ble_eq_true rfl) rfl rfl (Nat.le_of_ble_eq_true rfl) (fun _ _ q => q.elim) (fun _ _ hq => ?_)
    refine go_jE hq ?_
    refine r_if_eq (pc := 21) (tgt := 37) dJ6_append_2_21 (by decide) (by decide) (fun q => absurd q (by decide)) (fun _ => ?_)
    refine r_iload_n (pc := 24) dJ6_append_2_24 rfl ?_
    refine r_iload_n (pc := 25) dJ6_append_2_25 rfl ?_
    refine r_aload_n (pc := 26) dJ6_append_2_26 rfl ?_
    refine gJ6_15_14 (pc := 27) dJ6_append_2_27 (hp.at 0 rfl) rfl ?_
    refine r_callS (pc := 30) (kb' := 0) dJ6_append_2_30 kJ23_getChars q753 (t_J23_getChars1 (hp.at 1 rfl) ht (by omega) (by omega) (by omega) ((hp.ot ⟨fa, fb, trivial⟩).trans (hF.get hO (fun q => ht q.symm))) ((hp.ot ⟨fa2, fb2, trivial⟩).trans (hF.get hT (fun q => ht q.symm)))) (Nat.le_refl _) (Nat.le_of_ble_eq_true rfl) rfl rfl (Nat.le_of_ble_eq_true rfl) (fun _ _ q => q.elim) (fun _ h hq => ?_)
    refine go_jP hq (fun e9 => ?_)
    subst e9
    refine go_pw (hp.put 1 rfl) (fun h hp => ?_)
    refine r_pop (pc := 33) dJ6_append_2_33 rfl ?_
    refine r_goto (pc := 34) (tgt := 48) dJ6_append_2_34 (by decide) ?_
    refine r_aload_n (pc := 48) dJ6_append_2_48 rfl ?_
    refine r_iload_n (pc := 49) dJ6_append_2_49 rfl ?_
    refine pJ6_79_14 (pc := 50) dJ6_append_2_50 (hp.at 0 rfl) ht (Nat.le_of_ble_eq_true rfl) ?_
    refine go_pw (hp.put 0 rfl) (fun h hp => ?_)
    refine r_aload_n (pc := 53) dJ6_append_2_53 rfl ?_
    exact r_aret (pc := 54) dJ6_append_2_54 rfl (Or.inl ⟨_, rfl⟩) (Or.inr ⟨_, rfl⟩) ⟨rfl, SB.len hL.symm (SBc.cat (k := 1) (d := nmC z) (cap := cap2) (hp.at 0 rfl) (hp.at 1 rfl) (by omega) q4 q5 (fun i hi => if_neg (by omega)) (fun i hi => ⟨by rw [show nmC z i = 48 + z from if_pos z10]; exact if_pos (by omega), by rw [show nmC z i = 48 + z from if_pos z10]; omega⟩) (fun i hi => if_neg (by omega))), (hF.tr (hp.fr (P := fun x => x = t) ⟨FA.t q1, FA.t q2, trivial⟩))⟩
  · have hL : nmL z = 2 := if_neg z10
    refine Ct.of (own := "java/lang/AbstractStringBuilder") (nm := "append") (by decide +kernel) rfl rfl (L := [some (.ref a), some (.int (iZ z)), none, none]) rfl (Nat.le_of_ble_eq_true rfl) rfl ?_
    refine r_aload_n (pc := 0) dJ6_append_2_0 rfl ?_
    refine gJ6_79_14 (pc := 1) dJ6_append_2_1 q1 rfl ?_
    refine r_istore_n (pc := 4) (L' := [_, _, _, _]) dJ6_append_2_4 rfl ?_
    refine r_iload_n (pc := 5) dJ6_append_2_5 rfl ?_
    refine r_iload_n (pc := 6) dJ6_append_2_6 rfl ?_
    refine r_callS (pc := 7) (kb' := 71) dJ6_append_2_7 kJ23_stringSize q750 (t_J23_stringSize hz) (Nat.le_refl _) (Nat.le_of_ble_eq_true rfl) rfl rfl (Nat.le_of_ble_eq_true rfl) (fun _ _ q => q.elim) (fun _ _ hq => ?_)
    refine go_jE hq ?_
    refine r_iadd (pc := 10) dJ6_append_2_10 ?_
    refine go_cz (w := (n : Int) + 2) (by rw [hL]; rfl) ?_
    refine r_istore_n (pc := 11) (L' := [_, _, _, _]) dJ6_append_2_11 rfl ?_
    refine r_aload_n (pc := 12) dJ6_append_2_12 rfl ?_
    refine r_iload_n (pc := 13) dJ6_append_2_13 rfl ?_
    refine r_callG (pc := 14) (kb' := 0) dJ6_append_2_14 cuJ6_100_14 (t_J6_ensureCapacityInternal hA ht (m := n + 2) (by omega)) q1 rfl (Nat.le_of_ble_eq_true rfl) (Nat.le_of_ble_eq_true rfl) rfl rfl (Nat.le_of_ble_eq_true rfl) (fun _ _ q => q.elim) (fun _ h hq => ?_)
    refine go_jN hq (fun hq => ?_)
    obtain ⟨cap2, hm2, hA2, hF⟩ := hq
    have hA3 := hA2
    obtain ⟨v, f, ml, q1, q2, q3, q4, q5⟩ := hA2
    have hp := PW.two q1 q2 (ne_of q1 q2 (by intro e; simp [ob, aI] at e))
    have hO2 := hF.get hO (fun q => ht q.symm)
    have hT2 := hF.get hT (fun q => ht q.symm)
    have fa := ne_of q1 hO2 (by intro e; exact ht (congrArg Prod.fst e))
    have fb := ne_of q2 hO2 (by intro e; exact ht (congrArg Prod.fst e))
    have fa2 := ne_of q1 hT2 (by intro e; exact ht (congrArg Prod.fst e))
    have fb2 := ne_of q2 hT2 (by intro e; exact ht (congrArg Prod.fst e))
    refine r_aload_n (pc := 17) dJ6_append_2_17 rfl ?_
    refine r_callG (pc := 18) (kb' := 0) dJ6_append_2_18 cuJ6_83_14 (t_J6_isLatin1 hA3) (hp.at 0 rfl) rfl (Nat.le_refl _) (Nat.le_of_ble_eq_true rfl) rfl rfl (Nat.le_of_ble_eq_true rfl) (fun _ _ q => q.elim) (fun _ _ hq => ?_)
    refine go_jE hq ?_
    refine r_if_eq (pc := 21) (tgt := 37) dJ6_append_2_21 (by decide) (by decide) (fun q => absurd q (by decide)) (fun _ => ?_)
    refine r_iload_n (pc := 24) dJ6_append_2_24 rfl ?_
    refine r_iload_n (pc := 25) dJ6_append_2_25 rfl ?_
    refine r_aload_n (pc := 26) dJ6_append_2_26 rfl ?_
    refine gJ6_15_14 (pc := 27) dJ6_append_2_27 (hp.at 0 rfl) rfl ?_
    refine r_callS (pc := 30) (kb' := 0) dJ6_append_2_30 kJ23_getChars q753 (t_J23_getChars2 (hp.at 1 rfl) ht (by omega) (by omega) (by omega) ((hp.ot ⟨fa, fb, trivial⟩).trans (hF.get hO (fun q => ht q.symm))) ((hp.ot ⟨fa2, fb2, trivial⟩).trans (hF.get hT (fun q => ht q.symm)))) (Nat.le_refl _) (Nat.le_of_ble_eq_true rfl) rfl rfl (Nat.le_of_ble_eq_true rfl) (fun _ _ q => q.elim) (fun _ h hq => ?_)
    refine go_jP hq (fun e9 => ?_)
    subst e9
    refine go_pw (hp.put 1 rfl) (fun h hp => ?_)
    refine r_pop (pc := 33) dJ6_append_2_33 rfl ?_
    refine r_goto (pc := 34) (tgt := 48) dJ6_append_2_34 (by decide) ?_
    refine r_aload_n (pc := 48) dJ6_append_2_48 rfl ?_
    refine r_iload_n (pc := 49) dJ6_append_2_49 rfl ?_
    refine pJ6_79_14 (pc := 50) dJ6_append_2_50 (hp.at 0 rfl) ht (Nat.le_of_ble_eq_true rfl) ?_
    refine go_pw (hp.put 0 rfl) (fun h hp => ?_)
    refine r_aload_n (pc := 53) dJ6_append_2_53 rfl ?_
    exact r_aret (pc := 54) dJ6_append_2_54 rfl (Or.inl ⟨_, rfl⟩) (Or.inr ⟨_, rfl⟩) ⟨rfl, SB.len hL.symm (SBc.cat (k := 2) (d := nmC z) (cap := cap2) (hp.at 0 rfl) (hp.at 1 rfl) (by omega) q4 q5 (fun i hi => by unfold va_up; rw [if_neg (by omega), if_neg (by omega)]) (fun i hi => by
        by_cases i0 : i = 0
        · rw [show nmC z i = 48 + z / 10 by unfold nmC; rw [if_neg z10, if_pos i0]]
          exact ⟨if_pos (by omega), by omega⟩
        · rw [show nmC z i = 48 + z % 10 by unfold nmC; rw [if_neg z10, if_neg i0]]
          exact ⟨by unfold va_up; rw [if_neg (by omega), if_pos (by omega)], by omega⟩) (fun i hi => by unfold va_up; rw [if_neg (by omega), if_neg (by omega)])), (hF.tr (hp.fr (P := fun x => x = t) ⟨FA.t q1, FA.t q2, trivial⟩))⟩
