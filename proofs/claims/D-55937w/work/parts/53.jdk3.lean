set_option maxRecDepth 100000
theorem cuJ2_93_4 {G : Gl} : CUok G "java/util/ArrayList" "CharterKiln$Article" "java/lang/Object" 93 ⟨"java/lang/Object", "equals", "(Ljava/lang/Object;)Z"⟩ yJ45_equals cJ45_equals 2 (some .boolean) 1 := cu_U q1339 q1341 q1340 q1371 q1343 ⟨q1340, q3245, q1371, ⟨by decide, by decide⟩, by decide +kernel, by decide⟩
/-! JDK, part 3: ArrayList: places, adding, taking away; its iterator -/
theorem t_J2_indexOfRange {G : Gl} {h : Hp} {a n o : Nat} {t to : Tg} {mc : Int32} {e : Nat → Nat} {fs : List Value} (hA : AL G t a mc n e h) (ho : h o = some (to, ob 4 fs)) : Ct G 2 0 yJ2_indexOfRange (Cond.code yJ2_indexOfRange cJ2_indexOfRange 6 (some .int)) [.ref a, .ref o, .int (iZ 0), .int (iZ n)] h (jE (.int (iZ (fnd n (fun i => e i.toNat = o)))) h) noX := by
  have hA0 := hA
  obtain ⟨ar, cap, t2, f, q1, q2, q3, q4, q5⟩ := hA0
  refine Ct.of (own := "java/util/ArrayList") (nm := "indexOfRange") (by decide +kernel) rfl rfl (L := [some (.ref a), some (.ref o), some (.int (iZ 0)), some (.int (iZ n)), none, none]) rfl (Nat.le_of_ble_eq_true rfl) rfl ?_
  refine r_aload_n (pc := 0) dJ2_indexOfRange_0 rfl ?_
  refine gJ2_9 (pc := 1) dJ2_indexOfRange_1 q1 rfl ?_
  refine r_astore (pc := 4) (L' := [_, _, _, _, _, _]) dJ2_indexOfRange_4 rfl ?_
  refine r_aload_n (pc := 6) dJ2_indexOfRange_6 rfl ?_
  refine r_ifnonnull (pc := 7) (tgt := 39) dJ2_indexOfRange_7 (by decide) ?_
  refine r_iload_n (pc := 39) dJ2_indexOfRange_39 rfl ?_
  refine r_istore (pc := 40) (L' := [_, _, _, _, _, _]) dJ2_indexOfRange_40 rfl ?_
  have loop42 : ∀ (k42 : Nat) (z : Int), (0 ≤ z) → (z ≤ n) → (fnd n (fun i => e i.toNat = o) = fndZ (fun i => e i.toNat = o) z ((n : Int) - z).toNat) → ((n : Int) - z).toNat < k42 → Go G "java/util/ArrayList" cJ2_indexOfRange (6, some .int, "indexOfRange", []) 2 0 (jE (.int (iZ (fnd n (fun i => e i.toNat = o)))) h) (noX) 0 h 42 [some (.ref a), some (.ref o), some (.int (iZ 0)), some (.int (iZ n)), some (.ref ar), some (.int (iZ z))] [] := by
    intro k42
    induction k42 with
    | zero => intro z z0 z1 hz hk; omega
    | succ k42 ih42 =>
      intro z z0 z1 hz hk42
      refine r_iload (pc := 42) dJ2_indexOfRange_42 rfl ?_
      refine r_iload_n (pc := 44) dJ2_indexOfRange_44 rfl ?_
      refine r_icmp_ge (pc := 45) (tgt := 69) dJ2_indexOfRange_45 (by decide) (by omega) (by omega) (fun c45 => ?_) (fun c45 => ?_)
      · refine r_iconst (pc := 69) dJ2_indexOfRange_69 ?_
        exact r_iret (pc := 70) dJ2_indexOfRange_70 rfl rfl ⟨by rw [hz, fnd_e (by omega)], rfl⟩
      · refine r_aload_n (pc := 48) dJ2_indexOfRange_48 rfl ?_
        refine r_aload (pc := 49) dJ2_indexOfRange_49 rfl ?_
        refine r_iload (pc := 51) dJ2_indexOfRange_51 rfl ?_
        refine r_aald (pc := 53) dJ2_indexOfRange_53 (by decide) q2 (by omega) (by omega) (by omega) ?_
        refine go_cv (w := .ref (e z.toNat)) (by rw [q4 _ (by omega)]; rfl) ?_
        refine r_callG (pc := 54) (kb' := 0) dJ2_indexOfRange_54 cuJ2_93_4 (t_J45_equals ) ho rfl (Nat.le_refl _) (Nat.le_of_ble_eq_true rfl) rfl rfl (Nat.le_of_ble_eq_true rfl) (fun _ _ q => q.elim) (fun _ _ hq => ?_)
        refine go_jE hq ?_
        refine r_ifB_eq (pc := 57) (tgt := 63) dJ2_indexOfRange_57 (by decide) (fun c57 => ?_) (fun c57 => ?_)
        · refine r_iinc (pc := 63) (L' := [_, _, _, _, _, _]) dJ2_indexOfRange_63 rfl rfl ?_
          refine r_goto (pc := 66) (tgt := 42) dJ2_indexOfRange_66 (by decide) ?_
          exact ih42 _ (by omega) (by omega) (by rw [hz, fnd_s (by omega), if_neg (fun q => c57 (by rw [q]))]) (by omega)
        · refine r_iload (pc := 60) dJ2_indexOfRange_60 rfl ?_
          exact r_iret (pc := 62) dJ2_indexOfRange_62 rfl rfl ⟨by rw [hz, fnd_s (by omega), if_pos (show e z.toNat = o from c57.symm)], rfl⟩
  exact loop42 _ _ (by omega) (by omega) (by rw [Int.sub_zero]; rfl) (Nat.lt_succ_self _)
theorem t_J2_indexOf {G : Gl} {h : Hp} {a n o : Nat} {t to : Tg} {mc : Int32} {e : Nat → Nat} {fs : List Value} (hA : AL G t a mc n e h) (ho : h o = some (to, ob 4 fs)) : Ct G 3 0 yJ2_indexOf (Cond.code yJ2_indexOf cJ2_indexOf 2 (some .int)) [.ref a, .ref o] h (jE (.int (iZ (fnd n (fun i => e i.toNat = o)))) h) noX := by
  have hA0 := hA
  obtain ⟨ar, cap, t2, f, q1, q2, q3, q4, q5⟩ := hA0
  refine Ct.of (own := "java/util/ArrayList") (nm := "indexOf") (by decide +kernel) rfl rfl (L := [some (.ref a), some (.ref o)]) rfl (Nat.le_of_ble_eq_true rfl) rfl ?_
  refine r_aload_n (pc := 0) dJ2_indexOf_0 rfl ?_
  refine r_aload_n (pc := 1) dJ2_indexOf_1 rfl ?_
  refine r_iconst (pc := 2) dJ2_indexOf_2 ?_
  refine r_aload_n (pc := 3) dJ2_indexOf_3 rfl ?_
  refine gJ2_48 (pc := 4) dJ2_indexOf_4 q1 rfl ?_
  refine r_callV (pc := 7) (kb' := 0) dJ2_indexOf_7 kJ2_indexOfRange q1334 (t_J2_indexOfRange hA ho) q1 rfl (Nat.le_refl _) (Nat.le_of_ble_eq_true rfl) rfl rfl (Nat.le_of_ble_eq_true rfl) (fun _ _ q => q.elim) (fun _ _ hq => ?_)
  refine go_jE hq ?_
  exact r_iret (pc := 10) dJ2_indexOf_10 rfl rfl ⟨rfl, rfl⟩
theorem t_J18_newLength {G : Gl} {h : Hp} {o m p : Int} (h0 : 0 ≤ o ∧ o ≤ 1000000) (h1 : 0 < m ∧ m ≤ 1000000) (h2 : 0 ≤ p ∧ p ≤ 1000000) : Ct G 2 0 yJ18_newLength (Cond.code yJ18_newLength cJ18_newLength 4 (some .int)) [.int (iZ o), .int (iZ m), .int (iZ p)] h (jE (.int (iZ (o + (if m < p then p else m)))) h) noX := by
  have hz : 0 < o + (if m < p then p else m) ∧ o + (if m < p then p else m) ≤ 2000000 := by split <;> omega
  refine Ct.of (own := "jdk/internal/util/ArraysSupport") (nm := "newLength") (by decide +kernel) rfl rfl (L := [some (.int (iZ o)), some (.int (iZ m)), some (.int (iZ p)), none]) rfl (Nat.le_of_ble_eq_true rfl) rfl ?_
  refine r_iload_n (pc := 0) dJ18_newLength_0 rfl ?_
  refine r_iload_n (pc := 1) dJ18_newLength_1 rfl ?_
  refine r_iload_n (pc := 2) dJ18_newLength_2 rfl ?_
  refine r_callS (pc := 3) (kb' := 0) dJ18_newLength_3 kJ19_max q645 (t_J19_max (by omega) (by omega)) (Nat.le_refl _) (Nat.le_of_ble_eq_true rfl) rfl rfl (Nat.le_of_ble_eq_true rfl) (fun _ _ q => q.elim) (fun _ _ hq => ?_)
  refine go_jE hq ?_
  refine r_iadd (pc := 6) dJ18_newLength_6 ?_
  refine r_istore_n (pc := 7) (L' := [_, _, _, _]) dJ18_newLength_7 rfl ?_
  refine r_iconst (pc := 8) dJ18_newLength_8 ?_
  refine r_iload_n (pc := 9) dJ18_newLength_9 rfl ?_
  refine r_icmp_ge (pc := 10) (tgt := 21) dJ18_newLength_10 (by decide) (by (repeat' split) <;> omega) (by (repeat' split) <;> omega) (fun c10 => absurd c10 (by omega)) (fun c10 => ?_)
  refine r_iload_n (pc := 13) dJ18_newLength_13 rfl ?_
  refine r_ldc (pc := 14) dJ18_newLength_14 q648 ?_
  refine go_ci (z := 2147483639) rfl ?_
  refine r_icmp_gt (pc := 16) (tgt := 21) dJ18_newLength_16 (by decide) (by (repeat' split) <;> omega) (by (repeat' split) <;> omega) (fun c16 => absurd c16 (by omega)) (fun c16 => ?_)
  refine r_iload_n (pc := 19) dJ18_newLength_19 rfl ?_
  exact r_iret (pc := 20) dJ18_newLength_20 rfl rfl ⟨rfl, rfl⟩
theorem t_J20_copyOf_3 {G : Gl} {h : Hp} {ar : Nat} {t2 : Tg} {f : Nat → Option Nat} (tg : Tg) (hr : h ar = some (t2, aQ "java/lang/Object" 10 f)) (htg : tg ≠ frz) (hob : ∀ i, i < 10 → ∀ y, f i = some y → ∃ tv ci fs, h y = some (tv, ob ci fs)) : Ct G 2 16 yJ20_copyOf_3 (Cond.code yJ20_copyOf_3 cJ20_copyOf_3 4 (some (.array (.object "java/lang/Object")))) [.ref ar, .int (iZ 15), .ref (gS G 5)] h (jX (fun q h' => h q = none ∧ h' = up h q (tg, aQ "java/lang/Object" 15 (va_cpy f (fun _ => none) 0 0 10)))) noX := by
  have hp := PW.nil (h := h)
  refine Ct.of (own := "java/util/Arrays") (nm := "copyOf") (by decide +kernel) rfl rfl (L := [some (.ref ar), some (.int (iZ 15)), some (.ref (gS G 5)), none]) rfl (Nat.le_of_ble_eq_true rfl) rfl ?_
  refine r_aload_n (pc := 0) dJ20_copyOf_3_0 rfl ?_
  refine r_ldcM (pc := 1) dJ20_copyOf_3_1 q1451 ?_
  refine r_acmp_ne (pc := 3) (tgt := 13) dJ20_copyOf_3_3 (by decide) (fun c3 => absurd rfl c3) (fun c3 => ?_)
  refine r_iload_n (pc := 6) dJ20_copyOf_3_6 rfl ?_
  refine r_newQ (pc := 7) (N := 15) (kb' := 0) (tg) dJ20_copyOf_3_7 q1452 q279 rfl (by omega) (Nat.le_of_ble_eq_true rfl) (fun w hw zw => ?_)
  refine go_pw (hp.new hw _) (fun h hp => ?_)
  refine r_goto (pc := 10) (tgt := 24) dJ20_copyOf_3_10 (by decide) ?_
  refine r_astore_n (pc := 24) (L' := [_, _, _, _]) dJ20_copyOf_3_24 rfl ?_
  have hr := (hp.ot (b := ar) ⟨(ne_nw hr hw).symm, trivial⟩).trans hr
  refine r_aload_n (pc := 25) dJ20_copyOf_3_25 rfl ?_
  refine r_iconst (pc := 26) dJ20_copyOf_3_26 ?_
  refine r_aload_n (pc := 27) dJ20_copyOf_3_27 rfl ?_
  refine r_iconst (pc := 28) dJ20_copyOf_3_28 ?_
  refine r_aload_n (pc := 29) dJ20_copyOf_3_29 rfl ?_
  refine r_alen (pc := 30) dJ20_copyOf_3_30 (by decide) hr (by omega) ?_
  refine r_iload_n (pc := 31) dJ20_copyOf_3_31 rfl ?_
  refine r_callS (pc := 32) (kb' := 0) dJ20_copyOf_3_32 kJ19_min q663 (t_J19_min (by omega) (by omega)) (Nat.le_refl _) (Nat.le_of_ble_eq_true rfl) rfl rfl (Nat.le_of_ble_eq_true rfl) (fun _ _ q => q.elim) (fun _ _ hq => ?_)
  refine go_jE hq ?_
  refine go_cz (w := 10) (by first | rfl | omega | (split <;> omega)) ?_
  refine r_copyQ (pc := 35) dJ20_copyOf_3_35 q666 hr (hp.at 0 rfl) htg (by omega) (by omega) (by omega) (by omega) (by omega) (by omega) (by omega) (fun i hi y hy => by
      obtain ⟨tv, ci, fs, hv⟩ := hob i (by omega) y (by simpa using hy)
      exact ⟨tv, ci, fs, (hp.ot ⟨(ne_nw hv hw).symm, trivial⟩).trans hv⟩) (Nat.le_of_ble_eq_true rfl) (Nat.le_of_ble_eq_true rfl) ?_
  refine go_pw (hp.put 0 rfl) (fun h hp => ?_)
  refine r_aload_n (pc := 38) dJ20_copyOf_3_38 rfl ?_
  exact r_aret (pc := 39) dJ20_copyOf_3_39 rfl (Or.inr ⟨_, rfl⟩) (Or.inr ⟨_, rfl⟩) ⟨w, rfl, hw, hp.eq1⟩
theorem t_J20_copyOf_2 {G : Gl} {h : Hp} {ar : Nat} {t2 : Tg} {f : Nat → Option Nat} (tg : Tg) (hr : h ar = some (t2, aQ "java/lang/Object" 10 f)) (htg : tg ≠ frz) (hob : ∀ i, i < 10 → ∀ y, f i = some y → ∃ tv ci fs, h y = some (tv, ob ci fs)) : Ct G 3 16 yJ20_copyOf_2 (Cond.code yJ20_copyOf_2 cJ20_copyOf_2 2 (some (.array (.object "java/lang/Object")))) [.ref ar, .int (iZ 15)] h (jX (fun q h' => h q = none ∧ h' = up h q (tg, aQ "java/lang/Object" 15 (va_cpy f (fun _ => none) 0 0 10)))) noX := by
  refine Ct.of (own := "java/util/Arrays") (nm := "copyOf") (by decide +kernel) rfl rfl (L := [some (.ref ar), some (.int (iZ 15))]) rfl (Nat.le_of_ble_eq_true rfl) rfl ?_
  refine r_aload_n (pc := 0) dJ20_copyOf_2_0 rfl ?_
  refine r_iload_n (pc := 1) dJ20_copyOf_2_1 rfl ?_
  refine r_aload_n (pc := 2) dJ20_copyOf_2_2 rfl ?_
  refine r_getC (pc := 3) dJ20_copyOf_2_3 q1447 hr (Nat.le_of_ble_eq_true rfl) (Nat.le_of_ble_eq_true rfl) ?_
  refine r_callS (pc := 6) (kb' := 0) dJ20_copyOf_2_6 kJ20_copyOf_3 q1448 (t_J20_copyOf_3 tg hr htg hob) (Nat.le_of_ble_eq_true rfl) (Nat.le_of_ble_eq_true rfl) rfl rfl (Nat.le_of_ble_eq_true rfl) (fun _ _ q => q.elim) (fun _ h hq => ?_)
  refine go_jX hq (fun q hq => ?_)
  exact r_aret (pc := 9) dJ20_copyOf_2_9 rfl (Or.inr ⟨_, rfl⟩) (Or.inr ⟨_, rfl⟩) ⟨q, rfl, hq⟩
theorem t_J2_grow_2A {G : Gl} {h : Hp} {a ar n : Nat} {t t2 : Tg} {mc : Int32} {f : Nat → Option Nat} (q1 : h a = some (t, ob 8 [.int mc, .ref ar, .int (iZ n)])) (q2 : h ar = some (t2, aQ "java/lang/Object" n f)) (hn : n ≤ 12) (q5 : t2 = t ∧ (n = 10 ∨ n = 15)) (ht : t ≠ frz) (hob : ∀ i, i < n → ∀ y, f i = some y → ∃ tv ci fs, h y = some (tv, ob ci fs)) : Ct G 4 16 yJ2_grow_2 (Cond.code yJ2_grow_2 cJ2_grow_2 4 (some (.array (.object "java/lang/Object")))) [.ref a, .int (iZ (n + 1))] h (jX (fun q h' => h q = none ∧ ∃ cap g, ((cap = 10 ∨ cap = 15) ∧ n < cap) ∧ (∀ i, i < n → g i = f i) ∧ PW [(a, t, ob 8 [.int mc, .ref q, .int (iZ n)]), (q, t, aQ "java/lang/Object" cap g)] h h')) noX := by
  have hp := PW.one q1
  have hn10 : n = 10 := by omega
  refine Ct.of (own := "java/util/ArrayList") (nm := "grow") (by decide +kernel) rfl rfl (L := [some (.ref a), some (.int (iZ (n + 1))), none, none]) rfl (Nat.le_of_ble_eq_true rfl) rfl ?_
  refine r_aload_n (pc := 0) dJ2_grow_2_0 rfl ?_
  refine gJ2_9 (pc := 1) dJ2_grow_2_1 (hp.at 0 rfl) rfl ?_
  refine r_alen (pc := 4) dJ2_grow_2_4 (by decide) q2 (by omega) ?_
  refine r_istore_n (pc := 5) (L' := [_, _, _, _]) dJ2_grow_2_5 rfl ?_
  refine r_iload_n (pc := 6) dJ2_grow_2_6 rfl ?_
  refine r_if_gt (pc := 7) (tgt := 20) dJ2_grow_2_7 (by decide) (by omega) (fun c7 => ?_) (fun c7 => absurd (by omega) c7)
  refine r_iload_n (pc := 20) dJ2_grow_2_20 rfl ?_
  refine r_iload_n (pc := 21) dJ2_grow_2_21 rfl ?_
  refine r_iload_n (pc := 22) dJ2_grow_2_22 rfl ?_
  refine r_isub (pc := 23) dJ2_grow_2_23 ?_
  refine r_iload_n (pc := 24) dJ2_grow_2_24 rfl ?_
  refine r_iconst (pc := 25) dJ2_grow_2_25 ?_
  refine r_ishr1 (pc := 26) dJ2_grow_2_26 (by omega) ?_
  refine r_callS (pc := 27) (kb' := 16) dJ2_grow_2_27 kJ18_newLength q1443 (t_J18_newLength (by omega) (by omega) (by omega)) (Nat.le_refl _) (Nat.le_of_ble_eq_true rfl) rfl rfl (Nat.le_of_ble_eq_true rfl) (fun _ _ q => q.elim) (fun _ _ hq => ?_)
  refine go_jE hq ?_
  refine go_cz (w := 15) (by first | rfl | omega | (split <;> omega)) ?_
  refine r_istore_n (pc := 30) (L' := [_, _, _, _]) dJ2_grow_2_30 rfl ?_
  refine r_aload_n (pc := 31) dJ2_grow_2_31 rfl ?_
  refine r_aload_n (pc := 32) dJ2_grow_2_32 rfl ?_
  refine gJ2_9 (pc := 33) dJ2_grow_2_33 (hp.at 0 rfl) rfl ?_
  refine r_iload_n (pc := 36) dJ2_grow_2_36 rfl ?_
  refine r_callS (pc := 37) (kb' := 0) dJ2_grow_2_37 kJ20_copyOf_2 q1444 (t_J20_copyOf_2 t (by rw [hn10] at q2; exact q2) ht (by rw [hn10] at hob; exact hob)) (Nat.le_of_ble_eq_true rfl) (Nat.le_of_ble_eq_true rfl) rfl rfl (Nat.le_of_ble_eq_true rfl) (fun _ _ q => q.elim) (fun _ h hq => ?_)
  refine go_jX hq (fun w hw => ?_)
  obtain ⟨hw, e⟩ := hw
  subst e
  refine go_pw (hp.new hw _) (fun h hp => ?_)
  refine r_dup_x1 (pc := 40) dJ2_grow_2_40 rfl rfl ?_
  refine pJ2_9 (pc := 41) dJ2_grow_2_41 rfl rfl rfl (hp.at 0 rfl) ht (Nat.le_of_ble_eq_true rfl) ?_
  refine go_pw (hp.put 0 rfl) (fun h hp => ?_)
  exact r_aret (pc := 44) dJ2_grow_2_44 rfl (Or.inr ⟨_, rfl⟩) (Or.inr ⟨_, rfl⟩) ⟨w, rfl, hw, 15, _, ⟨Or.inr rfl, by omega⟩, fun i hi => (pk_cpy_in (n := 10) (by omega) (by omega)).trans (congrArg f (by omega)), hp⟩
theorem t_J2_grow_2B {G : Gl} {h : Hp} {a ar n : Nat} {t t2 : Tg} {mc : Int32} {f : Nat → Option Nat} (q1 : h a = some (t, ob 8 [.int mc, .ref ar, .int (iZ n)])) (q2 : h ar = some (t2, aQ "java/lang/Object" n f)) (hn : n ≤ 12) (q5 : n = 0 ∧ ar = gS G 0) (ht : t ≠ frz) (hob : ∀ i, i < n → ∀ y, f i = some y → ∃ tv ci fs, h y = some (tv, ob ci fs)) : Ct G 2 11 yJ2_grow_2 (Cond.code yJ2_grow_2 cJ2_grow_2 4 (some (.array (.object "java/lang/Object")))) [.ref a, .int (iZ (n + 1))] h (jX (fun q h' => h q = none ∧ ∃ cap g, ((cap = 10 ∨ cap = 15) ∧ n < cap) ∧ (∀ i, i < n → g i = f i) ∧ PW [(a, t, ob 8 [.int mc, .ref q, .int (iZ n)]), (q, t, aQ "java/lang/Object" cap g)] h h')) noX := by
  have hp := PW.one q1
  obtain ⟨hn0, rfl⟩ := q5
  refine Ct.of (own := "java/util/ArrayList") (nm := "grow") (by decide +kernel) rfl rfl (L := [some (.ref a), some (.int (iZ (n + 1))), none, none]) rfl (Nat.le_of_ble_eq_true rfl) rfl ?_
  refine r_aload_n (pc := 0) dJ2_grow_2_0 rfl ?_
  refine gJ2_9 (pc := 1) dJ2_grow_2_1 (hp.at 0 rfl) rfl ?_
  refine r_alen (pc := 4) dJ2_grow_2_4 (by decide) q2 (by omega) ?_
  refine r_istore_n (pc := 5) (L' := [_, _, _, _]) dJ2_grow_2_5 rfl ?_
  refine r_iload_n (pc := 6) dJ2_grow_2_6 rfl ?_
  refine r_if_gt (pc := 7) (tgt := 20) dJ2_grow_2_7 (by decide) (by omega) (fun c7 => absurd c7 (by omega)) (fun c7 => ?_)
  refine r_aload_n (pc := 10) dJ2_grow_2_10 rfl ?_
  refine gJ2_9 (pc := 11) dJ2_grow_2_11 (hp.at 0 rfl) rfl ?_
  refine r_gets (pc := 14) dJ2_grow_2_14 0 rfl q189 rfl ?_
  refine r_acmp_eq (pc := 17) (tgt := 45) dJ2_grow_2_17 (by decide) (fun c17 => ?_) (fun c17 => absurd rfl c17)
  refine r_aload_n (pc := 45) dJ2_grow_2_45 rfl ?_
  refine r_bipush (pc := 46) dJ2_grow_2_46 (by decide) ?_
  refine r_iload_n (pc := 48) dJ2_grow_2_48 rfl ?_
  refine r_callS (pc := 49) (kb' := 11) dJ2_grow_2_49 kJ19_max q1453 (t_J19_max (by omega) (by omega)) (Nat.le_refl _) (Nat.le_of_ble_eq_true rfl) rfl rfl (Nat.le_of_ble_eq_true rfl) (fun _ _ q => q.elim) (fun _ _ hq => ?_)
  refine go_jE hq ?_
  refine go_cz (w := 10) (by first | rfl | omega | (split <;> omega)) ?_
  refine r_newQ (pc := 52) (N := 10) (kb' := 0) (t) dJ2_grow_2_52 q1454 q279 rfl (by omega) (Nat.le_of_ble_eq_true rfl) (fun w hw zw => ?_)
  refine go_pw (hp.new hw _) (fun h hp => ?_)
  refine r_dup_x1 (pc := 55) dJ2_grow_2_55 rfl rfl ?_
  refine pJ2_9 (pc := 56) dJ2_grow_2_56 rfl rfl rfl (hp.at 0 rfl) ht (Nat.le_of_ble_eq_true rfl) ?_
  refine go_pw (hp.put 0 rfl) (fun h hp => ?_)
  exact r_aret (pc := 59) dJ2_grow_2_59 rfl (Or.inr ⟨_, rfl⟩) (Or.inr ⟨_, rfl⟩) ⟨w, rfl, hw, 10, _, ⟨Or.inl rfl, by omega⟩, fun i hi => absurd hi (by omega), hp⟩
theorem t_J2_growA {G : Gl} {h : Hp} {a ar n : Nat} {t t2 : Tg} {mc : Int32} {f : Nat → Option Nat} (q1 : h a = some (t, ob 8 [.int mc, .ref ar, .int (iZ n)])) (q2 : h ar = some (t2, aQ "java/lang/Object" n f)) (hn : n ≤ 12) (q5 : t2 = t ∧ (n = 10 ∨ n = 15)) (ht : t ≠ frz) (hob : ∀ i, i < n → ∀ y, f i = some y → ∃ tv ci fs, h y = some (tv, ob ci fs)) : Ct G 5 16 yJ2_grow (Cond.code yJ2_grow cJ2_grow 1 (some (.array (.object "java/lang/Object")))) [.ref a] h (jX (fun q h' => h q = none ∧ ∃ cap g, ((cap = 10 ∨ cap = 15) ∧ n < cap) ∧ (∀ i, i < n → g i = f i) ∧ PW [(a, t, ob 8 [.int mc, .ref q, .int (iZ n)]), (q, t, aQ "java/lang/Object" cap g)] h h')) noX := by
  refine Ct.of (own := "java/util/ArrayList") (nm := "grow") (by decide +kernel) rfl rfl (L := [some (.ref a)]) rfl (Nat.le_of_ble_eq_true rfl) rfl ?_
  refine r_aload_n (pc := 0) dJ2_grow_0 rfl ?_
  refine r_aload_n (pc := 1) dJ2_grow_1 rfl ?_
  refine gJ2_48 (pc := 2) dJ2_grow_2 q1 rfl ?_
  refine r_iconst (pc := 5) dJ2_grow_5 ?_
  refine r_iadd (pc := 6) dJ2_grow_6 ?_
  refine r_callV (pc := 7) (kb' := 0) dJ2_grow_7 kJ2_grow_2 q1439 (t_J2_grow_2A q1 q2 hn q5 ht hob) q1 rfl (Nat.le_of_ble_eq_true rfl) (Nat.le_of_ble_eq_true rfl) rfl rfl (Nat.le_of_ble_eq_true rfl) (fun _ _ q => q.elim) (fun _ h hq => ?_)
  refine go_jX hq (fun q hq => ?_)
  exact r_aret (pc := 10) dJ2_grow_10 rfl (Or.inr ⟨_, rfl⟩) (Or.inr ⟨_, rfl⟩) ⟨q, rfl, hq⟩
theorem t_J2_growB {G : Gl} {h : Hp} {a ar n : Nat} {t t2 : Tg} {mc : Int32} {f : Nat → Option Nat} (q1 : h a = some (t, ob 8 [.int mc, .ref ar, .int (iZ n)])) (q2 : h ar = some (t2, aQ "java/lang/Object" n f)) (hn : n ≤ 12) (q5 : n = 0 ∧ ar = gS G 0) (ht : t ≠ frz) (hob : ∀ i, i < n → ∀ y, f i = some y → ∃ tv ci fs, h y = some (tv, ob ci fs)) : Ct G 3 11 yJ2_grow (Cond.code yJ2_grow cJ2_grow 1 (some (.array (.object "java/lang/Object")))) [.ref a] h (jX (fun q h' => h q = none ∧ ∃ cap g, ((cap = 10 ∨ cap = 15) ∧ n < cap) ∧ (∀ i, i < n → g i = f i) ∧ PW [(a, t, ob 8 [.int mc, .ref q, .int (iZ n)]), (q, t, aQ "java/lang/Object" cap g)] h h')) noX := by
  refine Ct.of (own := "java/util/ArrayList") (nm := "grow") (by decide +kernel) rfl rfl (L := [some (.ref a)]) rfl (Nat.le_of_ble_eq_true rfl) rfl ?_
  refine r_aload_n (pc := 0) dJ2_grow_0 rfl ?_
  refine r_aload_n (pc := 1) dJ2_grow_1 rfl ?_
  refine gJ2_48 (pc := 2) dJ2_grow_2 q1 rfl ?_
  refine r_iconst (pc := 5) dJ2_grow_5 ?_
  refine r_iadd (pc := 6) dJ2_grow_6 ?_
  refine r_callV (pc := 7) (kb' := 0) dJ2_grow_7 kJ2_grow_2 q1439 (t_J2_grow_2B q1 q2 hn q5 ht hob) q1 rfl (Nat.le_of_ble_eq_true rfl) (Nat.le_of_ble_eq_true rfl) rfl rfl (Nat.le_of_ble_eq_true rfl) (fun _ _ q => q.elim) (fun _ h hq => ?_)
  refine go_jX hq (fun q hq => ?_)
  exact r_aret (pc := 10) dJ2_grow_10 rfl (Or.inr ⟨_, rfl⟩) (Or.inr ⟨_, rfl⟩) ⟨q, rfl, hq⟩
theorem AL.add {G : Gl} {t : Tg} {a ar o n cap : Nat} {mc : Int32} {e : Nat → Nat} {f : Nat → Option Nat} {h : Hp} (h1 : h a = some (t, ob 8 [.int mc, .ref ar, .int (iZ (n + 1))])) (h2 : h ar = some (t, aQ "java/lang/Object" cap (va_up f n (some o)))) (hc : n < cap ∧ n < 12) (hcap : cap = 10 ∨ cap = 15) (hf : ∀ i, i < n → f i = some (e i)) : AL G t a mc (n + 1) (fun i => if i = n then o else e i) h := by
  refine ⟨ar, cap, t, _, h1, h2, ⟨by omega, by omega⟩, fun i hi => ?_, Or.inl ⟨rfl, hcap⟩⟩
  unfold va_up
  by_cases q : i = n
  · rw [if_pos q]; show some o = some (if i = n then o else e i); rw [if_pos q]
  · rw [if_neg q]; show f i = some (if i = n then o else e i); rw [if_neg q]; exact hf i (by omega)

theorem t_J2_add_2R {G : Gl} {h : Hp} {a ar n o cap : Nat} {t to : Tg} {mc : Int32} {e : Nat → Nat} {f : Nat → Option Nat} {co : Nat} {fs : List Value} (q1 : h a = some (t, ob 8 [.int mc, .ref ar, .int (iZ n)])) (q2 : h ar = some (t, aQ "java/lang/Object" cap f)) (q3 : n ≤ cap ∧ n < 12) (q4 : ∀ i, i < n → f i = some (e i)) (ht : t ≠ frz) (ho : h o = some (to, ob co fs)) (hob : ∀ i, i < n → ∃ tv ci fs, h (e i) = some (tv, ob ci fs)) (q5 : cap = 10 ∨ cap = 15) (hr : n < cap) (hco : co ≠ 8) : Ct G 1 0 yJ2_add_2 (Cond.code yJ2_add_2 cJ2_add_2 4 (none)) [.ref a, .ref o, .ref ar, .int (iZ n)] h (jN (fun h' => AL G t a mc (n + 1) (fun i => if i = n then o else e i) h' ∧ Fr (fun x => x = t) h h')) noX := by
  have hp := PW.two q1 q2 (ne_of q1 q2 (by intro e; simp [ob, aQ] at e))
  refine Ct.of (own := "java/util/ArrayList") (nm := "add") (by decide +kernel) rfl rfl (L := [some (.ref a), some (.ref o), some (.ref ar), some (.int (iZ n))]) rfl (Nat.le_of_ble_eq_true rfl) rfl ?_
  refine r_iload_n (pc := 0) dJ2_add_2_0 rfl ?_
  refine r_aload_n (pc := 1) dJ2_add_2_1 rfl ?_
  refine r_alen (pc := 2) dJ2_add_2_2 (by decide) (hp.at 1 rfl) (by omega) ?_
  refine r_icmp_ne (pc := 3) (tgt := 11) dJ2_add_2_3 (by decide) (by omega) (by omega) (fun c3 => ?_) (fun c3 => absurd (by omega) c3)
  refine r_aload_n (pc := 11) dJ2_add_2_11 rfl ?_
  refine r_iload_n (pc := 12) dJ2_add_2_12 rfl ?_
  refine r_aload_n (pc := 13) dJ2_add_2_13 rfl ?_
  refine r_aast (pc := 14) dJ2_add_2_14 (hp.at 1 rfl) ht ho (by omega) (by omega) (by omega) ?_
  refine go_pw (hp.put 1 rfl) (fun h hp => ?_)
  refine r_aload_n (pc := 15) dJ2_add_2_15 rfl ?_
  refine r_iload_n (pc := 16) dJ2_add_2_16 rfl ?_
  refine r_iconst (pc := 17) dJ2_add_2_17 ?_
  refine r_iadd (pc := 18) dJ2_add_2_18 ?_
  refine pJ2_48 (pc := 19) dJ2_add_2_19 (hp.at 0 rfl) ht (Nat.le_of_ble_eq_true rfl) ?_
  refine go_pw (hp.put 0 rfl) (fun h hp => ?_)
  exact r_vret (pc := 22) dJ2_add_2_22 rfl ⟨rfl, AL.add (hp.at 0 rfl) (hp.at 1 rfl) (by omega) (by omega) (fun i hi => q4 i hi), hp.fr ⟨FA.t q1, FA.t q2, trivial⟩⟩
theorem t_J2_add_2A {G : Gl} {h : Hp} {a ar n o cap : Nat} {t t2 to : Tg} {mc : Int32} {e : Nat → Nat} {f : Nat → Option Nat} {co : Nat} {fs : List Value} (q1 : h a = some (t, ob 8 [.int mc, .ref ar, .int (iZ n)])) (q2 : h ar = some (t2, aQ "java/lang/Object" cap f)) (q3 : n ≤ cap ∧ n < 12) (q4 : ∀ i, i < n → f i = some (e i)) (ht : t ≠ frz) (ho : h o = some (to, ob co fs)) (hob : ∀ i, i < n → ∃ tv ci fs, h (e i) = some (tv, ob ci fs)) (q5 : t2 = t ∧ (cap = 10 ∨ cap = 15)) (hr : n = cap) (hco : co ≠ 8) : Ct G 6 16 yJ2_add_2 (Cond.code yJ2_add_2 cJ2_add_2 4 (none)) [.ref a, .ref o, .ref ar, .int (iZ n)] h (jN (fun h' => AL G t a mc (n + 1) (fun i => if i = n then o else e i) h' ∧ Fr (fun x => x = t) h h')) noX := by
  subst hr
  have hao : a ≠ o := ne_of q1 ho (by intro e; exact hco (by simp [ob] at e; exact e.2.1.symm))
  refine Ct.of (own := "java/util/ArrayList") (nm := "add") (by decide +kernel) rfl rfl (L := [some (.ref a), some (.ref o), some (.ref ar), some (.int (iZ n))]) rfl (Nat.le_of_ble_eq_true rfl) rfl ?_
  refine r_iload_n (pc := 0) dJ2_add_2_0 rfl ?_
  refine r_aload_n (pc := 1) dJ2_add_2_1 rfl ?_
  refine r_alen (pc := 2) dJ2_add_2_2 (by decide) q2 (by omega) ?_
  refine r_icmp_ne (pc := 3) (tgt := 11) dJ2_add_2_3 (by decide) (by omega) (by omega) (fun c3 => absurd rfl c3) (fun c3 => ?_)
  refine r_aload_n (pc := 6) dJ2_add_2_6 rfl ?_
  refine r_callV (pc := 7) (kb' := 0) dJ2_add_2_7 kJ2_grow q1435 (t_J2_growA q1 q2 (by omega) q5 ht (fun i hi y hy => by
      rw [q4 i (by omega)] at hy
      cases hy
      exact hob i (by omega))) q1 rfl (Nat.le_of_ble_eq_true rfl) (Nat.le_of_ble_eq_true rfl) rfl rfl (Nat.le_of_ble_eq_true rfl) (fun _ _ q => q.elim) (fun _ h hq => ?_)
  refine go_jX hq (fun q hq => ?_)
  obtain ⟨hw, cap2, g, hc2, hg, hp⟩ := hq
  refine r_astore_n (pc := 10) (L' := [_, _, _, _]) dJ2_add_2_10 rfl ?_
  refine r_aload_n (pc := 11) dJ2_add_2_11 rfl ?_
  refine r_iload_n (pc := 12) dJ2_add_2_12 rfl ?_
  refine r_aload_n (pc := 13) dJ2_add_2_13 rfl ?_
  refine r_aast (pc := 14) dJ2_add_2_14 (hp.at 1 rfl) ht ((hp.ot ⟨hao, ne_nw ho hw |>.symm, trivial⟩).trans ho) (by omega) (by omega) (by omega) ?_
  refine go_pw (hp.put 1 rfl) (fun h hp => ?_)
  refine r_aload_n (pc := 15) dJ2_add_2_15 rfl ?_
  refine r_iload_n (pc := 16) dJ2_add_2_16 rfl ?_
  refine r_iconst (pc := 17) dJ2_add_2_17 ?_
  refine r_iadd (pc := 18) dJ2_add_2_18 ?_
  refine pJ2_48 (pc := 19) dJ2_add_2_19 (hp.at 0 rfl) ht (Nat.le_of_ble_eq_true rfl) ?_
  refine go_pw (hp.put 0 rfl) (fun h hp => ?_)
  exact r_vret (pc := 22) dJ2_add_2_22 rfl ⟨rfl, AL.add (hp.at 0 rfl) (hp.at 1 rfl) (by omega) (by omega) (fun i hi => (hg i hi).trans (q4 i hi)), hp.fr ⟨FA.t q1, Or.inl hw, trivial⟩⟩
theorem t_J2_add_2B {G : Gl} {h : Hp} {a ar n o cap : Nat} {t t2 to : Tg} {mc : Int32} {e : Nat → Nat} {f : Nat → Option Nat} {co : Nat} {fs : List Value} (q1 : h a = some (t, ob 8 [.int mc, .ref ar, .int (iZ n)])) (q2 : h ar = some (t2, aQ "java/lang/Object" cap f)) (q3 : n ≤ cap ∧ n < 12) (q4 : ∀ i, i < n → f i = some (e i)) (ht : t ≠ frz) (ho : h o = some (to, ob co fs)) (hob : ∀ i, i < n → ∃ tv ci fs, h (e i) = some (tv, ob ci fs)) (q5 : cap = 0 ∧ ar = gS G 0) (hr : n = cap) (hco : co ≠ 8) : Ct G 4 11 yJ2_add_2 (Cond.code yJ2_add_2 cJ2_add_2 4 (none)) [.ref a, .ref o, .ref ar, .int (iZ n)] h (jN (fun h' => AL G t a mc (n + 1) (fun i => if i = n then o else e i) h' ∧ Fr (fun x => x = t) h h')) noX := by
  subst hr
  have hao : a ≠ o := ne_of q1 ho (by intro e; exact hco (by simp [ob] at e; exact e.2.1.symm))
  refine Ct.of (own := "java/util/ArrayList") (nm := "add") (by decide +kernel) rfl rfl (L := [some (.ref a), some (.ref o), some (.ref ar), some (.int (iZ n))]) rfl (Nat.le_of_ble_eq_true rfl) rfl ?_
  refine r_iload_n (pc := 0) dJ2_add_2_0 rfl ?_
  refine r_aload_n (pc := 1) dJ2_add_2_1 rfl ?_
  refine r_alen (pc := 2) dJ2_add_2_2 (by decide) q2 (by omega) ?_
  refine r_icmp_ne (pc := 3) (tgt := 11) dJ2_add_2_3 (by decide) (by omega) (by omega) (fun c3 => absurd rfl c3) (fun c3 => ?_)
  refine r_aload_n (pc := 6) dJ2_add_2_6 rfl ?_
  refine r_callV (pc := 7) (kb' := 0) dJ2_add_2_7 kJ2_grow q1435 (t_J2_growB q1 q2 (by omega) q5 ht (fun i hi y hy => by
      rw [q4 i (by omega)] at hy
      cases hy
      exact hob i (by omega))) q1 rfl (Nat.le_of_ble_eq_true rfl) (Nat.le_of_ble_eq_true rfl) rfl rfl (Nat.le_of_ble_eq_true rfl) (fun _ _ q => q.elim) (fun _ h hq => ?_)
  refine go_jX hq (fun q hq => ?_)
  obtain ⟨hw, cap2, g, hc2, hg, hp⟩ := hq
  refine r_astore_n (pc := 10) (L' := [_, _, _, _]) dJ2_add_2_10 rfl ?_
  refine r_aload_n (pc := 11) dJ2_add_2_11 rfl ?_
  refine r_iload_n (pc := 12) dJ2_add_2_12 rfl ?_
  refine r_aload_n (pc := 13) dJ2_add_2_13 rfl ?_
  refine r_aast (pc := 14) dJ2_add_2_14 (hp.at 1 rfl) ht ((hp.ot ⟨hao, ne_nw ho hw |>.symm, trivial⟩).trans ho) (by omega) (by omega) (by omega) ?_
  refine go_pw (hp.put 1 rfl) (fun h hp => ?_)
  refine r_aload_n (pc := 15) dJ2_add_2_15 rfl ?_
  refine r_iload_n (pc := 16) dJ2_add_2_16 rfl ?_
  refine r_iconst (pc := 17) dJ2_add_2_17 ?_
  refine r_iadd (pc := 18) dJ2_add_2_18 ?_
  refine pJ2_48 (pc := 19) dJ2_add_2_19 (hp.at 0 rfl) ht (Nat.le_of_ble_eq_true rfl) ?_
  refine go_pw (hp.put 0 rfl) (fun h hp => ?_)
  exact r_vret (pc := 22) dJ2_add_2_22 rfl ⟨rfl, AL.add (hp.at 0 rfl) (hp.at 1 rfl) (by omega) (by omega) (fun i hi => (hg i hi).trans (q4 i hi)), hp.fr ⟨FA.t q1, Or.inl hw, trivial⟩⟩
theorem t_J2_add {G : Gl} {h : Hp} {a n o : Nat} {t to : Tg} {mc : Int32} {e : Nat → Nat} {co : Nat} {fs : List Value} (hA : AL G t a mc n e h) (ht : t ≠ frz) (hn : n < 12) (ho : h o = some (to, ob co fs)) (hob : ∀ i, i < n → ∃ tv ci fs, h (e i) = some (tv, ob ci fs)) (hco : co ≠ 8) : Ct G 7 16 yJ2_add (Cond.code yJ2_add cJ2_add 2 (some .boolean)) [.ref a, .ref o] h (jP (.int (iZ 1)) (fun h' => AL G t a (mc + 1) (n + 1) (fun i => if i = n then o else e i) h' ∧ Fr (fun x => x = t) h h')) noX := by
  have hA0 := hA
  obtain ⟨ar, cap, t2, f, q1, q2, q3, q4, q5⟩ := hA0
  have hao : a ≠ o := ne_of q1 ho (by intro e; exact hco (by simp [ob] at e; exact e.2.1.symm))
  have har : a ≠ ar := ne_of q1 q2 (by intro e; simp [ob, aQ] at e)
  have hp := PW.one q1
  rcases q5 with q5 | ⟨rfl, q5⟩
  by_cases hr : n < cap
  obtain ⟨rfl, q5⟩ := q5
  · refine Ct.of (own := "java/util/ArrayList") (nm := "add") (by decide +kernel) rfl rfl (L := [some (.ref a), some (.ref o)]) rfl (Nat.le_of_ble_eq_true rfl) rfl ?_
    refine r_aload_n (pc := 0) dJ2_add_0 rfl ?_
    refine r_dup (pc := 1) dJ2_add_1 rfl ?_
    refine gJ2_63_8 (pc := 2) dJ2_add_2 (hp.at 0 rfl) rfl ?_
    refine r_iconst (pc := 5) dJ2_add_5 ?_
    refine q_iadd (pc := 6) dJ2_add_6 ?_
    refine pJ2_63_8 (pc := 7) dJ2_add_7 (hp.at 0 rfl) ht (Nat.le_of_ble_eq_true rfl) ?_
    refine go_pw (hp.put 0 rfl) (fun h hp => ?_)
    refine r_aload_n (pc := 10) dJ2_add_10 rfl ?_
    refine r_aload_n (pc := 11) dJ2_add_11 rfl ?_
    refine r_aload_n (pc := 12) dJ2_add_12 rfl ?_
    refine gJ2_9 (pc := 13) dJ2_add_13 (hp.at 0 rfl) rfl ?_
    refine r_aload_n (pc := 16) dJ2_add_16 rfl ?_
    refine gJ2_48 (pc := 17) dJ2_add_17 (hp.at 0 rfl) rfl ?_
    refine r_callV (pc := 20) (kb' := 16) dJ2_add_20 kJ2_add_2 q1431 (t_J2_add_2R (hp.at 0 rfl) ((hp.ot ⟨har, trivial⟩).trans q2) ⟨by omega, hn⟩ q4 ht ((hp.ot ⟨hao, trivial⟩).trans ho) (fun i hi => by
        obtain ⟨tv, ci, fs2, hv⟩ := hob i hi
        by_cases hae : a = e i
        · exact ⟨_, _, _, (show h (e i) = _ from hae ▸ hp.at 0 rfl)⟩
        · exact ⟨tv, ci, fs2, (hp.ot ⟨hae, trivial⟩).trans hv⟩) q5 hr hco) (hp.at 0 rfl) rfl (Nat.le_refl _) (Nat.le_of_ble_eq_true rfl) rfl rfl (Nat.le_of_ble_eq_true rfl) (fun _ _ q => q.elim) (fun _ h hq => ?_)
    refine go_jN hq (fun hq => ?_)
    refine r_iconst (pc := 23) dJ2_add_23 ?_
    exact r_iret (pc := 24) dJ2_add_24 rfl (nB' (by first | (left; rfl) | (right; rfl) | exact bZ_01' _ | omega)) ⟨rfl, hq.1, (hp.fr ⟨FA.t q1, trivial⟩).tr hq.2⟩
  · refine Ct.of (own := "java/util/ArrayList") (nm := "add") (by decide +kernel) rfl rfl (L := [some (.ref a), some (.ref o)]) rfl (Nat.le_of_ble_eq_true rfl) rfl ?_
    refine r_aload_n (pc := 0) dJ2_add_0 rfl ?_
    refine r_dup (pc := 1) dJ2_add_1 rfl ?_
    refine gJ2_63_8 (pc := 2) dJ2_add_2 (hp.at 0 rfl) rfl ?_
    refine r_iconst (pc := 5) dJ2_add_5 ?_
    refine q_iadd (pc := 6) dJ2_add_6 ?_
    refine pJ2_63_8 (pc := 7) dJ2_add_7 (hp.at 0 rfl) ht (Nat.le_of_ble_eq_true rfl) ?_
    refine go_pw (hp.put 0 rfl) (fun h hp => ?_)
    refine r_aload_n (pc := 10) dJ2_add_10 rfl ?_
    refine r_aload_n (pc := 11) dJ2_add_11 rfl ?_
    refine r_aload_n (pc := 12) dJ2_add_12 rfl ?_
    refine gJ2_9 (pc := 13) dJ2_add_13 (hp.at 0 rfl) rfl ?_
    refine r_aload_n (pc := 16) dJ2_add_16 rfl ?_
    refine gJ2_48 (pc := 17) dJ2_add_17 (hp.at 0 rfl) rfl ?_
    refine r_callV (pc := 20) (kb' := 0) dJ2_add_20 kJ2_add_2 q1431 (t_J2_add_2A (hp.at 0 rfl) ((hp.ot ⟨har, trivial⟩).trans q2) ⟨by omega, hn⟩ q4 ht ((hp.ot ⟨hao, trivial⟩).trans ho) (fun i hi => by
        obtain ⟨tv, ci, fs2, hv⟩ := hob i hi
        by_cases hae : a = e i
        · exact ⟨_, _, _, (show h (e i) = _ from hae ▸ hp.at 0 rfl)⟩
        · exact ⟨tv, ci, fs2, (hp.ot ⟨hae, trivial⟩).trans hv⟩) q5 (by omega) hco) (hp.at 0 rfl) rfl (Nat.le_of_ble_eq_true rfl) (Nat.le_of_ble_eq_true rfl) rfl rfl (Nat.le_of_ble_eq_true rfl) (fun _ _ q => q.elim) (fun _ h hq => ?_)
    refine go_jN hq (fun hq => ?_)
    refine r_iconst (pc := 23) dJ2_add_23 ?_
    exact r_iret (pc := 24) dJ2_add_24 rfl (nB' (by first | (left; rfl) | (right; rfl) | exact bZ_01' _ | omega)) ⟨rfl, hq.1, (hp.fr ⟨FA.t q1, trivial⟩).tr hq.2⟩
  · refine Ct.of (own := "java/util/ArrayList") (nm := "add") (by decide +kernel) rfl rfl (L := [some (.ref a), some (.ref o)]) rfl (Nat.le_of_ble_eq_true rfl) rfl ?_
    refine r_aload_n (pc := 0) dJ2_add_0 rfl ?_
    refine r_dup (pc := 1) dJ2_add_1 rfl ?_
    refine gJ2_63_8 (pc := 2) dJ2_add_2 (hp.at 0 rfl) rfl ?_
    refine r_iconst (pc := 5) dJ2_add_5 ?_
    refine q_iadd (pc := 6) dJ2_add_6 ?_
    refine pJ2_63_8 (pc := 7) dJ2_add_7 (hp.at 0 rfl) ht (Nat.le_of_ble_eq_true rfl) ?_
    refine go_pw (hp.put 0 rfl) (fun h hp => ?_)
    refine r_aload_n (pc := 10) dJ2_add_10 rfl ?_
    refine r_aload_n (pc := 11) dJ2_add_11 rfl ?_
    refine r_aload_n (pc := 12) dJ2_add_12 rfl ?_
    refine gJ2_9 (pc := 13) dJ2_add_13 (hp.at 0 rfl) rfl ?_
    refine r_aload_n (pc := 16) dJ2_add_16 rfl ?_
    refine gJ2_48 (pc := 17) dJ2_add_17 (hp.at 0 rfl) rfl ?_
    refine r_callV (pc := 20) (kb' := 5) dJ2_add_20 kJ2_add_2 q1431 (t_J2_add_2B (hp.at 0 rfl) ((hp.ot ⟨har, trivial⟩).trans q2) ⟨by omega, hn⟩ q4 ht ((hp.ot ⟨hao, trivial⟩).trans ho) (fun i hi => by
        obtain ⟨tv, ci, fs2, hv⟩ := hob i hi
        by_cases hae : a = e i
        · exact ⟨_, _, _, (show h (e i) = _ from hae ▸ hp.at 0 rfl)⟩
        · exact ⟨tv, ci, fs2, (hp.ot ⟨hae, trivial⟩).trans hv⟩) q5 (by omega) hco) (hp.at 0 rfl) rfl (Nat.le_of_ble_eq_true rfl) (Nat.le_of_ble_eq_true rfl) rfl rfl (Nat.le_of_ble_eq_true rfl) (fun _ _ q => q.elim) (fun _ h hq => ?_)
    refine go_jN hq (fun hq => ?_)
    refine r_iconst (pc := 23) dJ2_add_23 ?_
    exact r_iret (pc := 24) dJ2_add_24 rfl (nB' (by first | (left; rfl) | (right; rfl) | exact bZ_01' _ | omega)) ⟨rfl, hq.1, (hp.fr ⟨FA.t q1, trivial⟩).tr hq.2⟩
