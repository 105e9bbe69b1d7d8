set_option maxRecDepth 100000
/-! JDK, part 8: ArrayDeque, of 17 places -/
def AD (t : Tg) (a n : Nat) (e : Nat → Nat) (h : Hp) : Prop :=
  ∃ (ar hd : Nat) (f : Nat → Option Nat), h a = some (t, ob 13 [.ref ar, .int (iZ hd), .int (iZ ((hd + n) % 17 : Nat))]) ∧ h ar = some (t, aQ "java/lang/Object" 17 f) ∧ (hd < 17 ∧ n ≤ 10) ∧ ∀ i, i < n → f ((hd + i) % 17) = some (e i)
theorem AD.fr {t : Tg} {a n : Nat} {e : Nat → Nat} {h h' : Hp} {P : Tg → Prop} (hA : AD t a n e h) (hf : Fr P h h') (h1 : ¬ P t) : AD t a n e h' := by
  obtain ⟨ar, hd, f, q1, q2, q3, q4⟩ := hA
  exact ⟨ar, hd, f, hf.get q1 h1, hf.get q2 h1, q3, q4⟩
theorem AD.n10 {t : Tg} {a n : Nat} {e : Nat → Nat} {h : Hp} (hA : AD t a n e h) : n ≤ 10 := by
  obtain ⟨ar, hd, f, q1, q2, q3, q4⟩ := hA
  exact q3.2
theorem AD.cg {t : Tg} {a n : Nat} {e e' : Nat → Nat} {h : Hp} (hA : AD t a n e h) (he : ∀ i, i < n → e' i = e i) : AD t a n e' h := by
  obtain ⟨ar, hd, f, q1, q2, q3, q4⟩ := hA
  exact ⟨ar, hd, f, q1, q2, q3, fun i hi => by rw [he i hi]; exact q4 i hi⟩
theorem qdE {h : Hp} {x : Nat} {t : Tg} {m v1 v2 w1 w2 : Value} (hx : h x = some (t, ob 13 [m, v1, v2])) (e1 : v1 = w1) (e2 : v2 = w2) : h x = some (t, ob 13 [m, w1, w2]) := by rw [hx, e1, e2]
theorem iE {a b : Int} (e : a = b) : Value.int (iZ a) = .int (iZ b) := by rw [e]

theorem t_J5_inc {G : Gl} {h : Hp} {i : Nat} (hi : i < 17) : Ct G 1 0 yJ5_inc (Cond.code yJ5_inc cJ5_inc 2 (some .int)) [.int (iZ i), .int (iZ 17)] h (jE (.int (iZ ((i + 1) % 17 : Nat))) h) noX := by
  refine Ct.of (own := "java/util/ArrayDeque") (nm := "inc") (by decide +kernel) rfl rfl (L := [some (.int (iZ i)), some (.int (iZ 17))]) rfl (Nat.le_of_ble_eq_true rfl) rfl ?_
  refine r_iinc (pc := 0) (L' := [_, _]) dJ5_inc_0 rfl rfl ?_
  refine r_iload_n (pc := 3) dJ5_inc_3 rfl ?_
  refine r_iload_n (pc := 4) dJ5_inc_4 rfl ?_
  refine r_icmp_lt (pc := 5) (tgt := 10) dJ5_inc_5 (by decide) (by omega) (by omega) (fun c5 => ?_) (fun c5 => ?_)
  · refine r_iload_n (pc := 10) dJ5_inc_10 rfl ?_
    exact r_iret (pc := 11) dJ5_inc_11 rfl rfl ⟨congrArg (fun z : Int => some (Value.int (iZ z))) (by omega), rfl⟩
  · refine r_iconst (pc := 8) dJ5_inc_8 ?_
    refine r_istore_n (pc := 9) (L' := [_, _]) dJ5_inc_9 rfl ?_
    refine r_iload_n (pc := 10) dJ5_inc_10 rfl ?_
    exact r_iret (pc := 11) dJ5_inc_11 rfl rfl ⟨congrArg (fun z : Int => some (Value.int (iZ z))) (by omega), rfl⟩
theorem t_J5_dec {G : Gl} {h : Hp} {i : Nat} (hi : i < 17) : Ct G 1 0 yJ5_dec (Cond.code yJ5_dec cJ5_dec 2 (some .int)) [.int (iZ i), .int (iZ 17)] h (jE (.int (iZ ((i + 16) % 17 : Nat))) h) noX := by
  refine Ct.of (own := "java/util/ArrayDeque") (nm := "dec") (by decide +kernel) rfl rfl (L := [some (.int (iZ i)), some (.int (iZ 17))]) rfl (Nat.le_of_ble_eq_true rfl) rfl ?_
  refine r_iinc (pc := 0) (L' := [_, _]) dJ5_dec_0 rfl rfl ?_
  refine r_iload_n (pc := 3) dJ5_dec_3 rfl ?_
  refine r_if_ge (pc := 4) (tgt := 11) dJ5_dec_4 (by decide) (by omega) (fun c4 => ?_) (fun c4 => ?_)
  · refine r_iload_n (pc := 11) dJ5_dec_11 rfl ?_
    exact r_iret (pc := 12) dJ5_dec_12 rfl rfl ⟨congrArg (fun z : Int => some (Value.int (iZ z))) (by omega), rfl⟩
  · refine r_iload_n (pc := 7) dJ5_dec_7 rfl ?_
    refine r_iconst (pc := 8) dJ5_dec_8 ?_
    refine r_isub (pc := 9) dJ5_dec_9 ?_
    refine r_istore_n (pc := 10) (L' := [_, _]) dJ5_dec_10 rfl ?_
    refine r_iload_n (pc := 11) dJ5_dec_11 rfl ?_
    exact r_iret (pc := 12) dJ5_dec_12 rfl rfl ⟨congrArg (fun z : Int => some (Value.int (iZ z))) (by omega), rfl⟩
theorem t_J5_sub {G : Gl} {h : Hp} {i j : Nat} (hi : i < 17) (hj : j < 17) : Ct G 1 0 yJ5_sub (Cond.code yJ5_sub cJ5_sub 3 (some .int)) [.int (iZ i), .int (iZ j), .int (iZ 17)] h (jE (.int (iZ ((i + 17 - j) % 17 : Nat))) h) noX := by
  refine Ct.of (own := "java/util/ArrayDeque") (nm := "sub") (by decide +kernel) rfl rfl (L := [some (.int (iZ i)), some (.int (iZ j)), some (.int (iZ 17))]) rfl (Nat.le_of_ble_eq_true rfl) rfl ?_
  refine r_iload_n (pc := 0) dJ5_sub_0 rfl ?_
  refine r_iload_n (pc := 1) dJ5_sub_1 rfl ?_
  refine r_isub (pc := 2) dJ5_sub_2 ?_
  refine r_dup (pc := 3) dJ5_sub_3 rfl ?_
  refine r_istore_n (pc := 4) (L' := [_, _, _]) dJ5_sub_4 rfl ?_
  refine r_if_ge (pc := 5) (tgt := 12) dJ5_sub_5 (by decide) (by omega) (fun c5 => ?_) (fun c5 => ?_)
  · refine r_iload_n (pc := 12) dJ5_sub_12 rfl ?_
    exact r_iret (pc := 13) dJ5_sub_13 rfl rfl ⟨congrArg (fun z : Int => some (Value.int (iZ z))) (by omega), rfl⟩
  · refine r_iload_n (pc := 8) dJ5_sub_8 rfl ?_
    refine r_iload_n (pc := 9) dJ5_sub_9 rfl ?_
    refine r_iadd (pc := 10) dJ5_sub_10 ?_
    refine r_istore_n (pc := 11) (L' := [_, _, _]) dJ5_sub_11 rfl ?_
    refine r_iload_n (pc := 12) dJ5_sub_12 rfl ?_
    exact r_iret (pc := 13) dJ5_sub_13 rfl rfl ⟨congrArg (fun z : Int => some (Value.int (iZ z))) (by omega), rfl⟩
theorem t_J5_init {G : Gl} {h : Hp} {a : Nat} {t : Tg} (ha : h a = some (t, ob 13 [.null, .int 0, .int 0])) (ht : t ≠ frz) : Ct G 2 18 yJ5_init (Cond.code yJ5_init cJ5_init 1 (none)) [.ref a] h (jN (fun h' => AD t a 0 (fun _ => 0) h' ∧ Fr (fun x => x = t) h h')) noX := by
  have hp := PW.one ha
  refine Ct.of (own := "java/util/ArrayDeque") (nm := "<init>") (by decide +kernel) rfl rfl (L := [some (.ref a)]) rfl (Nat.le_of_ble_eq_true rfl) rfl ?_
  refine r_aload_n (pc := 0) dJ5_init_0 rfl ?_
  refine r_callI (pc := 1) (kb' := 18) dJ5_init_1 kJ0_init q277 (t_J0_init ) (Nat.le_refl _) (Nat.le_of_ble_eq_true rfl) rfl rfl (Nat.le_of_ble_eq_true rfl) (fun _ _ q => q.elim) (fun _ h hq => ?_)
  refine go_jN hq (fun e => ?_)
  subst e
  refine r_aload_n (pc := 4) dJ5_init_4 rfl ?_
  refine r_bipush (pc := 5) dJ5_init_5 (by decide) ?_
  refine r_newQ (pc := 7) (N := 17) (kb' := 0) (t) dJ5_init_7 q278 q279 rfl (by omega) (Nat.le_of_ble_eq_true rfl) (fun w hw zw => ?_)
  refine go_pw (hp.new hw _) (fun h hp => ?_)
  refine pJ5_3 (pc := 10) dJ5_init_10 rfl rfl rfl (hp.at 0 rfl) ht (Nat.le_of_ble_eq_true rfl) ?_
  refine go_pw (hp.put 0 rfl) (fun h hp => ?_)
  exact r_vret (pc := 13) dJ5_init_13 rfl ⟨rfl, ⟨w, 0, _, hp.at 0 rfl, hp.at 1 rfl, ⟨by omega, by omega⟩, fun i hi => absurd hi (by omega)⟩, hp.fr ⟨FA.t ha, Or.inl hw, trivial⟩⟩
theorem t_J5_size {G : Gl} {h : Hp} {a n : Nat} {t : Tg} {e : Nat → Nat} (hA : AD t a n e h) : Ct G 2 0 yJ5_size (Cond.code yJ5_size cJ5_size 1 (some .int)) [.ref a] h (jE (.int (iZ n)) h) noX := by
  have hA0 := hA
  obtain ⟨ar, hd, f, q1, q2, q3, q4⟩ := hA0
  refine Ct.of (own := "java/util/ArrayDeque") (nm := "size") (by decide +kernel) rfl rfl (L := [some (.ref a)]) rfl (Nat.le_of_ble_eq_true rfl) rfl ?_
  refine r_aload_n (pc := 0) dJ5_size_0 rfl ?_
  refine gJ5_20 (pc := 1) dJ5_size_1 q1 rfl ?_
  refine r_aload_n (pc := 4) dJ5_size_4 rfl ?_
  refine gJ5_24 (pc := 5) dJ5_size_5 q1 rfl ?_
  refine r_aload_n (pc := 8) dJ5_size_8 rfl ?_
  refine gJ5_3 (pc := 9) dJ5_size_9 q1 rfl ?_
  refine r_alen (pc := 12) dJ5_size_12 (by decide) q2 (by omega) ?_
  refine r_callS (pc := 13) (kb' := 0) dJ5_size_13 kJ5_sub q1711 (t_J5_sub (by omega) q3.1) (Nat.le_refl _) (Nat.le_of_ble_eq_true rfl) rfl rfl (Nat.le_of_ble_eq_true rfl) (fun _ _ q => q.elim) (fun _ _ hq => ?_)
  refine go_jE hq ?_
  exact r_iret (pc := 16) dJ5_size_16 rfl rfl ⟨congrArg (fun z : Int => some (Value.int (iZ z))) (by omega), rfl⟩
theorem t_J5_isEmpty {G : Gl} {h : Hp} {a n : Nat} {t : Tg} {e : Nat → Nat} (hA : AD t a n e h) : Ct G 1 0 yJ5_isEmpty (Cond.code yJ5_isEmpty cJ5_isEmpty 1 (some .boolean)) [.ref a] h (jE (.int (iZ (bZ (n = 0)))) h) noX := by
  have hA0 := hA
  obtain ⟨ar, hd, f, q1, q2, q3, q4⟩ := hA0
  refine Ct.of (own := "java/util/ArrayDeque") (nm := "isEmpty") (by decide +kernel) rfl rfl (L := [some (.ref a)]) rfl (Nat.le_of_ble_eq_true rfl) rfl ?_
  refine r_aload_n (pc := 0) dJ5_isEmpty_0 rfl ?_
  refine gJ5_24 (pc := 1) dJ5_isEmpty_1 q1 rfl ?_
  refine r_aload_n (pc := 4) dJ5_isEmpty_4 rfl ?_
  refine gJ5_20 (pc := 5) dJ5_isEmpty_5 q1 rfl ?_
  refine r_icmp_ne (pc := 8) (tgt := 15) dJ5_isEmpty_8 (by decide) (by omega) (by omega) (fun c8 => ?_) (fun c8 => ?_)
  · refine r_iconst (pc := 15) dJ5_isEmpty_15 ?_
    exact r_iret (pc := 16) dJ5_isEmpty_16 rfl (nB' (by first | (left; rfl) | (right; rfl) | exact bZ_01' _ | omega)) ⟨by rw [bZ_f (by omega)], rfl⟩
  · refine r_iconst (pc := 11) dJ5_isEmpty_11 ?_
    refine r_goto (pc := 12) (tgt := 16) dJ5_isEmpty_12 (by decide) ?_
    exact r_iret (pc := 16) dJ5_isEmpty_16 rfl (nB' (by first | (left; rfl) | (right; rfl) | exact bZ_01' _ | omega)) ⟨by rw [bZ_t (by omega)], rfl⟩
theorem t_J5_addLast {G : Gl} {h : Hp} {a n : Nat} {t : Tg} {e : Nat → Nat} (hA : AD t a n e h) {o co : Nat} {to : Tg} {fs : List Value} (ho : h o = some (to, ob co fs)) (ht : t ≠ frz) (hn : n < 10) : Ct G 2 0 yJ5_addLast (Cond.code yJ5_addLast cJ5_addLast 3 (none)) [.ref a, .ref o] h (jN (fun h' => AD t a (n + 1) (adF e n o) h' ∧ Fr (fun x => x = t) h h')) noX := by
  have hA0 := hA
  obtain ⟨ar, hd, f, q1, q2, q3, q4⟩ := hA0
  have hp := PW.two q1 q2 (ne_of q1 q2 (by intro e; simp [ob, aQ] at e))
  refine Ct.of (own := "java/util/ArrayDeque") (nm := "addLast") (by decide +kernel) rfl rfl (L := [some (.ref a), some (.ref o), none]) rfl (Nat.le_of_ble_eq_true rfl) rfl ?_
  refine r_aload_n (pc := 0) dJ5_addLast_0 rfl ?_
  refine r_ifnonnull (pc := 1) (tgt := 12) dJ5_addLast_1 (by decide) ?_
  refine r_aload_n (pc := 12) dJ5_addLast_12 rfl ?_
  refine gJ5_3 (pc := 13) dJ5_addLast_13 (hp.at 0 rfl) rfl ?_
  refine r_astore_n (pc := 16) (L' := [_, _, _]) dJ5_addLast_16 rfl ?_
  refine r_aload_n (pc := 17) dJ5_addLast_17 rfl ?_
  refine r_aload_n (pc := 18) dJ5_addLast_18 rfl ?_
  refine gJ5_20 (pc := 19) dJ5_addLast_19 (hp.at 0 rfl) rfl ?_
  refine r_aload_n (pc := 22) dJ5_addLast_22 rfl ?_
  refine r_aast (pc := 23) dJ5_addLast_23 (hp.at 1 rfl) ht ho (by omega) (by omega) (by omega) ?_
  refine go_pw (hp.put 1 rfl) (fun h hp => ?_)
  refine r_aload_n (pc := 24) dJ5_addLast_24 rfl ?_
  refine gJ5_24 (pc := 25) dJ5_addLast_25 (hp.at 0 rfl) rfl ?_
  refine r_aload_n (pc := 28) dJ5_addLast_28 rfl ?_
  refine r_aload_n (pc := 29) dJ5_addLast_29 rfl ?_
  refine gJ5_20 (pc := 30) dJ5_addLast_30 (hp.at 0 rfl) rfl ?_
  refine r_aload_n (pc := 33) dJ5_addLast_33 rfl ?_
  refine r_alen (pc := 34) dJ5_addLast_34 (by decide) (hp.at 1 rfl) (by omega) ?_
  refine r_callS (pc := 35) (kb' := 0) dJ5_addLast_35 kJ5_inc q1676 (t_J5_inc (by omega)) (Nat.le_refl _) (Nat.le_of_ble_eq_true rfl) rfl rfl (Nat.le_of_ble_eq_true rfl) (fun _ _ q => q.elim) (fun _ _ hq => ?_)
  refine go_jE hq ?_
  refine r_dup_x1 (pc := 38) dJ5_addLast_38 rfl rfl ?_
  refine pJ5_20 (pc := 39) dJ5_addLast_39 (hp.at 0 rfl) ht (Nat.le_of_ble_eq_true rfl) ?_
  refine go_pw (hp.put 0 rfl) (fun h hp => ?_)
  refine r_icmp_ne (pc := 42) (tgt := 50) dJ5_addLast_42 (by decide) (by omega) (by omega) (fun c42 => ?_) (fun c42 => absurd c42 (by omega))
  exact r_vret (pc := 50) dJ5_addLast_50 rfl ⟨rfl, ⟨ar, hd, _, qdE (hp.at 0 rfl) rfl (iE (by omega)), hp.at 1 rfl, ⟨q3.1, by omega⟩, fun i hi => by
      unfold va_up
      by_cases e9 : i = n
      · subst e9; rw [if_pos (by omega), ad_s rfl]
      · rw [if_neg (by omega), ad_n e9]; exact q4 i (by omega)⟩, hp.fr ⟨FA.t q1, FA.t q2, trivial⟩⟩
theorem t_J5_elementAt {G : Gl} {h : Hp} {ar n : Nat} {t : Tg} {f : Nat → Option Nat} {i : Nat} {x : Nat} (hr : h ar = some (t, aQ "java/lang/Object" n f)) (h0 : i < n ∧ i < 2147483648) (hx : f i = some x) : Ct G 1 0 yJ5_elementAt (Cond.code yJ5_elementAt cJ5_elementAt 2 (some (.object "java/lang/Object"))) [.ref ar, .int (iZ i)] h (jE (.ref x) h) noX := by
  refine Ct.of (own := "java/util/ArrayDeque") (nm := "elementAt") (by decide +kernel) rfl rfl (L := [some (.ref ar), some (.int (iZ i))]) rfl (Nat.le_of_ble_eq_true rfl) rfl ?_
  refine r_aload_n (pc := 0) dJ5_elementAt_0 rfl ?_
  refine r_iload_n (pc := 1) dJ5_elementAt_1 rfl ?_
  refine r_aald (pc := 2) dJ5_elementAt_2 (by decide) hr (by omega) (by omega) (by omega) ?_
  refine go_cv (w := .ref x) (by rw [show ((i : Int)).toNat = i from rfl, hx]; rfl) ?_
  exact r_aret (pc := 3) dJ5_elementAt_3 rfl (Or.inl ⟨_, rfl⟩) (Or.inr ⟨_, rfl⟩) ⟨rfl, rfl⟩
theorem t_J5_pollFirst {G : Gl} {h : Hp} {a n : Nat} {t : Tg} {e : Nat → Nat} (hA : AD t a n e h) (ht : t ≠ frz) (hn : 0 < n) : Ct G 2 0 yJ5_pollFirst (Cond.code yJ5_pollFirst cJ5_pollFirst 4 (some (.object "java/lang/Object"))) [.ref a] h (jP (.ref (e 0)) (fun h' => AD t a (n - 1) (fun i => e (i + 1)) h' ∧ Fr (fun x => x = t) h h')) noX := by
  have hA0 := hA
  obtain ⟨ar, hd, f, q1, q2, q3, q4⟩ := hA0
  have hp := PW.two q1 q2 (ne_of q1 q2 (by intro e; simp [ob, aQ] at e))
  refine Ct.of (own := "java/util/ArrayDeque") (nm := "pollFirst") (by decide +kernel) rfl rfl (L := [some (.ref a), none, none, none]) rfl (Nat.le_of_ble_eq_true rfl) rfl ?_
  refine r_aload_n (pc := 0) dJ5_pollFirst_0 rfl ?_
  refine gJ5_3 (pc := 1) dJ5_pollFirst_1 (hp.at 0 rfl) rfl ?_
  refine r_dup (pc := 4) dJ5_pollFirst_4 rfl ?_
  refine r_astore_n (pc := 5) (L' := [_, _, _, _]) dJ5_pollFirst_5 rfl ?_
  refine r_aload_n (pc := 6) dJ5_pollFirst_6 rfl ?_
  refine gJ5_24 (pc := 7) dJ5_pollFirst_7 (hp.at 0 rfl) rfl ?_
  refine r_dup (pc := 10) dJ5_pollFirst_10 rfl ?_
  refine r_istore_n (pc := 11) (L' := [_, _, _, _]) dJ5_pollFirst_11 rfl ?_
  refine r_callS (pc := 12) (kb' := 0) dJ5_pollFirst_12 kJ5_elementAt q1722 (t_J5_elementAt (i := hd) (hp.at 1 rfl) ⟨by omega, by omega⟩ (by have := q4 0 hn; rwa [show (hd + 0) % 17 = hd by omega] at this)) (Nat.le_refl _) (Nat.le_of_ble_eq_true rfl) rfl rfl (Nat.le_of_ble_eq_true rfl) (fun _ _ q => q.elim) (fun _ _ hq => ?_)
  refine go_jE hq ?_
  refine r_astore_n (pc := 15) (L' := [_, _, _, _]) dJ5_pollFirst_15 rfl ?_
  refine r_aload_n (pc := 16) dJ5_pollFirst_16 rfl ?_
  refine r_ifnull (pc := 17) dJ5_pollFirst_17 ?_
  refine r_aload_n (pc := 20) dJ5_pollFirst_20 rfl ?_
  refine r_iload_n (pc := 21) dJ5_pollFirst_21 rfl ?_
  refine r_null (pc := 22) dJ5_pollFirst_22 ?_
  refine r_aastN (pc := 23) dJ5_pollFirst_23 (hp.at 1 rfl) ht (by omega) (by omega) (by omega) ?_
  refine go_pw (hp.put 1 rfl) (fun h hp => ?_)
  refine r_aload_n (pc := 24) dJ5_pollFirst_24 rfl ?_
  refine r_iload_n (pc := 25) dJ5_pollFirst_25 rfl ?_
  refine r_aload_n (pc := 26) dJ5_pollFirst_26 rfl ?_
  refine r_alen (pc := 27) dJ5_pollFirst_27 (by decide) (hp.at 1 rfl) (by omega) ?_
  refine r_callS (pc := 28) (kb' := 0) dJ5_pollFirst_28 kJ5_inc q1676 (t_J5_inc q3.1) (Nat.le_refl _) (Nat.le_of_ble_eq_true rfl) rfl rfl (Nat.le_of_ble_eq_true rfl) (fun _ _ q => q.elim) (fun _ _ hq => ?_)
  refine go_jE hq ?_
  refine pJ5_24 (pc := 31) dJ5_pollFirst_31 (hp.at 0 rfl) ht (Nat.le_of_ble_eq_true rfl) ?_
  refine go_pw (hp.put 0 rfl) (fun h hp => ?_)
  refine r_aload_n (pc := 34) dJ5_pollFirst_34 rfl ?_
  exact r_aret (pc := 35) dJ5_pollFirst_35 rfl (Or.inl ⟨_, rfl⟩) (Or.inr ⟨_, rfl⟩) ⟨rfl, ⟨ar, (hd + 1) % 17, _, qdE (hp.at 0 rfl) rfl (iE (by omega)), hp.at 1 rfl, ⟨by omega, by omega⟩, fun i hi => by
      unfold va_up
      rw [if_neg (by omega), show ((hd + 1) % 17 + i) % 17 = (hd + (i + 1)) % 17 by omega]
      exact q4 (i + 1) (by omega)⟩, hp.fr ⟨FA.t q1, FA.t q2, trivial⟩⟩
theorem t_J5_removeFirst {G : Gl} {h : Hp} {a n : Nat} {t : Tg} {e : Nat → Nat} (hA : AD t a n e h) (ht : t ≠ frz) (hn : 0 < n) : Ct G 3 0 yJ5_removeFirst (Cond.code yJ5_removeFirst cJ5_removeFirst 2 (some (.object "java/lang/Object"))) [.ref a] h (jP (.ref (e 0)) (fun h' => AD t a (n - 1) (fun i => e (i + 1)) h' ∧ Fr (fun x => x = t) h h')) noX := by
  have hA0 := hA
  obtain ⟨ar, hd, f, q1, q2, q3, q4⟩ := hA0
  refine Ct.of (own := "java/util/ArrayDeque") (nm := "removeFirst") (by decide +kernel) rfl rfl (L := [some (.ref a), none]) rfl (Nat.le_of_ble_eq_true rfl) rfl ?_
  refine r_aload_n (pc := 0) dJ5_removeFirst_0 rfl ?_
  refine r_callV (pc := 1) (kb' := 0) dJ5_removeFirst_1 kJ5_pollFirst q1718 (t_J5_pollFirst hA ht hn) q1 rfl (Nat.le_refl _) (Nat.le_of_ble_eq_true rfl) rfl rfl (Nat.le_of_ble_eq_true rfl) (fun _ _ q => q.elim) (fun _ h hq => ?_)
  refine go_jP hq (fun hq => ?_)
  refine r_astore_n (pc := 4) (L' := [_, _]) dJ5_removeFirst_4 rfl ?_
  refine r_aload_n (pc := 5) dJ5_removeFirst_5 rfl ?_
  refine r_ifnonnull (pc := 6) (tgt := 17) dJ5_removeFirst_6 (by decide) ?_
  refine r_aload_n (pc := 17) dJ5_removeFirst_17 rfl ?_
  exact r_aret (pc := 18) dJ5_removeFirst_18 rfl (Or.inl ⟨_, rfl⟩) (Or.inr ⟨_, rfl⟩) ⟨rfl, hq⟩
theorem t_J5_pollLast {G : Gl} {h : Hp} {a n : Nat} {t : Tg} {e : Nat → Nat} (hA : AD t a n e h) (ht : t ≠ frz) (hn : 0 < n) : Ct G 2 0 yJ5_pollLast (Cond.code yJ5_pollLast cJ5_pollLast 4 (some (.object "java/lang/Object"))) [.ref a] h (jP (.ref (e (n - 1))) (fun h' => AD t a (n - 1) (e) h' ∧ Fr (fun x => x = t) h h')) noX := by
  have hA0 := hA
  obtain ⟨ar, hd, f, q1, q2, q3, q4⟩ := hA0
  have hp := PW.two q1 q2 (ne_of q1 q2 (by intro e; simp [ob, aQ] at e))
  refine Ct.of (own := "java/util/ArrayDeque") (nm := "pollLast") (by decide +kernel) rfl rfl (L := [some (.ref a), none, none, none]) rfl (Nat.le_of_ble_eq_true rfl) rfl ?_
  refine r_aload_n (pc := 0) dJ5_pollLast_0 rfl ?_
  refine gJ5_3 (pc := 1) dJ5_pollLast_1 (hp.at 0 rfl) rfl ?_
  refine r_dup (pc := 4) dJ5_pollLast_4 rfl ?_
  refine r_astore_n (pc := 5) (L' := [_, _, _, _]) dJ5_pollLast_5 rfl ?_
  refine r_aload_n (pc := 6) dJ5_pollLast_6 rfl ?_
  refine gJ5_20 (pc := 7) dJ5_pollLast_7 (hp.at 0 rfl) rfl ?_
  refine r_aload_n (pc := 10) dJ5_pollLast_10 rfl ?_
  refine r_alen (pc := 11) dJ5_pollLast_11 (by decide) (hp.at 1 rfl) (by omega) ?_
  refine r_callS (pc := 12) (kb' := 0) dJ5_pollLast_12 kJ5_dec q2676 (t_J5_dec (by omega)) (Nat.le_refl _) (Nat.le_of_ble_eq_true rfl) rfl rfl (Nat.le_of_ble_eq_true rfl) (fun _ _ q => q.elim) (fun _ _ hq => ?_)
  refine go_jE hq ?_
  refine r_dup (pc := 15) dJ5_pollLast_15 rfl ?_
  refine r_istore_n (pc := 16) (L' := [_, _, _, _]) dJ5_pollLast_16 rfl ?_
  refine r_callS (pc := 17) (kb' := 0) dJ5_pollLast_17 kJ5_elementAt q1722 (t_J5_elementAt (i := ((hd + n) % 17 + 16) % 17) (hp.at 1 rfl) ⟨by omega, by omega⟩ (by have := q4 (n - 1) (by omega); rwa [show (hd + (n - 1)) % 17 = ((hd + n) % 17 + 16) % 17 by omega] at this)) (Nat.le_refl _) (Nat.le_of_ble_eq_true rfl) rfl rfl (Nat.le_of_ble_eq_true rfl) (fun _ _ q => q.elim) (fun _ _ hq => ?_)
  refine go_jE hq ?_
  refine r_astore_n (pc := 20) (L' := [_, _, _, _]) dJ5_pollLast_20 rfl ?_
  refine r_aload_n (pc := 21) dJ5_pollLast_21 rfl ?_
  refine r_ifnull (pc := 22) dJ5_pollLast_22 ?_
  refine r_aload_n (pc := 25) dJ5_pollLast_25 rfl ?_
  refine r_aload_n (pc := 26) dJ5_pollLast_26 rfl ?_
  refine r_iload_n (pc := 27) dJ5_pollLast_27 rfl ?_
  refine r_dup_x1 (pc := 28) dJ5_pollLast_28 rfl rfl ?_
  refine pJ5_20 (pc := 29) dJ5_pollLast_29 (hp.at 0 rfl) ht (Nat.le_of_ble_eq_true rfl) ?_
  refine go_pw (hp.put 0 rfl) (fun h hp => ?_)
  refine r_null (pc := 32) dJ5_pollLast_32 ?_
  refine r_aastN (pc := 33) dJ5_pollLast_33 (hp.at 1 rfl) ht (by omega) (by omega) (by omega) ?_
  refine go_pw (hp.put 1 rfl) (fun h hp => ?_)
  refine r_aload_n (pc := 34) dJ5_pollLast_34 rfl ?_
  exact r_aret (pc := 35) dJ5_pollLast_35 rfl (Or.inl ⟨_, rfl⟩) (Or.inr ⟨_, rfl⟩) ⟨rfl, ⟨ar, hd, _, qdE (hp.at 0 rfl) rfl (iE (by omega)), hp.at 1 rfl, ⟨by omega, by omega⟩, fun i hi => by
      unfold va_up
      rw [if_neg (by omega)]
      exact q4 i (by omega)⟩, hp.fr ⟨FA.t q1, FA.t q2, trivial⟩⟩
theorem t_J5_removeLast {G : Gl} {h : Hp} {a n : Nat} {t : Tg} {e : Nat → Nat} (hA : AD t a n e h) (ht : t ≠ frz) (hn : 0 < n) : Ct G 3 0 yJ5_removeLast (Cond.code yJ5_removeLast cJ5_removeLast 2 (some (.object "java/lang/Object"))) [.ref a] h (jP (.ref (e (n - 1))) (fun h' => AD t a (n - 1) (e) h' ∧ Fr (fun x => x = t) h h')) noX := by
  have hA0 := hA
  obtain ⟨ar, hd, f, q1, q2, q3, q4⟩ := hA0
  refine Ct.of (own := "java/util/ArrayDeque") (nm := "removeLast") (by decide +kernel) rfl rfl (L := [some (.ref a), none]) rfl (Nat.le_of_ble_eq_true rfl) rfl ?_
  refine r_aload_n (pc := 0) dJ5_removeLast_0 rfl ?_
  refine r_callV (pc := 1) (kb' := 0) dJ5_removeLast_1 kJ5_pollLast q2672 (t_J5_pollLast hA ht hn) q1 rfl (Nat.le_refl _) (Nat.le_of_ble_eq_true rfl) rfl rfl (Nat.le_of_ble_eq_true rfl) (fun _ _ q => q.elim) (fun _ h hq => ?_)
  refine go_jP hq (fun hq => ?_)
  refine r_astore_n (pc := 4) (L' := [_, _]) dJ5_removeLast_4 rfl ?_
  refine r_aload_n (pc := 5) dJ5_removeLast_5 rfl ?_
  refine r_ifnonnull (pc := 6) (tgt := 17) dJ5_removeLast_6 (by decide) ?_
  refine r_aload_n (pc := 17) dJ5_removeLast_17 rfl ?_
  exact r_aret (pc := 18) dJ5_removeLast_18 rfl (Or.inl ⟨_, rfl⟩) (Or.inr ⟨_, rfl⟩) ⟨rfl, hq⟩
theorem t_J5_circularClear {G : Gl} {h9 : Hp} {ar i0 en : Nat} {t : Tg} {f : Nat → Option Nat} (hr : h9 ar = some (t, aQ "java/lang/Object" 17 f)) (ht : t ≠ frz) (hi : i0 < 17) (he : en < 17) : Ct G 1 0 yJ5_circularClear (Cond.code yJ5_circularClear cJ5_circularClear 4 (none)) [.ref ar, .int (iZ i0), .int (iZ en)] h9 (jN (fun h' => ∃ g, h' = up h9 ar (t, aQ "java/lang/Object" 17 g))) noX := by
  have hp := PW.one hr
  refine Ct.of (own := "java/util/ArrayDeque") (nm := "circularClear") (by decide +kernel) rfl rfl (L := [some (.ref ar), some (.int (iZ i0)), some (.int (iZ en)), none]) rfl (Nat.le_of_ble_eq_true rfl) rfl ?_
  refine r_iload_n (pc := 0) dJ5_circularClear_0 rfl ?_
  refine r_iload_n (pc := 1) dJ5_circularClear_1 rfl ?_
  refine r_icmp_gt (pc := 2) (tgt := 9) dJ5_circularClear_2 (by decide) (by omega) (by omega) (fun c2 => ?_) (fun c2 => ?_)
  · refine r_aload_n (pc := 9) dJ5_circularClear_9 rfl ?_
    refine r_alen (pc := 10) dJ5_circularClear_10 (by decide) (hp.at 0 rfl) (by omega) ?_
    refine r_istore_n (pc := 11) (L' := [_, _, _, _]) dJ5_circularClear_11 rfl ?_
    have loop12 : ∀ (k12 : Nat) (i to : Nat) (g : Nat → Option Nat) (h : Hp), (PW [(ar, t, aQ "java/lang/Object" 17 g)] h9 h) → (i ≤ 17) → (to ≤ 17) → 40 * (to - en + (en - to)) + (to - i) < k12 → Go G "java/util/ArrayDeque" cJ5_circularClear (4, none, "circularClear", []) 1 0 (jN (fun h' => ∃ g, h' = up h9 ar (t, aQ "java/lang/Object" 17 g))) (noX) 0 h 12 [some (.ref ar), some (.int (iZ i)), some (.int (iZ en)), some (.int (iZ to))] [] := by
      intro k12
      induction k12 with
      | zero => intro i to g h hp hi1 hi2 hk; omega
      | succ k12 ih12 =>
        intro i to g h hp hi1 hi2 hk12
        refine r_iload_n (pc := 12) dJ5_circularClear_12 rfl ?_
        refine r_iload_n (pc := 13) dJ5_circularClear_13 rfl ?_
        refine r_icmp_ge (pc := 14) (tgt := 27) dJ5_circularClear_14 (by decide) (by omega) (by omega) (fun c14 => ?_) (fun c14 => ?_)
        · refine r_iload_n (pc := 27) dJ5_circularClear_27 rfl ?_
          refine r_iload_n (pc := 28) dJ5_circularClear_28 rfl ?_
          refine r_icmp_ne (pc := 29) (tgt := 35) dJ5_circularClear_29 (by decide) (by omega) (by omega) (fun c29 => ?_) (fun c29 => ?_)
          · refine r_iconst (pc := 35) dJ5_circularClear_35 ?_
            refine r_istore_n (pc := 36) (L' := [_, _, _, _]) dJ5_circularClear_36 rfl ?_
            refine r_iload_n (pc := 37) dJ5_circularClear_37 rfl ?_
            refine r_istore_n (pc := 38) (L' := [_, _, _, _]) dJ5_circularClear_38 rfl ?_
            refine r_goto (pc := 39) (tgt := 12) dJ5_circularClear_39 (by decide) ?_
            exact ih12 0 en _ _ hp (by omega) (by omega) (by omega)
          · refine r_goto (pc := 32) (tgt := 42) dJ5_circularClear_32 (by decide) ?_
            exact r_vret (pc := 42) dJ5_circularClear_42 rfl ⟨rfl, _, hp.eq1⟩
        · refine r_aload_n (pc := 17) dJ5_circularClear_17 rfl ?_
          refine r_iload_n (pc := 18) dJ5_circularClear_18 rfl ?_
          refine r_null (pc := 19) dJ5_circularClear_19 ?_
          refine r_aastN (pc := 20) dJ5_circularClear_20 (hp.at 0 rfl) ht (by omega) (by omega) (by omega) ?_
          refine go_pw (hp.put 0 rfl) (fun h hp => ?_)
          refine r_iinc (pc := 21) (L' := [_, _, _, _]) dJ5_circularClear_21 rfl rfl ?_
          refine r_goto (pc := 24) (tgt := 12) dJ5_circularClear_24 (by decide) ?_
          exact ih12 (i + 1) to _ _ hp (by omega) (by omega) (by omega)
    exact loop12 _ i0 17 _ _ hp (by omega) (by omega) (Nat.lt_succ_self _)
  · refine r_iload_n (pc := 5) dJ5_circularClear_5 rfl ?_
    refine r_goto (pc := 6) (tgt := 11) dJ5_circularClear_6 (by decide) ?_
    refine r_istore_n (pc := 11) (L' := [_, _, _, _]) dJ5_circularClear_11 rfl ?_
    have loop12 : ∀ (k12 : Nat) (i to : Nat) (g : Nat → Option Nat) (h : Hp), (PW [(ar, t, aQ "java/lang/Object" 17 g)] h9 h) → (i ≤ 17) → (to ≤ 17) → 40 * (to - en + (en - to)) + (to - i) < k12 → Go G "java/util/ArrayDeque" cJ5_circularClear (4, none, "circularClear", []) 1 0 (jN (fun h' => ∃ g, h' = up h9 ar (t, aQ "java/lang/Object" 17 g))) (noX) 0 h 12 [some (.ref ar), some (.int (iZ i)), some (.int (iZ en)), some (.int (iZ to))] [] := by
      intro k12
      induction k12 with
      | zero => intro i to g h hp hi1 hi2 hk; omega
      | succ k12 ih12 =>
        intro i to g h hp hi1 hi2 hk12
        refine r_iload_n (pc := 12) dJ5_circularClear_12 rfl ?_
        refine r_iload_n (pc := 13) dJ5_circularClear_13 rfl ?_
        refine r_icmp_ge (pc := 14) (tgt := 27) dJ5_circularClear_14 (by decide) (by omega) (by omega) (fun c14 => ?_) (fun c14 => ?_)
        · refine r_iload_n (pc := 27) dJ5_circularClear_27 rfl ?_
          refine r_iload_n (pc := 28) dJ5_circularClear_28 rfl ?_
          refine r_icmp_ne (pc := 29) (tgt := 35) dJ5_circularClear_29 (by decide) (by omega) (by omega) (fun c29 => ?_) (fun c29 => ?_)
          · refine r_iconst (pc := 35) dJ5_circularClear_35 ?_
            refine r_istore_n (pc := 36) (L' := [_, _, _, _]) dJ5_circularClear_36 rfl ?_
            refine r_iload_n (pc := 37) dJ5_circularClear_37 rfl ?_
            refine r_istore_n (pc := 38) (L' := [_, _, _, _]) dJ5_circularClear_38 rfl ?_
            refine r_goto (pc := 39) (tgt := 12) dJ5_circularClear_39 (by decide) ?_
            exact ih12 0 en _ _ hp (by omega) (by omega) (by omega)
          · refine r_goto (pc := 32) (tgt := 42) dJ5_circularClear_32 (by decide) ?_
            exact r_vret (pc := 42) dJ5_circularClear_42 rfl ⟨rfl, _, hp.eq1⟩
        · refine r_aload_n (pc := 17) dJ5_circularClear_17 rfl ?_
          refine r_iload_n (pc := 18) dJ5_circularClear_18 rfl ?_
          refine r_null (pc := 19) dJ5_circularClear_19 ?_
          refine r_aastN (pc := 20) dJ5_circularClear_20 (hp.at 0 rfl) ht (by omega) (by omega) (by omega) ?_
          refine go_pw (hp.put 0 rfl) (fun h hp => ?_)
          refine r_iinc (pc := 21) (L' := [_, _, _, _]) dJ5_circularClear_21 rfl rfl ?_
          refine r_goto (pc := 24) (tgt := 12) dJ5_circularClear_24 (by decide) ?_
          exact ih12 (i + 1) to _ _ hp (by omega) (by omega) (by omega)
    exact loop12 _ i0 en _ _ hp (by omega) (by omega) (Nat.lt_succ_self _)
theorem t_J5_clear {G : Gl} {h : Hp} {a n : Nat} {t : Tg} {e : Nat → Nat} (hA : AD t a n e h) (ht : t ≠ frz) : Ct G 2 0 yJ5_clear (Cond.code yJ5_clear cJ5_clear 1 (none)) [.ref a] h (jN (fun h' => AD t a 0 (fun _ => 0) h' ∧ Fr (fun x => x = t) h h')) noX := by
  have hA0 := hA
  obtain ⟨ar, hd, f, q1, q2, q3, q4⟩ := hA0
  have hp := PW.two q1 q2 (ne_of q1 q2 (by intro e; simp [ob, aQ] at e))
  refine Ct.of (own := "java/util/ArrayDeque") (nm := "clear") (by decide +kernel) rfl rfl (L := [some (.ref a)]) rfl (Nat.le_of_ble_eq_true rfl) rfl ?_
  refine r_aload_n (pc := 0) dJ5_clear_0 rfl ?_
  refine gJ5_3 (pc := 1) dJ5_clear_1 q1 rfl ?_
  refine r_aload_n (pc := 4) dJ5_clear_4 rfl ?_
  refine gJ5_24 (pc := 5) dJ5_clear_5 q1 rfl ?_
  refine r_aload_n (pc := 8) dJ5_clear_8 rfl ?_
  refine gJ5_20 (pc := 9) dJ5_clear_9 q1 rfl ?_
  refine r_callS (pc := 12) (kb' := 0) dJ5_clear_12 kJ5_circularClear q2690 (t_J5_circularClear q2 ht q3.1 (by omega)) (Nat.le_refl _) (Nat.le_of_ble_eq_true rfl) rfl rfl (Nat.le_of_ble_eq_true rfl) (fun _ _ q => q.elim) (fun _ h hq => ?_)
  refine go_jN hq (fun hq => ?_)
  obtain ⟨g, e9⟩ := hq
  subst e9
  refine go_pw (hp.put 1 rfl) (fun h hp => ?_)
  refine r_aload_n (pc := 15) dJ5_clear_15 rfl ?_
  refine r_aload_n (pc := 16) dJ5_clear_16 rfl ?_
  refine r_iconst (pc := 17) dJ5_clear_17 ?_
  refine r_dup_x1 (pc := 18) dJ5_clear_18 rfl rfl ?_
  refine pJ5_20 (pc := 19) dJ5_clear_19 (hp.at 0 rfl) ht (Nat.le_of_ble_eq_true rfl) ?_
  refine go_pw (hp.put 0 rfl) (fun h hp => ?_)
  refine pJ5_24 (pc := 22) dJ5_clear_22 (hp.at 0 rfl) ht (Nat.le_of_ble_eq_true rfl) ?_
  refine go_pw (hp.put 0 rfl) (fun h hp => ?_)
  exact r_vret (pc := 25) dJ5_clear_25 rfl ⟨rfl, ⟨ar, 0, _, hp.at 0 rfl, hp.at 1 rfl, ⟨by omega, by omega⟩, fun i hi => absurd hi (by omega)⟩, hp.fr ⟨FA.t q1, FA.t q2, trivial⟩⟩
