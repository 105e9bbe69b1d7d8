set_option maxRecDepth 100000
/-! JDK, part 4: taking away out of an ArrayList; its iterator -/
def rmF1 (e : Nat → Nat) (i : Nat) : Nat → Nat := fun j => if j < i then e j else e (j + 1)
theorem AL.rem {G : Gl} {t : Tg} {a ar n cap i : Nat} {mc : Int32} {e : Nat → Nat} {f g : Nat → Option Nat} {h : Hp} (h1 : h a = some (t, ob 8 [.int mc, .ref ar, .int (iZ (n - 1))])) (h2 : h ar = some (t, aQ "java/lang/Object" cap (va_up g ((n : Int) - 1).toNat none))) (hc : n ≤ cap ∧ n ≤ 12) (hi : i < n) (hcap : cap = 10 ∨ cap = 15) (hf : ∀ j, j < n → f j = some (e j)) (hg : ∀ j, j < n - 1 → g j = if j < i then f j else f (j + 1)) : AL G t a mc (n - 1) (rmF1 e i) h := by
  refine ⟨ar, cap, t, _, ?_, h2, ⟨by omega, by omega⟩, fun j hj => ?_, Or.inl ⟨rfl, hcap⟩⟩
  · rw [h1, show ((n : Int) - 1) = ((n - 1 : Nat) : Int) by omega]
  · unfold va_up rmF1
    rw [if_neg (by omega), hg j hj]
    by_cases q : j < i
    · rw [if_pos q, if_pos q]; exact hf j (by omega)
    · rw [if_neg q, if_neg q]; exact hf (j + 1) (by omega)

theorem t_J2_fastRemove {G : Gl} {h : Hp} {a ar n cap i : Nat} {t : Tg} {mc : Int32} {e : Nat → Nat} {f : Nat → Option Nat} (q1 : h a = some (t, ob 8 [.int mc, .ref ar, .int (iZ n)])) (q2 : h ar = some (t, aQ "java/lang/Object" cap f)) (q3 : n ≤ cap ∧ n ≤ 12) (q4 : ∀ i, i < n → f i = some (e i)) (q5 : cap = 10 ∨ cap = 15) (ht : t ≠ frz) (hi : i < n) (hob : ∀ i, i < n → ∃ tv ci fs, h (e i) = some (tv, ob ci fs)) : Ct G 1 0 yJ2_fastRemove (Cond.code yJ2_fastRemove cJ2_fastRemove 4 (none)) [.ref a, .ref ar, .int (iZ i)] h (jN (fun h' => AL G t a (mc + 1) (n - 1) (rmF1 e i) h' ∧ Fr (fun x => x = t) h h')) noX := by
  have hne : a ≠ ar := ne_of q1 q2 (by intro e; simp [ob, aQ] at e)
  have hp := PW.two q1 q2 hne
  have hobp : ∀ (h1 : Hp) {x y : Tg × Cl}, (∃ ci fs, x = (t, ob ci fs)) → PW [(a, x), (ar, y)] h h1 → ∀ i, i < n → ∃ tv ci fs, h1 (e i) = some (tv, ob ci fs) := by
    intro h1 x y hx hp i hi
    obtain ⟨tv, ci, fs, hv⟩ := hob i hi
    by_cases e1 : a = e i
    · obtain ⟨ci, fs, rfl⟩ := hx
      exact ⟨t, ci, fs, e1 ▸ hp.at 0 rfl⟩
    · exact ⟨tv, ci, fs, (hp.ot ⟨e1, ne_of q2 hv (by intro e; simp [ob, aQ] at e), trivial⟩).trans hv⟩
  refine Ct.of (own := "java/util/ArrayList") (nm := "fastRemove") (by decide +kernel) rfl rfl (L := [some (.ref a), some (.ref ar), some (.int (iZ i)), none]) rfl (Nat.le_of_ble_eq_true rfl) rfl ?_
  refine r_aload_n (pc := 0) dJ2_fastRemove_0 rfl ?_
  refine r_dup (pc := 1) dJ2_fastRemove_1 rfl ?_
  refine gJ2_63_8 (pc := 2) dJ2_fastRemove_2 (hp.at 0 rfl) rfl ?_
  refine r_iconst (pc := 5) dJ2_fastRemove_5 ?_
  refine q_iadd (pc := 6) dJ2_fastRemove_6 ?_
  refine pJ2_63_8 (pc := 7) dJ2_fastRemove_7 (hp.at 0 rfl) ht (Nat.le_of_ble_eq_true rfl) ?_
  refine go_pw (hp.put 0 rfl) (fun h hp => ?_)
  refine r_aload_n (pc := 10) dJ2_fastRemove_10 rfl ?_
  refine gJ2_48 (pc := 11) dJ2_fastRemove_11 (hp.at 0 rfl) rfl ?_
  refine r_iconst (pc := 14) dJ2_fastRemove_14 ?_
  refine r_isub (pc := 15) dJ2_fastRemove_15 ?_
  refine r_dup (pc := 16) dJ2_fastRemove_16 rfl ?_
  refine r_istore_n (pc := 17) (L' := [_, _, _, _]) dJ2_fastRemove_17 rfl ?_
  refine r_iload_n (pc := 18) dJ2_fastRemove_18 rfl ?_
  refine r_icmp_le (pc := 19) (tgt := 34) dJ2_fastRemove_19 (by decide) (by omega) (by omega) (fun c19 => ?_) (fun c19 => ?_)
  · refine r_aload_n (pc := 34) dJ2_fastRemove_34 rfl ?_
    refine r_aload_n (pc := 35) dJ2_fastRemove_35 rfl ?_
    refine r_iload_n (pc := 36) dJ2_fastRemove_36 rfl ?_
    refine r_dup_x1 (pc := 37) dJ2_fastRemove_37 rfl rfl ?_
    refine pJ2_48 (pc := 38) dJ2_fastRemove_38 (hp.at 0 rfl) ht (Nat.le_of_ble_eq_true rfl) ?_
    refine go_pw (hp.put 0 rfl) (fun h hp => ?_)
    refine r_null (pc := 41) dJ2_fastRemove_41 ?_
    refine r_aastN (pc := 42) dJ2_fastRemove_42 (hp.at 1 rfl) ht (by omega) (by omega) (by omega) ?_
    refine go_pw (hp.put 1 rfl) (fun h hp => ?_)
    exact r_vret (pc := 43) dJ2_fastRemove_43 rfl ⟨rfl, AL.rem (g := f) (i := i) (hp.at 0 rfl) (hp.at 1 rfl) q3 hi q5 q4 (fun j hj => by rw [if_pos (by omega)]), (hp.fr ⟨FA.t q1, FA.t q2, trivial⟩)⟩
  · refine r_aload_n (pc := 22) dJ2_fastRemove_22 rfl ?_
    refine r_iload_n (pc := 23) dJ2_fastRemove_23 rfl ?_
    refine r_iconst (pc := 24) dJ2_fastRemove_24 ?_
    refine r_iadd (pc := 25) dJ2_fastRemove_25 ?_
    refine r_aload_n (pc := 26) dJ2_fastRemove_26 rfl ?_
    refine r_iload_n (pc := 27) dJ2_fastRemove_27 rfl ?_
    refine r_iload_n (pc := 28) dJ2_fastRemove_28 rfl ?_
    refine r_iload_n (pc := 29) dJ2_fastRemove_29 rfl ?_
    refine r_isub (pc := 30) dJ2_fastRemove_30 ?_
    refine r_copyQ (pc := 31) dJ2_fastRemove_31 q1807 (hp.at 1 rfl) (hp.at 1 rfl) ht (by omega) (by omega) (by omega) (by omega) (by omega) (by omega) (by omega) (fun k hk y hy => by
        have e9 := q4 (i + 1 + k) (by omega)
        have e8 : f (i + 1 + k) = some y := by rw [← hy]; congr 1
        cases e9.symm.trans e8
        exact hobp _ ⟨_, _, rfl⟩ hp (i + 1 + k) (by omega)) (Nat.le_of_ble_eq_true rfl) (Nat.le_of_ble_eq_true rfl) ?_
    refine go_pw (hp.put 1 rfl) (fun h hp => ?_)
    refine r_aload_n (pc := 34) dJ2_fastRemove_34 rfl ?_
    refine r_aload_n (pc := 35) dJ2_fastRemove_35 rfl ?_
    refine r_iload_n (pc := 36) dJ2_fastRemove_36 rfl ?_
    refine r_dup_x1 (pc := 37) dJ2_fastRemove_37 rfl rfl ?_
    refine pJ2_48 (pc := 38) dJ2_fastRemove_38 (hp.at 0 rfl) ht (Nat.le_of_ble_eq_true rfl) ?_
    refine go_pw (hp.put 0 rfl) (fun h hp => ?_)
    refine r_null (pc := 41) dJ2_fastRemove_41 ?_
    refine r_aastN (pc := 42) dJ2_fastRemove_42 (hp.at 1 rfl) ht (by omega) (by omega) (by omega) ?_
    refine go_pw (hp.put 1 rfl) (fun h hp => ?_)
    exact r_vret (pc := 43) dJ2_fastRemove_43 rfl ⟨rfl, AL.rem (g := va_cpy f f (i + 1) i (n - 1 - i)) (i := i) (hp.at 0 rfl) (by
        have e9 := hp.at 1 rfl
        rw [e9]
        congr 3
        unfold va_up va_cpy
        funext j
        (repeat' split) <;> first | rfl | omega | (congr 1; omega)) q3 hi q5 q4 (fun j hj => by
        by_cases q : j < i
        · rw [if_pos q]; exact pk_cpy_out (by omega)
        · rw [if_neg q]; exact (pk_cpy_in (by omega) (by omega)).trans (congrArg f (by omega))), (hp.fr ⟨FA.t q1, FA.t q2, trivial⟩)⟩
theorem t_J2_remove {G : Gl} {h : Hp} {a n i : Nat} {t : Tg} {mc : Int32} {e : Nat → Nat} (hA : AL G t a mc n e h) (ht : t ≠ frz) (hi : i < n) (hob : ∀ i, i < n → ∃ tv ci fs, h (e i) = some (tv, ob ci fs)) : Ct G 3 0 yJ2_remove (Cond.code yJ2_remove cJ2_remove 4 (some (.object "java/lang/Object"))) [.ref a, .int (iZ i)] h (jP (.ref (e i)) (fun h' => AL G t a (mc + 1) (n - 1) (rmF1 e i) h' ∧ Fr (fun x => x = t) h h')) noX := by
  have hA0 := hA
  obtain ⟨ar, cap, t2, f, q1, q2, q3, q4, q5⟩ := hA0
  obtain ⟨rfl, q6⟩ := q5.resolve_right (fun q => by omega)
  refine Ct.of (own := "java/util/ArrayList") (nm := "remove") (by decide +kernel) rfl rfl (L := [some (.ref a), some (.int (iZ i)), none, none]) rfl (Nat.le_of_ble_eq_true rfl) rfl ?_
  refine r_iload_n (pc := 0) dJ2_remove_0 rfl ?_
  refine r_aload_n (pc := 1) dJ2_remove_1 rfl ?_
  refine gJ2_48 (pc := 2) dJ2_remove_2 q1 rfl ?_
  refine r_callS (pc := 5) (kb' := 0) dJ2_remove_5 kJ15_checkIndex q548 (t_J15_checkIndex (by omega) (by omega) (by omega)) (Nat.le_refl _) (Nat.le_of_ble_eq_true rfl) rfl rfl (Nat.le_of_ble_eq_true rfl) (fun _ _ q => q.elim) (fun _ _ hq => ?_)
  refine go_jE hq ?_
  refine r_pop (pc := 8) dJ2_remove_8 rfl ?_
  refine r_aload_n (pc := 9) dJ2_remove_9 rfl ?_
  refine gJ2_9 (pc := 10) dJ2_remove_10 q1 rfl ?_
  refine r_astore_n (pc := 13) (L' := [_, _, _, _]) dJ2_remove_13 rfl ?_
  refine r_aload_n (pc := 14) dJ2_remove_14 rfl ?_
  refine r_iload_n (pc := 15) dJ2_remove_15 rfl ?_
  refine r_aald (pc := 16) dJ2_remove_16 (by decide) q2 (by omega) (by omega) (by omega) ?_
  refine go_cv (w := .ref (e i)) (by rw [show ((i : Int)).toNat = i from rfl, q4 _ hi]; rfl) ?_
  refine r_astore_n (pc := 17) (L' := [_, _, _, _]) dJ2_remove_17 rfl ?_
  refine r_aload_n (pc := 18) dJ2_remove_18 rfl ?_
  refine r_aload_n (pc := 19) dJ2_remove_19 rfl ?_
  refine r_iload_n (pc := 20) dJ2_remove_20 rfl ?_
  refine r_callV (pc := 21) (kb' := 0) dJ2_remove_21 kJ2_fastRemove q1803 (t_J2_fastRemove q1 q2 q3 q4 q6 ht hi hob) q1 rfl (Nat.le_refl _) (Nat.le_of_ble_eq_true rfl) rfl rfl (Nat.le_of_ble_eq_true rfl) (fun _ _ q => q.elim) (fun _ h hq => ?_)
  refine go_jN hq (fun hq => ?_)
  refine r_aload_n (pc := 24) dJ2_remove_24 rfl ?_
  exact r_aret (pc := 25) dJ2_remove_25 rfl (Or.inl ⟨_, rfl⟩) (Or.inr ⟨_, rfl⟩) ⟨rfl, hq⟩
theorem t_J26_init {G : Gl} {h : Hp} {q a n : Nat} {t tl : Tg} {mc : Int32} {e : Nat → Nat} (hq : h q = some (t, ob 9 [.int 0, .int 0, .int 0, .null])) (ht : t ≠ frz) (hA : AL G tl a mc n e h) : Ct G 1 0 yJ26_init (Cond.code yJ26_init cJ26_init 2 (none)) [.ref q, .ref a] h (jN (· = up h q (t, ob 9 [.int 0, .int (iZ (-1)), .int mc, .ref a]))) noX := by
  have hA0 := hA
  obtain ⟨ar, cap, t2, f, q1, q2, q3, q4, q5⟩ := hA0
  have hqa : q ≠ a := ne_of hq q1 (by intro e; simp [ob] at e)
  have hp := PW.one hq
  refine Ct.of (own := "java/util/ArrayList$Itr") (nm := "<init>") (by decide +kernel) rfl rfl (L := [some (.ref q), some (.ref a)]) rfl (Nat.le_of_ble_eq_true rfl) rfl ?_
  refine r_aload_n (pc := 0) dJ26_init_0 rfl ?_
  refine r_aload_n (pc := 1) dJ26_init_1 rfl ?_
  refine pJ26_1 (pc := 2) dJ26_init_2 rfl rfl rfl rfl (hp.at 0 rfl) ht (Nat.le_of_ble_eq_true rfl) ?_
  refine go_pw (hp.put 0 rfl) (fun h hp => ?_)
  refine r_aload_n (pc := 5) dJ26_init_5 rfl ?_
  refine r_objInit (pc := 6) dJ26_init_6 q472 q169 q170 (by decide) (Nat.le_of_ble_eq_true rfl) ?_
  refine r_aload_n (pc := 9) dJ26_init_9 rfl ?_
  refine r_iconst (pc := 10) dJ26_init_10 ?_
  refine pJ26_13 (pc := 11) dJ26_init_11 (hp.at 0 rfl) ht (Nat.le_of_ble_eq_true rfl) ?_
  refine go_pw (hp.put 0 rfl) (fun h hp => ?_)
  refine r_aload_n (pc := 14) dJ26_init_14 rfl ?_
  refine r_aload_n (pc := 15) dJ26_init_15 rfl ?_
  refine gJ26_1 (pc := 16) dJ26_init_16 (hp.at 0 rfl) rfl ?_
  refine gJ26_17_8 (pc := 19) dJ26_init_19 ((hp.ot ⟨hqa, trivial⟩).trans q1) rfl ?_
  refine pJ26_22 (pc := 22) dJ26_init_22 (hp.at 0 rfl) ht (Nat.le_of_ble_eq_true rfl) ?_
  refine go_pw (hp.put 0 rfl) (fun h hp => ?_)
  exact r_vret (pc := 25) dJ26_init_25 rfl ⟨rfl, hp.eq1⟩
theorem t_J2_iterator {G : Gl} {h : Hp} {a n : Nat} {tl : Tg} {mc : Int32} {e : Nat → Nat} (t : Tg) (ht : t ≠ frz) (hA : AL G tl a mc n e h) : Ct G 2 5 yJ2_iterator (Cond.code yJ2_iterator cJ2_iterator 1 (some (.object "java/util/Iterator"))) [.ref a] h (jX (fun q h' => h q = none ∧ h' = up h q (t, ob 9 [.int (iZ 0), .int (iZ (-1)), .int mc, .ref a]))) noX := by
  have hA0 := hA
  obtain ⟨ar, cap, t2, f, q1, q2, q3, q4, q5⟩ := hA0
  have hp := PW.nil (h := h)
  have hA1 : ∀ {q x}, h q = none → AL G tl a mc n e (up h q x) := fun hq => ⟨ar, cap, t2, f, (up_n (ne_nw q1 hq)).trans q1, (up_n (ne_nw q2 hq)).trans q2, q3, q4, q5⟩
  refine Ct.of (own := "java/util/ArrayList") (nm := "iterator") (by decide +kernel) rfl rfl (L := [some (.ref a)]) rfl (Nat.le_of_ble_eq_true rfl) rfl ?_
  refine r_new (pc := 0) (ci := 9) (T := TJ26) (N := 4) (t) [.int 0, .int 0, .int 0, .null] (kb' := 0) dJ2_iterator_0 rfl q467 q468 q137 (by intro j hj; revert j; decide +kernel) (Nat.le_of_ble_eq_true rfl) (fun w hw zw => ?_)
  refine go_pw (hp.new hw _) (fun h hp => ?_)
  refine r_dup (pc := 3) dJ2_iterator_3 rfl ?_
  refine r_aload_n (pc := 4) dJ2_iterator_4 rfl ?_
  refine r_callI (pc := 5) (kb' := 0) dJ2_iterator_5 kJ26_init q469 (t_J26_init (hp.at 0 rfl) ht (by rw [hp.eq1]; exact hA1 hw)) (Nat.le_refl _) (Nat.le_of_ble_eq_true rfl) rfl rfl (Nat.le_of_ble_eq_true rfl) (fun _ _ q => q.elim) (fun _ h hq => ?_)
  refine go_jN hq (fun e => ?_)
  subst e
  refine go_pw (hp.put 0 rfl) (fun h hp => ?_)
  exact r_aret (pc := 8) dJ2_iterator_8 rfl (Or.inl ⟨_, rfl⟩) (Or.inr ⟨_, rfl⟩) ⟨w, rfl, hw, hp.eq1⟩
theorem t_J26_hasNext {G : Gl} {h : Hp} {it a n : Nat} {t tl : Tg} {mc : Int32} {e : Nat → Nat} {c : Nat} {l : Int} (hI : h it = some (t, ob 9 [.int (iZ c), .int (iZ l), .int mc, .ref a])) (hA : AL G tl a mc n e h) (hc : c ≤ n) : Ct G 1 0 yJ26_hasNext (Cond.code yJ26_hasNext cJ26_hasNext 1 (some .boolean)) [.ref it] h (jE (.int (iZ (bZ (c < n)))) h) noX := by
  have hA0 := hA
  obtain ⟨ar, cap, t2, f, q1, q2, q3, q4, q5⟩ := hA0
  refine Ct.of (own := "java/util/ArrayList$Itr") (nm := "hasNext") (by decide +kernel) rfl rfl (L := [some (.ref it)]) rfl (Nat.le_of_ble_eq_true rfl) rfl ?_
  refine r_aload_n (pc := 0) dJ26_hasNext_0 rfl ?_
  refine gJ26_25 (pc := 1) dJ26_hasNext_1 hI rfl ?_
  refine r_aload_n (pc := 4) dJ26_hasNext_4 rfl ?_
  refine gJ26_1 (pc := 5) dJ26_hasNext_5 hI rfl ?_
  refine gJ26_28 (pc := 8) dJ26_hasNext_8 q1 rfl ?_
  refine r_icmp_eq (pc := 11) (tgt := 18) dJ26_hasNext_11 (by decide) (by omega) (by omega) (fun c11 => ?_) (fun c11 => ?_)
  · refine r_iconst (pc := 18) dJ26_hasNext_18 ?_
    exact r_iret (pc := 19) dJ26_hasNext_19 rfl (nB' (by first | (left; rfl) | (right; rfl) | exact bZ_01' _ | omega)) ⟨by rw [bZ_f (by omega)], rfl⟩
  · refine r_iconst (pc := 14) dJ26_hasNext_14 ?_
    refine r_goto (pc := 15) (tgt := 19) dJ26_hasNext_15 (by decide) ?_
    exact r_iret (pc := 19) dJ26_hasNext_19 rfl (nB' (by first | (left; rfl) | (right; rfl) | exact bZ_01' _ | omega)) ⟨by rw [bZ_t (by omega)], rfl⟩
theorem t_J26_checkForComodification {G : Gl} {h : Hp} {it a n : Nat} {t tl : Tg} {mc : Int32} {e : Nat → Nat} {c : Nat} {l : Int} (hI : h it = some (t, ob 9 [.int (iZ c), .int (iZ l), .int mc, .ref a])) (hA : AL G tl a mc n e h) : Ct G 1 0 yJ26_checkForComodification (Cond.code yJ26_checkForComodification cJ26_checkForComodification 1 (none)) [.ref it] h (jN (· = h)) noX := by
  have hA0 := hA
  obtain ⟨ar, cap, t2, f, q1, q2, q3, q4, q5⟩ := hA0
  refine Ct.of (own := "java/util/ArrayList$Itr") (nm := "checkForComodification") (by decide +kernel) rfl rfl (L := [some (.ref it)]) rfl (Nat.le_of_ble_eq_true rfl) rfl ?_
  refine r_aload_n (pc := 0) dJ26_checkForComodification_0 rfl ?_
  refine gJ26_1 (pc := 1) dJ26_checkForComodification_1 hI rfl ?_
  refine gJ26_17_8 (pc := 4) dJ26_checkForComodification_4 q1 rfl ?_
  refine r_aload_n (pc := 7) dJ26_checkForComodification_7 rfl ?_
  refine gJ26_22 (pc := 8) dJ26_checkForComodification_8 hI rfl ?_
  refine q_icmp_eqT (pc := 11) (tgt := 22) dJ26_checkForComodification_11 (by decide) ?_
  exact r_vret (pc := 22) dJ26_checkForComodification_22 rfl ⟨rfl, rfl⟩
theorem t_J26_next {G : Gl} {h : Hp} {it a n : Nat} {t tl : Tg} {mc : Int32} {e : Nat → Nat} {c : Nat} {l : Int} (hI : h it = some (t, ob 9 [.int (iZ c), .int (iZ l), .int mc, .ref a])) (hA : AL G tl a mc n e h) (hc : c < n) (ht : t ≠ frz) : Ct G 2 0 yJ26_next (Cond.code yJ26_next cJ26_next 3 (some (.object "java/lang/Object"))) [.ref it] h (jP (.ref (e c)) (· = up h it (t, ob 9 [.int (iZ (c + 1)), .int (iZ c), .int mc, .ref a]))) noX := by
  have hA0 := hA
  obtain ⟨ar, cap, t2, f, q1, q2, q3, q4, q5⟩ := hA0
  have hia : it ≠ a := ne_of hI q1 (by intro e; simp [ob] at e)
  have hir : it ≠ ar := ne_of hI q2 (by intro e; simp [ob, aQ] at e)
  have hp := PW.one hI
  refine Ct.of (own := "java/util/ArrayList$Itr") (nm := "next") (by decide +kernel) rfl rfl (L := [some (.ref it), none, none]) rfl (Nat.le_of_ble_eq_true rfl) rfl ?_
  refine r_aload_n (pc := 0) dJ26_next_0 rfl ?_
  refine r_callV (pc := 1) (kb' := 0) dJ26_next_1 kJ26_checkForComodification q954 (t_J26_checkForComodification hI hA) (hp.at 0 rfl) rfl (Nat.le_refl _) (Nat.le_of_ble_eq_true rfl) rfl rfl (Nat.le_of_ble_eq_true rfl) (fun _ _ q => q.elim) (fun _ h hq => ?_)
  refine go_jN hq (fun e => ?_)
  subst e
  refine r_aload_n (pc := 4) dJ26_next_4 rfl ?_
  refine gJ26_25 (pc := 5) dJ26_next_5 (hp.at 0 rfl) rfl ?_
  refine r_istore_n (pc := 8) (L' := [_, _, _]) dJ26_next_8 rfl ?_
  refine r_iload_n (pc := 9) dJ26_next_9 rfl ?_
  refine r_aload_n (pc := 10) dJ26_next_10 rfl ?_
  refine gJ26_1 (pc := 11) dJ26_next_11 (hp.at 0 rfl) rfl ?_
  refine gJ26_28 (pc := 14) dJ26_next_14 ((hp.ot ⟨hia, trivial⟩).trans q1) rfl ?_
  refine r_icmp_lt (pc := 17) (tgt := 28) dJ26_next_17 (by decide) (by omega) (by omega) (fun c17 => ?_) (fun c17 => absurd (by omega) c17)
  refine r_aload_n (pc := 28) dJ26_next_28 rfl ?_
  refine gJ26_1 (pc := 29) dJ26_next_29 (hp.at 0 rfl) rfl ?_
  refine gJ26_37 (pc := 32) dJ26_next_32 ((hp.ot ⟨hia, trivial⟩).trans q1) rfl ?_
  refine r_astore_n (pc := 35) (L' := [_, _, _]) dJ26_next_35 rfl ?_
  refine r_iload_n (pc := 36) dJ26_next_36 rfl ?_
  refine r_aload_n (pc := 37) dJ26_next_37 rfl ?_
  refine r_alen (pc := 38) dJ26_next_38 (by decide) ((hp.ot ⟨hir, trivial⟩).trans q2) (by omega) ?_
  refine r_icmp_lt (pc := 39) (tgt := 50) dJ26_next_39 (by decide) (by omega) (by omega) (fun c39 => ?_) (fun c39 => absurd (by omega) c39)
  refine r_aload_n (pc := 50) dJ26_next_50 rfl ?_
  refine r_iload_n (pc := 51) dJ26_next_51 rfl ?_
  refine r_iconst (pc := 52) dJ26_next_52 ?_
  refine r_iadd (pc := 53) dJ26_next_53 ?_
  refine pJ26_25 (pc := 54) dJ26_next_54 (hp.at 0 rfl) ht (Nat.le_of_ble_eq_true rfl) ?_
  refine go_pw (hp.put 0 rfl) (fun h hp => ?_)
  refine r_aload_n (pc := 57) dJ26_next_57 rfl ?_
  refine r_aload_n (pc := 58) dJ26_next_58 rfl ?_
  refine r_iload_n (pc := 59) dJ26_next_59 rfl ?_
  refine r_dup_x1 (pc := 60) dJ26_next_60 rfl rfl ?_
  refine pJ26_13 (pc := 61) dJ26_next_61 (hp.at 0 rfl) ht (Nat.le_of_ble_eq_true rfl) ?_
  refine go_pw (hp.put 0 rfl) (fun h hp => ?_)
  refine r_aald (pc := 64) dJ26_next_64 (by decide) ((hp.ot ⟨hir, trivial⟩).trans q2) (by omega) (by omega) (by omega) ?_
  refine go_cv (w := .ref (e c)) (by rw [show ((c : Int)).toNat = c from rfl, q4 _ hc]; rfl) ?_
  exact r_aret (pc := 65) dJ26_next_65 rfl (Or.inl ⟨_, rfl⟩) (Or.inr ⟨_, rfl⟩) ⟨rfl, hp.eq1⟩
theorem t_J26_remove {G : Gl} {h : Hp} {it a n : Nat} {t tl : Tg} {mc : Int32} {e : Nat → Nat} {c l : Nat} (hI : h it = some (t, ob 9 [.int (iZ c), .int (iZ l), .int mc, .ref a])) (hA : AL G tl a mc n e h) (hl : l < n) (ht : t ≠ frz) (htl : tl ≠ frz) (htt : t ≠ tl) (hob : ∀ i, i < n → ∃ tv ci fs, h (e i) = some (tv, ob ci fs)) : Ct G 4 0 yJ26_remove (Cond.codeWith yJ26_remove cJ26_remove 2 (none) [(19, 55, 58, 51)]) [.ref it] h (jN (fun h' => AL G tl a (mc + 1) (n - 1) (rmF1 e l) h' ∧ h' it = some (t, ob 9 [.int (iZ l), .int (iZ (-1)), .int (mc + 1), .ref a]) ∧ Fr (fun x => x = tl ∨ x = t) h h')) noX := by
  have hA0 := hA
  obtain ⟨ar, cap, t2, f, q1, q2, q3, q4, q5⟩ := hA0
  have hia : it ≠ a := ne_of hI q1 (by intro e; simp [ob] at e)
  refine Ct.ofH (own := "java/util/ArrayList$Itr") (nm := "remove") (by decide +kernel) rfl rfl (L := [some (.ref it), none]) rfl (Nat.le_of_ble_eq_true rfl) rfl ?_
  refine r_aload_n (pc := 0) dJ26_remove_0 rfl ?_
  refine gJ26_13 (pc := 1) dJ26_remove_1 hI rfl ?_
  refine r_if_ge (pc := 4) (tgt := 15) dJ26_remove_4 (by decide) (by omega) (fun c4 => ?_) (fun c4 => absurd (by omega) c4)
  refine r_aload_n (pc := 15) dJ26_remove_15 rfl ?_
  refine r_callV (pc := 16) (kb' := 0) dJ26_remove_16 kJ26_checkForComodification q954 (t_J26_checkForComodification hI hA) hI rfl (Nat.le_refl _) (Nat.le_of_ble_eq_true rfl) rfl rfl (Nat.le_of_ble_eq_true rfl) (fun _ _ q => q.elim) (fun _ h hq => ?_)
  refine go_jN hq (fun e => ?_)
  subst e
  refine r_aload_n (pc := 19) dJ26_remove_19 rfl ?_
  refine gJ26_1 (pc := 20) dJ26_remove_20 hI rfl ?_
  refine r_aload_n (pc := 23) dJ26_remove_23 rfl ?_
  refine gJ26_13 (pc := 24) dJ26_remove_24 hI rfl ?_
  refine r_callV (pc := 27) (kb' := 0) dJ26_remove_27 kJ2_remove q1838 (t_J2_remove hA htl hl hob) q1 rfl (Nat.le_refl _) (Nat.le_of_ble_eq_true rfl) rfl rfl (Nat.le_of_ble_eq_true rfl) (fun _ _ q => q.elim) (fun _ h hq => ?_)
  refine go_jP hq (fun hq => ?_)
  obtain ⟨hA2, hF⟩ := hq
  have hB := hA2.size
  have hI2 := hF.get hI htt
  have hp := PW.one hI2
  refine r_pop (pc := 30) dJ26_remove_30 rfl ?_
  refine r_aload_n (pc := 31) dJ26_remove_31 rfl ?_
  refine r_aload_n (pc := 32) dJ26_remove_32 rfl ?_
  refine gJ26_13 (pc := 33) dJ26_remove_33 (hp.at 0 rfl) rfl ?_
  refine pJ26_25 (pc := 36) dJ26_remove_36 (hp.at 0 rfl) ht (Nat.le_of_ble_eq_true rfl) ?_
  refine go_pw (hp.put 0 rfl) (fun h hp => ?_)
  refine r_aload_n (pc := 39) dJ26_remove_39 rfl ?_
  refine r_iconst (pc := 40) dJ26_remove_40 ?_
  refine pJ26_13 (pc := 41) dJ26_remove_41 (hp.at 0 rfl) ht (Nat.le_of_ble_eq_true rfl) ?_
  refine go_pw (hp.put 0 rfl) (fun h hp => ?_)
  refine r_aload_n (pc := 44) dJ26_remove_44 rfl ?_
  refine r_aload_n (pc := 45) dJ26_remove_45 rfl ?_
  refine gJ26_1 (pc := 46) dJ26_remove_46 (hp.at 0 rfl) rfl ?_
  refine gJ26_17_8 (pc := 49) dJ26_remove_49 ((hp.ot ⟨hia, trivial⟩).trans hB.choose_spec) rfl ?_
  refine pJ26_22 (pc := 52) dJ26_remove_52 (hp.at 0 rfl) ht (Nat.le_of_ble_eq_true rfl) ?_
  refine go_pw (hp.put 0 rfl) (fun h hp => ?_)
  refine r_goto (pc := 55) (tgt := 67) dJ26_remove_55 (by decide) ?_
  exact r_vret (pc := 67) dJ26_remove_67 rfl ⟨rfl, hA2.fr (hp.fr (P := fun x => x = t) ⟨FA.t hI2, trivial⟩) (fun q => htt q.symm) (fun q => ht q.symm), hp.at 0 rfl, (hF.wk (fun _ q => Or.inl q)).tr ((hp.fr (P := fun x => x = t) ⟨FA.t hI2, trivial⟩).wk (fun _ q => Or.inr q))⟩
