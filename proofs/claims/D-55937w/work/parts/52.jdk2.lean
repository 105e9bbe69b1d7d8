set_option maxRecDepth 100000
/-! JDK, part 2: ArrayList and its iterator -/
theorem AL.new {G : Gl} {t : Tg} {a : Nat} {e : Nat → Nat} {h : Hp} (ha : h a = some (t, ob 8 [.int (iZ 0), .ref (gS G 0), .int 0])) (h0 : h (gS G 0) = some (frz, aQ "java/lang/Object" 0 (fun _ => none))) : AL G t a (iZ 0) 0 e h :=
  ⟨gS G 0, 0, frz, fun _ => none, ha, h0, ⟨Nat.le_refl _, by omega⟩, fun i hi => absurd hi (by omega), Or.inr ⟨rfl, rfl, rfl⟩⟩
theorem AL.size {G : Gl} {t : Tg} {a : Nat} {mc : Int32} {n : Nat} {e : Nat → Nat} {h : Hp} (hA : AL G t a mc n e h) : ∃ r, h a = some (t, ob 8 [.int mc, .ref r, .int (iZ n)]) := by
  obtain ⟨ar, cap, t2, f, q1, q2, q3, q4, q5⟩ := hA
  exact ⟨ar, q1⟩
/-- the iterator: it, at place cur, last returned l -/
def IT (t : Tg) (it a : Nat) (mc : Int32) (cur l : Int) (h : Hp) : Prop := h it = some (t, ob 9 [.int (iZ cur), .int (iZ l), .int mc, .ref a])

theorem t_J2_init {G : Gl} {h : Hp} {a : Nat} {t : Tg} (ha : h a = some (t, ob 8 [.int 0, .null, .int 0])) (ht : t ≠ frz) : Ct G 3 0 yJ2_init (Cond.code yJ2_init cJ2_init 1 (none)) [.ref a] h (jN (· = up h a (t, ob 8 [.int (iZ 0), .ref (gS G 0), .int 0]))) noX := by
  have hp := PW.one ha
  refine Ct.of (own := "java/util/ArrayList") (nm := "<init>") (by decide +kernel) rfl rfl (L := [some (.ref a)]) rfl (Nat.le_of_ble_eq_true rfl) rfl ?_
  refine r_aload_n (pc := 0) dJ2_init_0 rfl ?_
  refine r_callI (pc := 1) (kb' := 0) dJ2_init_1 kJ1_init q182 (t_J1_init (hp.at 0 rfl) ht) (Nat.le_refl _) (Nat.le_of_ble_eq_true rfl) rfl rfl (Nat.le_of_ble_eq_true rfl) (fun _ _ q => q.elim) (fun _ h hq => ?_)
  refine go_jN hq (fun e => ?_)
  subst e
  refine go_pw (hp.put 0 rfl) (fun h hp => ?_)
  refine r_aload_n (pc := 4) dJ2_init_4 rfl ?_
  refine r_gets (pc := 5) dJ2_init_5 0 rfl q189 rfl ?_
  refine pJ2_9 (pc := 8) dJ2_init_8 rfl rfl rfl (hp.at 0 rfl) ht (Nat.le_of_ble_eq_true rfl) ?_
  refine go_pw (hp.put 0 rfl) (fun h hp => ?_)
  exact r_vret (pc := 11) dJ2_init_11 rfl ⟨rfl, hp.eq1⟩
theorem t_J2_size {G : Gl} {h : Hp} {a : Nat} {t : Tg} {m r : Value} {n : Int} (ha : h a = some (t, ob 8 [m, r, .int (iZ n)])) : Ct G 1 0 yJ2_size (Cond.code yJ2_size cJ2_size 1 (some .int)) [.ref a] h (jE (.int (iZ n)) h) noX := by
  refine Ct.of (own := "java/util/ArrayList") (nm := "size") (by decide +kernel) rfl rfl (L := [some (.ref a)]) rfl (Nat.le_of_ble_eq_true rfl) rfl ?_
  refine r_aload_n (pc := 0) dJ2_size_0 rfl ?_
  refine gJ2_48 (pc := 1) dJ2_size_1 ha rfl ?_
  exact r_iret (pc := 4) dJ2_size_4 rfl rfl ⟨rfl, rfl⟩
theorem t_J2_isEmpty {G : Gl} {h : Hp} {a : Nat} {t : Tg} {m r : Value} {n : Int} (ha : h a = some (t, ob 8 [m, r, .int (iZ n)])) (hn : InR n) : Ct G 1 0 yJ2_isEmpty (Cond.code yJ2_isEmpty cJ2_isEmpty 1 (some .boolean)) [.ref a] h (jE (.int (iZ (bZ (n = 0)))) h) noX := by
  refine Ct.of (own := "java/util/ArrayList") (nm := "isEmpty") (by decide +kernel) rfl rfl (L := [some (.ref a)]) rfl (Nat.le_of_ble_eq_true rfl) rfl ?_
  refine r_aload_n (pc := 0) dJ2_isEmpty_0 rfl ?_
  refine gJ2_48 (pc := 1) dJ2_isEmpty_1 ha rfl ?_
  refine r_if_ne (pc := 4) (tgt := 11) dJ2_isEmpty_4 (by decide) (by omega) (fun c4 => ?_) (fun c4 => ?_)
  · refine r_iconst (pc := 11) dJ2_isEmpty_11 ?_
    exact r_iret (pc := 12) dJ2_isEmpty_12 rfl (nB' (by first | (left; rfl) | (right; rfl) | exact bZ_01' _ | omega)) ⟨by rw [bZ_f (by omega)], rfl⟩
  · refine r_iconst (pc := 7) dJ2_isEmpty_7 ?_
    refine r_goto (pc := 8) (tgt := 12) dJ2_isEmpty_8 (by decide) ?_
    exact r_iret (pc := 12) dJ2_isEmpty_12 rfl (nB' (by first | (left; rfl) | (right; rfl) | exact bZ_01' _ | omega)) ⟨by rw [bZ_t (by omega)], rfl⟩
theorem t_J2_elementData {G : Gl} {h : Hp} {a ar n : Nat} {t t2 : Tg} {m s : Value} {f : Nat → Option Nat} {i : Int} {x : Nat} (ha : h a = some (t, ob 8 [m, .ref ar, s])) (hr : h ar = some (t2, aQ "java/lang/Object" n f)) (h0 : 0 ≤ i ∧ i < n ∧ i < 2147483648) (hx : f i.toNat = some x) : Ct G 1 0 yJ2_elementData (Cond.code yJ2_elementData cJ2_elementData 2 (some (.object "java/lang/Object"))) [.ref a, .int (iZ i)] h (jE (.ref x) h) noX := by
  refine Ct.of (own := "java/util/ArrayList") (nm := "elementData") (by decide +kernel) rfl rfl (L := [some (.ref a), some (.int (iZ i))]) rfl (Nat.le_of_ble_eq_true rfl) rfl ?_
  refine r_aload_n (pc := 0) dJ2_elementData_0 rfl ?_
  refine gJ2_9 (pc := 1) dJ2_elementData_1 ha rfl ?_
  refine r_iload_n (pc := 4) dJ2_elementData_4 rfl ?_
  refine r_aald (pc := 5) dJ2_elementData_5 (by decide) hr (by omega) (by omega) (by omega) ?_
  refine go_cv (w := .ref x) (by rw [hx]; rfl) ?_
  exact r_aret (pc := 6) dJ2_elementData_6 rfl (Or.inl ⟨_, rfl⟩) (Or.inr ⟨_, rfl⟩) ⟨rfl, rfl⟩
theorem t_J2_get {G : Gl} {h : Hp} {a n : Nat} {t : Tg} {mc : Int32} {e : Nat → Nat} {i : Int} (hA : AL G t a mc n e h) (h0 : 0 ≤ i) (h1 : i < n) : Ct G 3 0 yJ2_get (Cond.code yJ2_get cJ2_get 2 (some (.object "java/lang/Object"))) [.ref a, .int (iZ i)] h (jE (.ref (e i.toNat)) h) noX := by
  have hA0 := hA
  obtain ⟨ar, cap, t2, f, q1, q2, q3, q4, q5⟩ := hA0
  refine Ct.of (own := "java/util/ArrayList") (nm := "get") (by decide +kernel) rfl rfl (L := [some (.ref a), some (.int (iZ i))]) rfl (Nat.le_of_ble_eq_true rfl) rfl ?_
  refine r_iload_n (pc := 0) dJ2_get_0 rfl ?_
  refine r_aload_n (pc := 1) dJ2_get_1 rfl ?_
  refine gJ2_48 (pc := 2) dJ2_get_2 q1 rfl ?_
  refine r_callS (pc := 5) (kb' := 0) dJ2_get_5 kJ15_checkIndex q548 (t_J15_checkIndex (by omega) (by omega) (by omega)) (Nat.le_refl _) (Nat.le_of_ble_eq_true rfl) rfl rfl (Nat.le_of_ble_eq_true rfl) (fun _ _ q => q.elim) (fun _ _ hq => ?_)
  refine go_jE hq ?_
  refine r_pop (pc := 8) dJ2_get_8 rfl ?_
  refine r_aload_n (pc := 9) dJ2_get_9 rfl ?_
  refine r_iload_n (pc := 10) dJ2_get_10 rfl ?_
  refine r_callV (pc := 11) (kb' := 0) dJ2_get_11 kJ2_elementData q554 (t_J2_elementData q1 q2 (by omega) (q4 _ (by omega))) q1 rfl (Nat.le_refl _) (Nat.le_of_ble_eq_true rfl) rfl rfl (Nat.le_of_ble_eq_true rfl) (fun _ _ q => q.elim) (fun _ _ hq => ?_)
  refine go_jE hq ?_
  exact r_aret (pc := 14) dJ2_get_14 rfl (Or.inl ⟨_, rfl⟩) (Or.inr ⟨_, rfl⟩) ⟨rfl, rfl⟩
