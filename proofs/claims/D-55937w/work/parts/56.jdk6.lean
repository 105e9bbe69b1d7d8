set_option maxRecDepth 100000
theorem cuJ0_7_10 {G : Gl} : CUok G "java/util/AbstractCollection" "java/util/LinkedList" "java/util/AbstractCollection" 7 ⟨"java/util/AbstractCollection", "size", "()I"⟩ yJ4_size cJ4_size 1 (some .int) 0 := cu_D q2545 q3238 q500 q3243 ⟨q505, q112, q506, ⟨by decide, by decide⟩, by decide +kernel, by decide⟩
theorem cuJ4_67_4 {G : Gl} : CUok G "java/util/LinkedList" "CharterKiln$Article" "java/lang/Object" 67 ⟨"java/lang/Object", "equals", "(Ljava/lang/Object;)Z"⟩ yJ45_equals cJ45_equals 2 (some .boolean) 1 := cu_U q1758 q1341 q1340 q1371 q1343 ⟨q1340, q3245, q1371, ⟨by decide, by decide⟩, by decide +kernel, by decide⟩
theorem cuJ4_67_5 {G : Gl} : CUok G "java/util/LinkedList" "CharterKiln$Shard" "java/lang/Object" 67 ⟨"java/lang/Object", "equals", "(Ljava/lang/Object;)Z"⟩ yJ45_equals cJ45_equals 2 (some .boolean) 1 := cu_U q1758 q1341 q1340 q1371 q1347 ⟨q1340, q3245, q1371, ⟨by decide, by decide⟩, by decide +kernel, by decide⟩
/-! JDK, part 6: LinkedList's methods -/
theorem t_J3_init {G : Gl} {h : Hp} {a : Nat} {t : Tg} {v : Value} {fs : List Value} (ha : h a = some (t, ob 10 (v :: fs))) (ht : t ≠ frz) : Ct G 3 0 yJ3_init (Cond.code yJ3_init cJ3_init 1 (none)) [.ref a] h (jN (· = up h a (t, ob 10 (.int (iZ 0) :: fs)))) noX := by
  refine Ct.of (own := "java/util/AbstractSequentialList") (nm := "<init>") (by decide +kernel) rfl rfl (L := [some (.ref a)]) rfl (Nat.le_of_ble_eq_true rfl) rfl ?_
  refine r_aload_n (pc := 0) dJ3_init_0 rfl ?_
  refine r_callI (pc := 1) (kb' := 0) dJ3_init_1 kJ1_init q218 (t_J1_init_L ha ht) (Nat.le_refl _) (Nat.le_of_ble_eq_true rfl) rfl rfl (Nat.le_of_ble_eq_true rfl) (fun _ _ q => q.elim) (fun _ h hq => ?_)
  refine go_jN hq (fun e => ?_)
  subst e
  exact r_vret (pc := 4) dJ3_init_4 rfl ⟨rfl, rfl⟩
theorem t_J4_init {G : Gl} {h : Hp} {a : Nat} {t : Tg} (ha : h a = some (t, ob 10 [.int 0, .int 0, .null, .null])) (ht : t ≠ frz) : Ct G 4 0 yJ4_init (Cond.code yJ4_init cJ4_init 1 (none)) [.ref a] h (jN (· = up h a (t, ob 10 [.int (iZ 0), .int (iZ 0), .null, .null]))) noX := by
  have hp := PW.one ha
  refine Ct.of (own := "java/util/LinkedList") (nm := "<init>") (by decide +kernel) rfl rfl (L := [some (.ref a)]) rfl (Nat.le_of_ble_eq_true rfl) rfl ?_
  refine r_aload_n (pc := 0) dJ4_init_0 rfl ?_
  refine r_callI (pc := 1) (kb' := 0) dJ4_init_1 kJ3_init q215 (t_J3_init (hp.at 0 rfl) ht) (Nat.le_refl _) (Nat.le_of_ble_eq_true rfl) rfl rfl (Nat.le_of_ble_eq_true rfl) (fun _ _ q => q.elim) (fun _ h hq => ?_)
  refine go_jN hq (fun e => ?_)
  subst e
  refine go_pw (hp.put 0 rfl) (fun h hp => ?_)
  refine r_aload_n (pc := 4) dJ4_init_4 rfl ?_
  refine r_iconst (pc := 5) dJ4_init_5 ?_
  refine pJ4_7 (pc := 6) dJ4_init_6 (hp.at 0 rfl) ht (Nat.le_of_ble_eq_true rfl) ?_
  refine go_pw (hp.put 0 rfl) (fun h hp => ?_)
  exact r_vret (pc := 9) dJ4_init_9 rfl ⟨rfl, hp.eq1⟩
theorem t_J4_size {G : Gl} {h : Hp} {a n : Nat} {t : Tg} {mc : Int32} {nd e : Nat → Nat} (hA : LL t a mc n nd e h) : Ct G 1 0 yJ4_size (Cond.code yJ4_size cJ4_size 1 (some .int)) [.ref a] h (jE (.int (iZ n)) h) noX := by
  obtain ⟨q0, q1, q2, q3⟩ := hA
  refine Ct.of (own := "java/util/LinkedList") (nm := "size") (by decide +kernel) rfl rfl (L := [some (.ref a)]) rfl (Nat.le_of_ble_eq_true rfl) rfl ?_
  refine r_aload_n (pc := 0) dJ4_size_0 rfl ?_
  refine gJ4_7 (pc := 1) dJ4_size_1 q1 rfl ?_
  exact r_iret (pc := 4) dJ4_size_4 rfl rfl ⟨rfl, rfl⟩
theorem t_J0_isEmpty {G : Gl} {h : Hp} {a n : Nat} {t : Tg} {mc : Int32} {nd e : Nat → Nat} (hA : LL t a mc n nd e h) : Ct G 2 0 yJ0_isEmpty (Cond.code yJ0_isEmpty cJ0_isEmpty 1 (some .boolean)) [.ref a] h (jE (.int (iZ (bZ (n = 0)))) h) noX := by
  have hA0 := hA
  obtain ⟨q0, q1, q2, q3⟩ := hA0
  refine Ct.of (own := "java/util/AbstractCollection") (nm := "isEmpty") (by decide +kernel) rfl rfl (L := [some (.ref a)]) rfl (Nat.le_of_ble_eq_true rfl) rfl ?_
  refine r_aload_n (pc := 0) dJ0_isEmpty_0 rfl ?_
  refine r_callG (pc := 1) (kb' := 0) dJ0_isEmpty_1 cuJ0_7_10 (t_J4_size hA) q1 rfl (Nat.le_refl _) (Nat.le_of_ble_eq_true rfl) rfl rfl (Nat.le_of_ble_eq_true rfl) (fun _ _ q => q.elim) (fun _ _ hq => ?_)
  refine go_jE hq ?_
  refine r_if_ne (pc := 4) (tgt := 11) dJ0_isEmpty_4 (by decide) (by omega) (fun c4 => ?_) (fun c4 => ?_)
  · refine r_iconst (pc := 11) dJ0_isEmpty_11 ?_
    exact r_iret (pc := 12) dJ0_isEmpty_12 rfl (nB' (by first | (left; rfl) | (right; rfl) | exact bZ_01' _ | omega)) ⟨by rw [bZ_f (by omega)], rfl⟩
  · refine r_iconst (pc := 7) dJ0_isEmpty_7 ?_
    refine r_goto (pc := 8) (tgt := 12) dJ0_isEmpty_8 (by decide) ?_
    exact r_iret (pc := 12) dJ0_isEmpty_12 rfl (nB' (by first | (left; rfl) | (right; rfl) | exact bZ_01' _ | omega)) ⟨by rw [bZ_t (by omega)], rfl⟩
theorem t_J4_isElementIndex {G : Gl} {h : Hp} {a n : Nat} {t : Tg} {mc : Int32} {nd e : Nat → Nat} (hA : LL t a mc n nd e h) {i : Nat} (hi : i < n) : Ct G 1 0 yJ4_isElementIndex (Cond.code yJ4_isElementIndex cJ4_isElementIndex 2 (some .boolean)) [.ref a, .int (iZ i)] h (jE (.int (iZ 1)) h) noX := by
  obtain ⟨q0, q1, q2, q3⟩ := hA
  refine Ct.of (own := "java/util/LinkedList") (nm := "isElementIndex") (by decide +kernel) rfl rfl (L := [some (.ref a), some (.int (iZ i))]) rfl (Nat.le_of_ble_eq_true rfl) rfl ?_
  refine r_iload_n (pc := 0) dJ4_isElementIndex_0 rfl ?_
  refine r_if_lt (pc := 1) (tgt := 16) dJ4_isElementIndex_1 (by decide) (by omega) (fun c1 => absurd c1 (by omega)) (fun c1 => ?_)
  refine r_iload_n (pc := 4) dJ4_isElementIndex_4 rfl ?_
  refine r_aload_n (pc := 5) dJ4_isElementIndex_5 rfl ?_
  refine gJ4_7 (pc := 6) dJ4_isElementIndex_6 q1 rfl ?_
  refine r_icmp_ge (pc := 9) (tgt := 16) dJ4_isElementIndex_9 (by decide) (by omega) (by omega) (fun c9 => absurd c9 (by omega)) (fun c9 => ?_)
  refine r_iconst (pc := 12) dJ4_isElementIndex_12 ?_
  refine r_goto (pc := 13) (tgt := 17) dJ4_isElementIndex_13 (by decide) ?_
  exact r_iret (pc := 17) dJ4_isElementIndex_17 rfl (nB' (by first | (left; rfl) | (right; rfl) | exact bZ_01' _ | omega)) ⟨rfl, rfl⟩
theorem t_J4_isPositionIndex {G : Gl} {h : Hp} {a n : Nat} {t : Tg} {mc : Int32} {nd e : Nat → Nat} (hA : LL t a mc n nd e h) {i : Nat} (hi : i ≤ n) : Ct G 1 0 yJ4_isPositionIndex (Cond.code yJ4_isPositionIndex cJ4_isPositionIndex 2 (some .boolean)) [.ref a, .int (iZ i)] h (jE (.int (iZ 1)) h) noX := by
  obtain ⟨q0, q1, q2, q3⟩ := hA
  refine Ct.of (own := "java/util/LinkedList") (nm := "isPositionIndex") (by decide +kernel) rfl rfl (L := [some (.ref a), some (.int (iZ i))]) rfl (Nat.le_of_ble_eq_true rfl) rfl ?_
  refine r_iload_n (pc := 0) dJ4_isPositionIndex_0 rfl ?_
  refine r_if_lt (pc := 1) (tgt := 16) dJ4_isPositionIndex_1 (by decide) (by omega) (fun c1 => absurd c1 (by omega)) (fun c1 => ?_)
  refine r_iload_n (pc := 4) dJ4_isPositionIndex_4 rfl ?_
  refine r_aload_n (pc := 5) dJ4_isPositionIndex_5 rfl ?_
  refine gJ4_7 (pc := 6) dJ4_isPositionIndex_6 q1 rfl ?_
  refine r_icmp_gt (pc := 9) (tgt := 16) dJ4_isPositionIndex_9 (by decide) (by omega) (by omega) (fun c9 => absurd c9 (by omega)) (fun c9 => ?_)
  refine r_iconst (pc := 12) dJ4_isPositionIndex_12 ?_
  refine r_goto (pc := 13) (tgt := 17) dJ4_isPositionIndex_13 (by decide) ?_
  exact r_iret (pc := 17) dJ4_isPositionIndex_17 rfl (nB' (by first | (left; rfl) | (right; rfl) | exact bZ_01' _ | omega)) ⟨rfl, rfl⟩
theorem t_J4_checkElementIndex {G : Gl} {h : Hp} {a n : Nat} {t : Tg} {mc : Int32} {nd e : Nat → Nat} (hA : LL t a mc n nd e h) {i : Nat} (hi : i < n) : Ct G 2 0 yJ4_checkElementIndex (Cond.code yJ4_checkElementIndex cJ4_checkElementIndex 2 (none)) [.ref a, .int (iZ i)] h (jN (· = h)) noX := by
  have hA0 := hA
  obtain ⟨q0, q1, q2, q3⟩ := hA0
  refine Ct.of (own := "java/util/LinkedList") (nm := "checkElementIndex") (by decide +kernel) rfl rfl (L := [some (.ref a), some (.int (iZ i))]) rfl (Nat.le_of_ble_eq_true rfl) rfl ?_
  refine r_aload_n (pc := 0) dJ4_checkElementIndex_0 rfl ?_
  refine r_iload_n (pc := 1) dJ4_checkElementIndex_1 rfl ?_
  refine r_callV (pc := 2) (kb' := 0) dJ4_checkElementIndex_2 kJ4_isElementIndex q565 (t_J4_isElementIndex hA (by omega)) q1 rfl (Nat.le_refl _) (Nat.le_of_ble_eq_true rfl) rfl rfl (Nat.le_of_ble_eq_true rfl) (fun _ _ q => q.elim) (fun _ _ hq => ?_)
  refine go_jE hq ?_
  refine r_if_ne (pc := 5) (tgt := 21) dJ4_checkElementIndex_5 (by decide) (by decide) (fun _ => ?_) (fun q => absurd (by decide) q)
  exact r_vret (pc := 21) dJ4_checkElementIndex_21 rfl ⟨rfl, rfl⟩
theorem t_J4_checkPositionIndex {G : Gl} {h : Hp} {a n : Nat} {t : Tg} {mc : Int32} {nd e : Nat → Nat} (hA : LL t a mc n nd e h) {i : Nat} (hi : i ≤ n) : Ct G 2 0 yJ4_checkPositionIndex (Cond.code yJ4_checkPositionIndex cJ4_checkPositionIndex 2 (none)) [.ref a, .int (iZ i)] h (jN (· = h)) noX := by
  have hA0 := hA
  obtain ⟨q0, q1, q2, q3⟩ := hA0
  refine Ct.of (own := "java/util/LinkedList") (nm := "checkPositionIndex") (by decide +kernel) rfl rfl (L := [some (.ref a), some (.int (iZ i))]) rfl (Nat.le_of_ble_eq_true rfl) rfl ?_
  refine r_aload_n (pc := 0) dJ4_checkPositionIndex_0 rfl ?_
  refine r_iload_n (pc := 1) dJ4_checkPositionIndex_1 rfl ?_
  refine r_callV (pc := 2) (kb' := 0) dJ4_checkPositionIndex_2 kJ4_isPositionIndex q1131 (t_J4_isPositionIndex hA (by omega)) q1 rfl (Nat.le_refl _) (Nat.le_of_ble_eq_true rfl) rfl rfl (Nat.le_of_ble_eq_true rfl) (fun _ _ q => q.elim) (fun _ _ hq => ?_)
  refine go_jE hq ?_
  refine r_if_ne (pc := 5) (tgt := 21) dJ4_checkPositionIndex_5 (by decide) (by decide) (fun _ => ?_) (fun q => absurd (by decide) q)
  exact r_vret (pc := 21) dJ4_checkPositionIndex_21 rfl ⟨rfl, rfl⟩
theorem t_J4_node {G : Gl} {h : Hp} {a n : Nat} {t : Tg} {mc : Int32} {nd e : Nat → Nat} (hA : LL t a mc n nd e h) {i : Nat} (hi : i < n) : Ct G 1 0 yJ4_node (Cond.code yJ4_node cJ4_node 4 (some (.object "java/util/LinkedList$Node"))) [.ref a, .int (iZ i)] h (jE (.ref (nd i)) h) noX := by
  obtain ⟨q0, q1, q2, q3⟩ := hA
  refine Ct.of (own := "java/util/LinkedList") (nm := "node") (by decide +kernel) rfl rfl (L := [some (.ref a), some (.int (iZ i)), none, none]) rfl (Nat.le_of_ble_eq_true rfl) rfl ?_
  refine r_iload_n (pc := 0) dJ4_node_0 rfl ?_
  refine r_aload_n (pc := 1) dJ4_node_1 rfl ?_
  refine gJ4_7 (pc := 2) dJ4_node_2 q1 rfl ?_
  refine r_iconst (pc := 5) dJ4_node_5 ?_
  refine r_ishr1 (pc := 6) dJ4_node_6 (by omega) ?_
  refine r_icmp_ge (pc := 7) (tgt := 35) dJ4_node_7 (by decide) (by omega) (by omega) (fun c7 => ?_) (fun c7 => ?_)
  · refine r_aload_n (pc := 35) dJ4_node_35 rfl ?_
    refine gJ4_27 (pc := 36) dJ4_node_36 q1 rfl ?_
    refine go_cv (w := .ref (nd (n - 1))) (rfN_t (by omega)) ?_
    refine r_astore_n (pc := 39) (L' := [_, _, _, _]) dJ4_node_39 rfl ?_
    refine r_aload_n (pc := 40) dJ4_node_40 rfl ?_
    refine gJ4_7 (pc := 41) dJ4_node_41 q1 rfl ?_
    refine r_iconst (pc := 44) dJ4_node_44 ?_
    refine r_isub (pc := 45) dJ4_node_45 ?_
    refine go_cz (w := ((n - 1 : Nat) : Int)) (by omega) ?_
    refine r_istore_n (pc := 46) (L' := [_, _, _, _]) dJ4_node_46 rfl ?_
    have loop47 : ∀ (k47 : Nat) (j : Nat), (i ≤ j) → (j < n) → j - i < k47 → Go G "java/util/LinkedList" cJ4_node (4, some (.object "java/util/LinkedList$Node"), "node", []) 1 0 (jE (.ref (nd i)) h) (noX) 0 h 47 [some (.ref a), some (.int (iZ i)), some (.ref (nd j)), some (.int (iZ j))] [] := by
      intro k47
      induction k47 with
      | zero => intro j hj hj2 hk; omega
      | succ k47 ih47 =>
        intro j hj hj2 hk47
        refine r_iload_n (pc := 47) dJ4_node_47 rfl ?_
        refine r_iload_n (pc := 48) dJ4_node_48 rfl ?_
        refine r_icmp_le (pc := 49) (tgt := 63) dJ4_node_49 (by decide) (by omega) (by omega) (fun c49 => ?_) (fun c49 => ?_)
        · refine r_aload_n (pc := 63) dJ4_node_63 rfl ?_
          exact r_aret (pc := 64) dJ4_node_64 rfl (Or.inl ⟨_, rfl⟩) (Or.inr ⟨_, rfl⟩) ⟨congrArg (fun k => some (Value.ref (nd k))) (by omega), rfl⟩
        · refine r_aload_n (pc := 52) dJ4_node_52 rfl ?_
          refine gJ4_30 (pc := 53) dJ4_node_53 (q2 j (by omega)) rfl ?_
          refine go_cv (w := .ref (nd (j - 1))) (rfN_t (by omega)) ?_
          refine r_astore_n (pc := 56) (L' := [_, _, _, _]) dJ4_node_56 rfl ?_
          refine r_iinc (pc := 57) (L' := [_, _, _, _]) dJ4_node_57 rfl rfl ?_
          refine goL (L' := [some (.ref a), some (.int (iZ i)), some (.ref (nd (j - 1))), some (.int (iZ ((j - 1 : Nat) : Int)))]) ⟨rfl, rfl, rfl, by rw [show ((j : Int) + -1) = ((j - 1 : Nat) : Int) by omega], trivial⟩ ?_
          refine r_goto (pc := 60) (tgt := 47) dJ4_node_60 (by decide) ?_
          exact ih47 (j - 1) (by omega) (by omega) (by omega)
    exact loop47 _ (n - 1) (by omega) (by omega) (Nat.lt_succ_self _)
  · refine r_aload_n (pc := 10) dJ4_node_10 rfl ?_
    refine gJ4_18 (pc := 11) dJ4_node_11 q1 rfl ?_
    refine go_cv (w := .ref (nd 0)) (rfN_t (by omega)) ?_
    refine r_astore_n (pc := 14) (L' := [_, _, _, _]) dJ4_node_14 rfl ?_
    refine r_iconst (pc := 15) dJ4_node_15 ?_
    refine r_istore_n (pc := 16) (L' := [_, _, _, _]) dJ4_node_16 rfl ?_
    have loop17 : ∀ (k17 : Nat) (j : Nat), (j ≤ i) → i - j < k17 → Go G "java/util/LinkedList" cJ4_node (4, some (.object "java/util/LinkedList$Node"), "node", []) 1 0 (jE (.ref (nd i)) h) (noX) 0 h 17 [some (.ref a), some (.int (iZ i)), some (.ref (nd j)), some (.int (iZ j))] [] := by
      intro k17
      induction k17 with
      | zero => intro j hj hk; omega
      | succ k17 ih17 =>
        intro j hj hk17
        refine r_iload_n (pc := 17) dJ4_node_17 rfl ?_
        refine r_iload_n (pc := 18) dJ4_node_18 rfl ?_
        refine r_icmp_ge (pc := 19) (tgt := 33) dJ4_node_19 (by decide) (by omega) (by omega) (fun c19 => ?_) (fun c19 => ?_)
        · refine r_aload_n (pc := 33) dJ4_node_33 rfl ?_
          exact r_aret (pc := 34) dJ4_node_34 rfl (Or.inl ⟨_, rfl⟩) (Or.inr ⟨_, rfl⟩) ⟨congrArg (fun k => some (Value.ref (nd k))) (by omega), rfl⟩
        · refine r_aload_n (pc := 22) dJ4_node_22 rfl ?_
          refine gJ4_36 (pc := 23) dJ4_node_23 (q2 j (by omega)) rfl ?_
          refine go_cv (w := .ref (nd (j + 1))) (rfN_t (by omega)) ?_
          refine r_astore_n (pc := 26) (L' := [_, _, _, _]) dJ4_node_26 rfl ?_
          refine r_iinc (pc := 27) (L' := [_, _, _, _]) dJ4_node_27 rfl rfl ?_
          refine r_goto (pc := 30) (tgt := 17) dJ4_node_30 (by decide) ?_
          exact ih17 (j + 1) (by omega) (by omega)
    exact loop17 _ 0 (by omega) (Nat.lt_succ_self _)
theorem t_J4_get {G : Gl} {h : Hp} {a n : Nat} {t : Tg} {mc : Int32} {nd e : Nat → Nat} (hA : LL t a mc n nd e h) {i : Nat} (hi : i < n) : Ct G 3 0 yJ4_get (Cond.code yJ4_get cJ4_get 2 (some (.object "java/lang/Object"))) [.ref a, .int (iZ i)] h (jE (.ref (e i)) h) noX := by
  have hA0 := hA
  obtain ⟨q0, q1, q2, q3⟩ := hA0
  refine Ct.of (own := "java/util/LinkedList") (nm := "get") (by decide +kernel) rfl rfl (L := [some (.ref a), some (.int (iZ i))]) rfl (Nat.le_of_ble_eq_true rfl) rfl ?_
  refine r_aload_n (pc := 0) dJ4_get_0 rfl ?_
  refine r_iload_n (pc := 1) dJ4_get_1 rfl ?_
  refine r_callV (pc := 2) (kb' := 0) dJ4_get_2 kJ4_checkElementIndex q561 (t_J4_checkElementIndex hA hi) q1 rfl (Nat.le_refl _) (Nat.le_of_ble_eq_true rfl) rfl rfl (Nat.le_of_ble_eq_true rfl) (fun _ _ q => q.elim) (fun _ h hq => ?_)
  refine go_jN hq (fun e => ?_)
  subst e
  refine r_aload_n (pc := 5) dJ4_get_5 rfl ?_
  refine r_iload_n (pc := 6) dJ4_get_6 rfl ?_
  refine r_callV (pc := 7) (kb' := 0) dJ4_get_7 kJ4_node q877 (t_J4_node hA hi) q1 rfl (Nat.le_refl _) (Nat.le_of_ble_eq_true rfl) rfl rfl (Nat.le_of_ble_eq_true rfl) (fun _ _ q => q.elim) (fun _ _ hq => ?_)
  refine go_jE hq ?_
  refine gJ4_39 (pc := 10) dJ4_get_10 (q2 i hi) rfl ?_
  exact r_aret (pc := 13) dJ4_get_13 rfl (Or.inl ⟨_, rfl⟩) (Or.inr ⟨_, rfl⟩) ⟨rfl, rfl⟩
theorem t_J32_initN {G : Gl} {h : Hp} {q o : Nat} {t : Tg} (hq : h q = some (t, ob 12 [.null, .null, .null])) (ht : t ≠ frz) : Ct G 1 0 yJ32_init (Cond.code yJ32_init cJ32_init 4 (none)) [.ref q, .null, .ref o, .null] h (jN (· = up h q (t, ob 12 [.ref o, .null, .null]))) noX := by
  have hp := PW.one hq
  refine Ct.of (own := "java/util/LinkedList$Node") (nm := "<init>") (by decide +kernel) rfl rfl (L := [some (.ref q), some (.null), some (.ref o), some (.null)]) rfl (Nat.le_of_ble_eq_true rfl) rfl ?_
  refine r_aload_n (pc := 0) dJ32_init_0 rfl ?_
  refine r_objInit (pc := 1) dJ32_init_1 q1471 q169 q170 (by decide) (Nat.le_of_ble_eq_true rfl) ?_
  refine r_aload_n (pc := 4) dJ32_init_4 rfl ?_
  refine r_aload_n (pc := 5) dJ32_init_5 rfl ?_
  refine pJ32_7 (pc := 6) dJ32_init_6 rfl rfl rfl (hp.at 0 rfl) ht (Nat.le_of_ble_eq_true rfl) ?_
  refine go_pw (hp.put 0 rfl) (fun h hp => ?_)
  refine r_aload_n (pc := 9) dJ32_init_9 rfl ?_
  refine r_aload_nN (pc := 10) dJ32_init_10 rfl ?_
  refine pJ32_13 (pc := 11) dJ32_init_11 rfl rfl rfl (hp.at 0 rfl) ht (Nat.le_of_ble_eq_true rfl) ?_
  refine go_pw (hp.put 0 rfl) (fun h hp => ?_)
  refine r_aload_n (pc := 14) dJ32_init_14 rfl ?_
  refine r_aload_nN (pc := 15) dJ32_init_15 rfl ?_
  refine pJ32_17 (pc := 16) dJ32_init_16 rfl rfl rfl (hp.at 0 rfl) ht (Nat.le_of_ble_eq_true rfl) ?_
  refine go_pw (hp.put 0 rfl) (fun h hp => ?_)
  exact r_vret (pc := 19) dJ32_init_19 rfl ⟨rfl, hp.eq1⟩
theorem t_J32_initR {G : Gl} {h : Hp} {q o p : Nat} {t : Tg} (hq : h q = some (t, ob 12 [.null, .null, .null])) (ht : t ≠ frz) : Ct G 1 0 yJ32_init (Cond.code yJ32_init cJ32_init 4 (none)) [.ref q, .ref p, .ref o, .null] h (jN (· = up h q (t, ob 12 [.ref o, .null, .ref p]))) noX := by
  have hp := PW.one hq
  refine Ct.of (own := "java/util/LinkedList$Node") (nm := "<init>") (by decide +kernel) rfl rfl (L := [some (.ref q), some (.ref p), some (.ref o), some (.null)]) rfl (Nat.le_of_ble_eq_true rfl) rfl ?_
  refine r_aload_n (pc := 0) dJ32_init_0 rfl ?_
  refine r_objInit (pc := 1) dJ32_init_1 q1471 q169 q170 (by decide) (Nat.le_of_ble_eq_true rfl) ?_
  refine r_aload_n (pc := 4) dJ32_init_4 rfl ?_
  refine r_aload_n (pc := 5) dJ32_init_5 rfl ?_
  refine pJ32_7 (pc := 6) dJ32_init_6 rfl rfl rfl (hp.at 0 rfl) ht (Nat.le_of_ble_eq_true rfl) ?_
  refine go_pw (hp.put 0 rfl) (fun h hp => ?_)
  refine r_aload_n (pc := 9) dJ32_init_9 rfl ?_
  refine r_aload_nN (pc := 10) dJ32_init_10 rfl ?_
  refine pJ32_13 (pc := 11) dJ32_init_11 rfl rfl rfl (hp.at 0 rfl) ht (Nat.le_of_ble_eq_true rfl) ?_
  refine go_pw (hp.put 0 rfl) (fun h hp => ?_)
  refine r_aload_n (pc := 14) dJ32_init_14 rfl ?_
  refine r_aload_n (pc := 15) dJ32_init_15 rfl ?_
  refine pJ32_17 (pc := 16) dJ32_init_16 rfl rfl rfl (hp.at 0 rfl) ht (Nat.le_of_ble_eq_true rfl) ?_
  refine go_pw (hp.put 0 rfl) (fun h hp => ?_)
  exact r_vret (pc := 19) dJ32_init_19 rfl ⟨rfl, hp.eq1⟩
theorem t_J4_linkLast {G : Gl} {h : Hp} {a n : Nat} {t : Tg} {mc : Int32} {nd e : Nat → Nat} (hA : LL t a mc n nd e h) {o : Nat} (ht : t ≠ frz) (hn : n < 100) : Ct G 2 4 yJ4_linkLast (Cond.code yJ4_linkLast cJ4_linkLast 4 (none)) [.ref a, .ref o] h (jN (fun h' => ∃ q, h q = none ∧ LL t a (mc + 1) (n + 1) (adF nd n q) (adF e n o) h' ∧ Fr (fun x => x = t) h h')) noX := by
  have hA0 := hA
  obtain ⟨q0, q1, q2, q3⟩ := hA0
  rcases Nat.eq_zero_or_pos n with hz | hz
  · rw [rfN_f (by omega), rfN_f (by omega)] at q1
    have hp := PW.one q1
    refine Ct.of (own := "java/util/LinkedList") (nm := "linkLast") (by decide +kernel) rfl rfl (L := [some (.ref a), some (.ref o), none, none]) rfl (Nat.le_of_ble_eq_true rfl) rfl ?_
    refine r_aload_n (pc := 0) dJ4_linkLast_0 rfl ?_
    refine gJ4_27 (pc := 1) dJ4_linkLast_1 (hp.at 0 rfl) rfl ?_
    refine r_astore_nN (pc := 4) (L' := [_, _, _, _]) dJ4_linkLast_4 rfl ?_
    refine r_new (pc := 5) (ci := 12) (T := TJ32) (N := 3) (t) [.null, .null, .null] (kb' := 0) dJ4_linkLast_5 rfl q1466 q1467 q145 (by intro j hj; revert j; decide +kernel) (Nat.le_of_ble_eq_true rfl) (fun w hw zw => ?_)
    refine go_pw (hp.new hw _) (fun h hp => ?_)
    refine r_dup (pc := 8) dJ4_linkLast_8 rfl ?_
    refine r_aload_nN (pc := 9) dJ4_linkLast_9 rfl ?_
    refine r_aload_n (pc := 10) dJ4_linkLast_10 rfl ?_
    refine r_null (pc := 11) dJ4_linkLast_11 ?_
    refine r_callI (pc := 12) (kb' := 0) dJ4_linkLast_12 kJ32_init q1468 (t_J32_initN (hp.at 1 rfl) ht) (Nat.le_refl _) (Nat.le_of_ble_eq_true rfl) rfl rfl (Nat.le_of_ble_eq_true rfl) (fun _ _ q => q.elim) (fun _ h hq => ?_)
    refine go_jN hq (fun e => ?_)
    subst e
    refine go_pw (hp.put 1 rfl) (fun h hp => ?_)
    refine r_astore_n (pc := 15) (L' := [_, _, _, _]) dJ4_linkLast_15 rfl ?_
    refine r_aload_n (pc := 16) dJ4_linkLast_16 rfl ?_
    refine r_aload_n (pc := 17) dJ4_linkLast_17 rfl ?_
    refine pJ4_27 (pc := 18) dJ4_linkLast_18 rfl rfl rfl (hp.at 0 rfl) ht (Nat.le_of_ble_eq_true rfl) ?_
    refine go_pw (hp.put 0 rfl) (fun h hp => ?_)
    refine r_aload_nN (pc := 21) dJ4_linkLast_21 rfl ?_
    refine r_ifnonnullN (pc := 22) dJ4_linkLast_22 ?_
    refine r_aload_n (pc := 25) dJ4_linkLast_25 rfl ?_
    refine r_aload_n (pc := 26) dJ4_linkLast_26 rfl ?_
    refine pJ4_18 (pc := 27) dJ4_linkLast_27 rfl rfl rfl (hp.at 0 rfl) ht (Nat.le_of_ble_eq_true rfl) ?_
    refine go_pw (hp.put 0 rfl) (fun h hp => ?_)
    refine r_goto (pc := 30) (tgt := 38) dJ4_linkLast_30 (by decide) ?_
    refine r_aload_n (pc := 38) dJ4_linkLast_38 rfl ?_
    refine r_dup (pc := 39) dJ4_linkLast_39 rfl ?_
    refine gJ4_7 (pc := 40) dJ4_linkLast_40 (hp.at 0 rfl) rfl ?_
    refine r_iconst (pc := 43) dJ4_linkLast_43 ?_
    refine r_iadd (pc := 44) dJ4_linkLast_44 ?_
    refine pJ4_7 (pc := 45) dJ4_linkLast_45 (hp.at 0 rfl) ht (Nat.le_of_ble_eq_true rfl) ?_
    refine go_pw (hp.put 0 rfl) (fun h hp => ?_)
    refine r_aload_n (pc := 48) dJ4_linkLast_48 rfl ?_
    refine r_dup (pc := 49) dJ4_linkLast_49 rfl ?_
    refine gJ4_33_10 (pc := 50) dJ4_linkLast_50 (hp.at 0 rfl) rfl ?_
    refine r_iconst (pc := 53) dJ4_linkLast_53 ?_
    refine q_iadd (pc := 54) dJ4_linkLast_54 ?_
    refine pJ4_33_10 (pc := 55) dJ4_linkLast_55 (hp.at 0 rfl) ht (Nat.le_of_ble_eq_true rfl) ?_
    refine go_pw (hp.put 0 rfl) (fun h hp => ?_)
    exact r_vret (pc := 58) dJ4_linkLast_58 rfl ⟨rfl, w, hw, LL.add hA hn hw (hdE (hp.at 0 rfl) rfl (by rw [if_pos hz]) rfl) (ndE (hp.at 1 rfl) rfl rfl (rfN_f (by omega)).symm) (fun i hi => absurd hi (by omega)) (fun i hi => absurd hi (by omega)), hp.fr ⟨FA.t q1, Or.inl hw, trivial⟩⟩
  · rw [rfN_t (by omega), rfN_t (by omega)] at q1
    have x1 := q2 (n - 1) (by omega)
    have hp := PW.two q1 x1 (hA.ane (by omega))
    refine Ct.of (own := "java/util/LinkedList") (nm := "linkLast") (by decide +kernel) rfl rfl (L := [some (.ref a), some (.ref o), none, none]) rfl (Nat.le_of_ble_eq_true rfl) rfl ?_
    refine r_aload_n (pc := 0) dJ4_linkLast_0 rfl ?_
    refine gJ4_27 (pc := 1) dJ4_linkLast_1 (hp.at 0 rfl) rfl ?_
    refine r_astore_n (pc := 4) (L' := [_, _, _, _]) dJ4_linkLast_4 rfl ?_
    refine r_new (pc := 5) (ci := 12) (T := TJ32) (N := 3) (t) [.null, .null, .null] (kb' := 0) dJ4_linkLast_5 rfl q1466 q1467 q145 (by intro j hj; revert j; decide +kernel) (Nat.le_of_ble_eq_true rfl) (fun w hw zw => ?_)
    refine go_pw (hp.new hw _) (fun h hp => ?_)
    refine r_dup (pc := 8) dJ4_linkLast_8 rfl ?_
    refine r_aload_n (pc := 9) dJ4_linkLast_9 rfl ?_
    refine r_aload_n (pc := 10) dJ4_linkLast_10 rfl ?_
    refine r_null (pc := 11) dJ4_linkLast_11 ?_
    refine r_callI (pc := 12) (kb' := 0) dJ4_linkLast_12 kJ32_init q1468 (t_J32_initR (hp.at 2 rfl) ht) (Nat.le_refl _) (Nat.le_of_ble_eq_true rfl) rfl rfl (Nat.le_of_ble_eq_true rfl) (fun _ _ q => q.elim) (fun _ h hq => ?_)
    refine go_jN hq (fun e => ?_)
    subst e
    refine go_pw (hp.put 2 rfl) (fun h hp => ?_)
    refine r_astore_n (pc := 15) (L' := [_, _, _, _]) dJ4_linkLast_15 rfl ?_
    refine r_aload_n (pc := 16) dJ4_linkLast_16 rfl ?_
    refine r_aload_n (pc := 17) dJ4_linkLast_17 rfl ?_
    refine pJ4_27 (pc := 18) dJ4_linkLast_18 rfl rfl rfl (hp.at 0 rfl) ht (Nat.le_of_ble_eq_true rfl) ?_
    refine go_pw (hp.put 0 rfl) (fun h hp => ?_)
    refine r_aload_n (pc := 21) dJ4_linkLast_21 rfl ?_
    refine r_ifnonnull (pc := 22) (tgt := 33) dJ4_linkLast_22 (by decide) ?_
    refine r_aload_n (pc := 33) dJ4_linkLast_33 rfl ?_
    refine r_aload_n (pc := 34) dJ4_linkLast_34 rfl ?_
    refine pJ4_36 (pc := 35) dJ4_linkLast_35 rfl rfl rfl (hp.at 1 rfl) ht (Nat.le_of_ble_eq_true rfl) ?_
    refine go_pw (hp.put 1 rfl) (fun h hp => ?_)
    refine r_aload_n (pc := 38) dJ4_linkLast_38 rfl ?_
    refine r_dup (pc := 39) dJ4_linkLast_39 rfl ?_
    refine gJ4_7 (pc := 40) dJ4_linkLast_40 (hp.at 0 rfl) rfl ?_
    refine r_iconst (pc := 43) dJ4_linkLast_43 ?_
    refine r_iadd (pc := 44) dJ4_linkLast_44 ?_
    refine pJ4_7 (pc := 45) dJ4_linkLast_45 (hp.at 0 rfl) ht (Nat.le_of_ble_eq_true rfl) ?_
    refine go_pw (hp.put 0 rfl) (fun h hp => ?_)
    refine r_aload_n (pc := 48) dJ4_linkLast_48 rfl ?_
    refine r_dup (pc := 49) dJ4_linkLast_49 rfl ?_
    refine gJ4_33_10 (pc := 50) dJ4_linkLast_50 (hp.at 0 rfl) rfl ?_
    refine r_iconst (pc := 53) dJ4_linkLast_53 ?_
    refine q_iadd (pc := 54) dJ4_linkLast_54 ?_
    refine pJ4_33_10 (pc := 55) dJ4_linkLast_55 (hp.at 0 rfl) ht (Nat.le_of_ble_eq_true rfl) ?_
    refine go_pw (hp.put 0 rfl) (fun h hp => ?_)
    exact r_vret (pc := 58) dJ4_linkLast_58 rfl ⟨rfl, w, hw, LL.add hA hn hw (hdE (hp.at 0 rfl) rfl (by rw [if_neg (by omega)]) rfl) (ndE (hp.at 2 rfl) rfl rfl (rfN_r (by omega) rfl).symm) (fun i hi h9 => hp.ot ⟨hA.ane hi, hA.nne (by omega) hi (by omega), fun e9 => (ne_nw (q2 i hi) hw) e9.symm, trivial⟩) (fun i hi => by
        obtain rfl : i = n - 1 := by omega
        exact ndE (hp.at 1 rfl) rfl rfl rfl), hp.fr ⟨FA.t q1, FA.t x1, Or.inl hw, trivial⟩⟩
theorem t_J4_addLast {G : Gl} {h : Hp} {a n : Nat} {t : Tg} {mc : Int32} {nd e : Nat → Nat} (hA : LL t a mc n nd e h) {o : Nat} (ht : t ≠ frz) (hn : n < 100) : Ct G 3 4 yJ4_addLast (Cond.code yJ4_addLast cJ4_addLast 2 (none)) [.ref a, .ref o] h (jN (fun h' => ∃ q, h q = none ∧ LL t a (mc + 1) (n + 1) (adF nd n q) (adF e n o) h' ∧ Fr (fun x => x = t) h h')) noX := by
  have hA0 := hA
  obtain ⟨q0, q1, q2, q3⟩ := hA0
  refine Ct.of (own := "java/util/LinkedList") (nm := "addLast") (by decide +kernel) rfl rfl (L := [some (.ref a), some (.ref o)]) rfl (Nat.le_of_ble_eq_true rfl) rfl ?_
  refine r_aload_n (pc := 0) dJ4_addLast_0 rfl ?_
  refine r_aload_n (pc := 1) dJ4_addLast_1 rfl ?_
  refine r_callV (pc := 2) (kb' := 0) dJ4_addLast_2 kJ4_linkLast q1462 (t_J4_linkLast hA ht hn) q1 rfl (Nat.le_of_ble_eq_true rfl) (Nat.le_of_ble_eq_true rfl) rfl rfl (Nat.le_of_ble_eq_true rfl) (fun _ _ q => q.elim) (fun _ h hq => ?_)
  refine go_jN hq (fun hq => ?_)
  exact r_vret (pc := 5) dJ4_addLast_5 rfl ⟨rfl, hq⟩
theorem t_J4_indexOf {G : Gl} {h : Hp} {a n : Nat} {t : Tg} {mc : Int32} {nd e : Nat → Nat} (hA : LL t a mc n nd e h) {o : Nat} {to : Tg} {fs : List Value} (ho : h o = some (to, ob 4 fs)) : Ct G 2 0 yJ4_indexOf (Cond.code yJ4_indexOf cJ4_indexOf 4 (some .int)) [.ref a, .ref o] h (jE (.int (iZ (fnd n (fun i => e i.toNat = o)))) h) noX := by
  have hA0 := hA
  obtain ⟨q0, q1, q2, q3⟩ := hA0
  refine Ct.of (own := "java/util/LinkedList") (nm := "indexOf") (by decide +kernel) rfl rfl (L := [some (.ref a), some (.ref o), none, none]) rfl (Nat.le_of_ble_eq_true rfl) rfl ?_
  refine r_iconst (pc := 0) dJ4_indexOf_0 ?_
  refine r_istore_n (pc := 1) (L' := [_, _, _, _]) dJ4_indexOf_1 rfl ?_
  refine r_aload_n (pc := 2) dJ4_indexOf_2 rfl ?_
  refine r_ifnonnull (pc := 3) (tgt := 38) dJ4_indexOf_3 (by decide) ?_
  refine r_aload_n (pc := 38) dJ4_indexOf_38 rfl ?_
  refine gJ4_18 (pc := 39) dJ4_indexOf_39 q1 rfl ?_
  refine r_astore_nV (pc := 42) (L' := [_, _, _, _]) dJ4_indexOf_42 rfN_rn rfl ?_
  have loop43 : ∀ (k43 : Nat) (k : Nat), (k ≤ n) → (fnd n (fun i => e i.toNat = o) = fndZ (fun i => e i.toNat = o) k ((n : Int) - k).toNat) → n - k < k43 → Go G "java/util/LinkedList" cJ4_indexOf (4, some .int, "indexOf", []) 2 0 (jE (.int (iZ (fnd n (fun i => e i.toNat = o)))) h) (noX) 0 h 43 [some (.ref a), some (.ref o), some (.int (iZ k)), some (rfN (k < n) (nd k))] [] := by
    intro k43
    induction k43 with
    | zero => intro k hk hz hk; omega
    | succ k43 ih43 =>
      intro k hk hz hk43
      by_cases hlt : k < n
      · rw [rfN_t hlt]
        refine r_aload_n (pc := 43) dJ4_indexOf_43 rfl ?_
        refine r_ifnull (pc := 44) dJ4_indexOf_44 ?_
        refine r_aload_n (pc := 47) dJ4_indexOf_47 rfl ?_
        refine r_aload_n (pc := 48) dJ4_indexOf_48 rfl ?_
        refine gJ4_39 (pc := 49) dJ4_indexOf_49 (q2 k hlt) rfl ?_
        refine r_callG (pc := 52) (kb' := 0) dJ4_indexOf_52 cuJ4_67_4 (t_J45_equals ) ho rfl (Nat.le_refl _) (Nat.le_of_ble_eq_true rfl) rfl rfl (Nat.le_of_ble_eq_true rfl) (fun _ _ q => q.elim) (fun _ _ hq => ?_)
        refine go_jE hq ?_
        refine r_ifB_eq (pc := 55) (tgt := 60) dJ4_indexOf_55 (by decide) (fun c55 => ?_) (fun c55 => ?_)
        · refine r_iinc (pc := 60) (L' := [_, _, _, _]) dJ4_indexOf_60 rfl rfl ?_
          refine r_aload_n (pc := 63) dJ4_indexOf_63 rfl ?_
          refine gJ4_36 (pc := 64) dJ4_indexOf_64 (q2 k hlt) rfl ?_
          refine r_astore_nV (pc := 67) (L' := [_, _, _, _]) dJ4_indexOf_67 rfN_rn rfl ?_
          refine r_goto (pc := 68) (tgt := 43) dJ4_indexOf_68 (by decide) ?_
          exact ih43 (k + 1) (by omega) (by rw [hz, fnd_s (by omega), if_neg (fun q => c55 (by rw [← q]; rfl))]; rfl) (by omega)
        · refine r_iload_n (pc := 58) dJ4_indexOf_58 rfl ?_
          exact r_iret (pc := 59) dJ4_indexOf_59 rfl rfl ⟨by rw [hz, fnd_s (by omega), if_pos (show e ((k : Int)).toNat = o from (by assumption : o = e k).symm)], rfl⟩
      · rw [rfN_f hlt]
        refine r_aload_nN (pc := 43) dJ4_indexOf_43 rfl ?_
        refine r_ifnullN (pc := 44) (tgt := 71) dJ4_indexOf_44 (by decide) ?_
        refine r_iconst (pc := 71) dJ4_indexOf_71 ?_
        exact r_iret (pc := 72) dJ4_indexOf_72 rfl rfl ⟨by rw [hz, fnd_e (by omega)], rfl⟩
  exact loop43 _ 0 (by omega) (by rw [show ((0 : Nat) : Int) = 0 from rfl, Int.sub_zero]; rfl) (Nat.lt_succ_self _)
theorem t_J4_indexOfS {G : Gl} {h : Hp} {a n : Nat} {t : Tg} {mc : Int32} {nd e : Nat → Nat} (hA : LL t a mc n nd e h) {o : Nat} {to : Tg} {fs : List Value} (ho : h o = some (to, ob 5 fs)) : Ct G 2 0 yJ4_indexOf (Cond.code yJ4_indexOf cJ4_indexOf 4 (some .int)) [.ref a, .ref o] h (jE (.int (iZ (fnd n (fun i => e i.toNat = o)))) h) noX := by
  have hA0 := hA
  obtain ⟨q0, q1, q2, q3⟩ := hA0
  refine Ct.of (own := "java/util/LinkedList") (nm := "indexOf") (by decide +kernel) rfl rfl (L := [some (.ref a), some (.ref o), none, none]) rfl (Nat.le_of_ble_eq_true rfl) rfl ?_
  refine r_iconst (pc := 0) dJ4_indexOf_0 ?_
  refine r_istore_n (pc := 1) (L' := [_, _, _, _]) dJ4_indexOf_1 rfl ?_
  refine r_aload_n (pc := 2) dJ4_indexOf_2 rfl ?_
  refine r_ifnonnull (pc := 3) (tgt := 38) dJ4_indexOf_3 (by decide) ?_
  refine r_aload_n (pc := 38) dJ4_indexOf_38 rfl ?_
  refine gJ4_18 (pc := 39) dJ4_indexOf_39 q1 rfl ?_
  refine r_astore_nV (pc := 42) (L' := [_, _, _, _]) dJ4_indexOf_42 rfN_rn rfl ?_
  have loop43 : ∀ (k43 : Nat) (k : Nat), (k ≤ n) → (fnd n (fun i => e i.toNat = o) = fndZ (fun i => e i.toNat = o) k ((n : Int) - k).toNat) → n - k < k43 → Go G "java/util/LinkedList" cJ4_indexOf (4, some .int, "indexOf", []) 2 0 (jE (.int (iZ (fnd n (fun i => e i.toNat = o)))) h) (noX) 0 h 43 [some (.ref a), some (.ref o), some (.int (iZ k)), some (rfN (k < n) (nd k))] [] := by
    intro k43
    induction k43 with
    | zero => intro k hk hz hk; omega
    | succ k43 ih43 =>
      intro k hk hz hk43
      by_cases hlt : k < n
      · rw [rfN_t hlt]
        refine r_aload_n (pc := 43) dJ4_indexOf_43 rfl ?_
        refine r_ifnull (pc := 44) dJ4_indexOf_44 ?_
        refine r_aload_n (pc := 47) dJ4_indexOf_47 rfl ?_
        refine r_aload_n (pc := 48) dJ4_indexOf_48 rfl ?_
        refine gJ4_39 (pc := 49) dJ4_indexOf_49 (q2 k hlt) rfl ?_
        refine r_callG (pc := 52) (kb' := 0) dJ4_indexOf_52 cuJ4_67_5 (t_J45_equals ) ho rfl (Nat.le_refl _) (Nat.le_of_ble_eq_true rfl) rfl rfl (Nat.le_of_ble_eq_true rfl) (fun _ _ q => q.elim) (fun _ _ hq => ?_)
        refine go_jE hq ?_
        refine r_ifB_eq (pc := 55) (tgt := 60) dJ4_indexOf_55 (by decide) (fun c55 => ?_) (fun c55 => ?_)
        · refine r_iinc (pc := 60) (L' := [_, _, _, _]) dJ4_indexOf_60 rfl rfl ?_
          refine r_aload_n (pc := 63) dJ4_indexOf_63 rfl ?_
          refine gJ4_36 (pc := 64) dJ4_indexOf_64 (q2 k hlt) rfl ?_
          refine r_astore_nV (pc := 67) (L' := [_, _, _, _]) dJ4_indexOf_67 rfN_rn rfl ?_
          refine r_goto (pc := 68) (tgt := 43) dJ4_indexOf_68 (by decide) ?_
          exact ih43 (k + 1) (by omega) (by rw [hz, fnd_s (by omega), if_neg (fun q => c55 (by rw [← q]; rfl))]; rfl) (by omega)
        · refine r_iload_n (pc := 58) dJ4_indexOf_58 rfl ?_
          exact r_iret (pc := 59) dJ4_indexOf_59 rfl rfl ⟨by rw [hz, fnd_s (by omega), if_pos (show e ((k : Int)).toNat = o from (by assumption : o = e k).symm)], rfl⟩
      · rw [rfN_f hlt]
        refine r_aload_nN (pc := 43) dJ4_indexOf_43 rfl ?_
        refine r_ifnullN (pc := 44) (tgt := 71) dJ4_indexOf_44 (by decide) ?_
        refine r_iconst (pc := 71) dJ4_indexOf_71 ?_
        exact r_iret (pc := 72) dJ4_indexOf_72 rfl rfl ⟨by rw [hz, fnd_e (by omega)], rfl⟩
  exact loop43 _ 0 (by omega) (by rw [show ((0 : Nat) : Int) = 0 from rfl, Int.sub_zero]; rfl) (Nat.lt_succ_self _)
