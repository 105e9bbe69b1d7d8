set_option maxRecDepth 100000
/-! JDK, part 1: small statics, ArrayList and its iterator -/
def rfN (p : Prop) [Decidable p] (x : Nat) : Value := if p then .ref x else .null
theorem rfN_t {p : Prop} [Decidable p] {x : Nat} (h : p) : rfN p x = .ref x := if_pos h
theorem rfN_f {p : Prop} [Decidable p] {x : Nat} (h : ¬ p) : rfN p x = .null := if_neg h
theorem rfN_rn {p : Prop} [Decidable p] {x : Nat} : rfN p x = .null ∨ ∃ y, rfN p x = .ref y := by
  by_cases h : p
  · exact Or.inr ⟨x, if_pos h⟩
  · exact Or.inl (if_neg h)
theorem rfN_nf {p : Prop} [Decidable p] {x : Nat} {C : String} : narrow (.object C) (rfN p x) = rfN p x ∧ fits (.object C) (rfN p x) = true := by
  by_cases h : p
  · rw [rfN_t h]; exact ⟨rfl, rfl⟩
  · rw [rfN_f h]; exact ⟨rfl, rfl⟩
section AV
variable {G : Gl} {own : String} {cc : ByteArray} {Y : Mt} {d mc : Nat} {Qr : Option Value → Hp → Prop} {Qx : String → Hp → Prop} {kb : Nat} {h : Hp} {pc : Nat} {L : List (Option Value)} {st : List Value}
theorem r_astore_nV {k : Fin 4} {v : Value} {L' : List (Option Value)} (hd : decode cc pc = .ok (.astore_n k, 1)) (hv : v = .null ∨ ∃ y, v = .ref y) (hs : stL L (k : Nat) v = some L') (kk : Go G own cc Y d mc Qr Qx kb h (pc + 1) L' st) : Go G own cc Y d mc Qr Qx kb h pc L (v :: st) := by
  rcases hv with rfl | ⟨y, rfl⟩
  · exact r_astore_nN hd hs kk
  · exact r_astore_n hd hs kk
theorem r_astoreV {k : Nat} {v : Value} {L' : List (Option Value)} (hd : decode cc pc = .ok (.astore k, 2)) (hv : v = .null ∨ ∃ y, v = .ref y) (hs : stL L k v = some L') (kk : Go G own cc Y d mc Qr Qx kb h (pc + 2) L' st) : Go G own cc Y d mc Qr Qx kb h pc L (v :: st) := by
  rcases hv with rfl | ⟨y, rfl⟩
  · exact r_astoreN hd hs kk
  · exact r_astore hd hs kk
theorem r_aload_nV {k : Fin 4} {v : Value} (hd : decode cc pc = .ok (.aload_n k, 1)) (hv : v = .null ∨ ∃ y, v = .ref y) (hl : L[(k : Nat)]? = some (some v)) (kk : Go G own cc Y d mc Qr Qx kb h (pc + 1) L (v :: st)) : Go G own cc Y d mc Qr Qx kb h pc L st := by
  rcases hv with rfl | ⟨y, rfl⟩
  · exact r_aload_nN hd hl kk
  · exact r_aload_n hd hl kk
end AV
/-- an ArrayList at a with tag t: n things, e of them -/
def AL (G : Gl) (t : Tg) (a : Nat) (mc : Int32) (n : Nat) (e : Nat → Nat) (h : Hp) : Prop :=
  ∃ (ar cap : Nat) (t2 : Tg) (f : Nat → Option Nat), h a = some (t, ob 8 [.int mc, .ref ar, .int (iZ n)]) ∧ h ar = some (t2, aQ "java/lang/Object" cap f) ∧ (n ≤ cap ∧ n ≤ 12) ∧ (∀ i, i < n → f i = some (e i)) ∧ ((t2 = t ∧ (cap = 10 ∨ cap = 15)) ∨ (t2 = frz ∧ cap = 0 ∧ ar = gS G 0))
theorem AL.fr {G : Gl} {t : Tg} {a : Nat} {mc : Int32} {n : Nat} {e : Nat → Nat} {h h' : Hp} {P : Tg → Prop} (hA : AL G t a mc n e h) (hf : Fr P h h') (h1 : ¬ P t) (h2 : ¬ P frz) : AL G t a mc n e h' := by
  obtain ⟨ar, cap, t2, f, q1, q2, q3, q4, q5⟩ := hA
  refine ⟨ar, cap, t2, f, hf.get q1 h1, hf.get q2 ?_, q3, q4, q5⟩
  rcases q5 with ⟨rfl, _⟩ | ⟨rfl, _⟩
  · exact h1
  · exact h2
theorem AL.cg {G : Gl} {t : Tg} {a : Nat} {mc : Int32} {n : Nat} {e e' : Nat → Nat} {h : Hp} (hA : AL G t a mc n e h) (he : ∀ i, i < n → e' i = e i) : AL G t a mc n e' h := by
  obtain ⟨ar, cap, t2, f, q1, q2, q3, q4, q5⟩ := hA
  exact ⟨ar, cap, t2, f, q1, q2, q3, fun i hi => by rw [he i hi]; exact q4 i hi, q5⟩
theorem AL.n12 {G : Gl} {t : Tg} {a : Nat} {mc : Int32} {n : Nat} {e : Nat → Nat} {h : Hp} (hA : AL G t a mc n e h) : n ≤ 12 := by
  obtain ⟨ar, cap, t2, f, q1, q2, q3, q4, q5⟩ := hA
  exact q3.2

theorem t_J16_checkIndex {G : Gl} {h : Hp} {i n : Int} {x : Nat} (h0 : 0 ≤ i) (h1 : i < n) (h2 : n < 2147483648) : Ct G 1 0 yJ16_checkIndex (Cond.code yJ16_checkIndex cJ16_checkIndex 3 (some .int)) [.int (iZ i), .int (iZ n), vRN x] h (jE (.int (iZ i)) h) noX := by
  cases x with
  | zero =>
    refine Ct.of (own := "jdk/internal/util/Preconditions") (nm := "checkIndex") (by decide +kernel) rfl rfl (L := [some (.int (iZ i)), some (.int (iZ n)), some (vRN 0)]) rfl (Nat.le_of_ble_eq_true rfl) rfl ?_
    refine r_iload_n (pc := 0) dJ16_checkIndex_0 rfl ?_
    refine r_if_lt (pc := 1) (tgt := 9) dJ16_checkIndex_1 (by decide) (by omega) (fun c1 => absurd c1 (by omega)) (fun c1 => ?_)
    refine r_iload_n (pc := 4) dJ16_checkIndex_4 rfl ?_
    refine r_iload_n (pc := 5) dJ16_checkIndex_5 rfl ?_
    refine r_icmp_lt (pc := 6) (tgt := 16) dJ16_checkIndex_6 (by decide) (by omega) (by omega) (fun c6 => ?_) (fun c6 => absurd (by omega) c6)
    refine r_iload_n (pc := 16) dJ16_checkIndex_16 rfl ?_
    exact r_iret (pc := 17) dJ16_checkIndex_17 rfl rfl ⟨rfl, rfl⟩
  | succ x =>
    refine Ct.of (own := "jdk/internal/util/Preconditions") (nm := "checkIndex") (by decide +kernel) rfl rfl (L := [some (.int (iZ i)), some (.int (iZ n)), some (vRN (x + 1))]) rfl (Nat.le_of_ble_eq_true rfl) rfl ?_
    refine r_iload_n (pc := 0) dJ16_checkIndex_0 rfl ?_
    refine r_if_lt (pc := 1) (tgt := 9) dJ16_checkIndex_1 (by decide) (by omega) (fun c1 => absurd c1 (by omega)) (fun c1 => ?_)
    refine r_iload_n (pc := 4) dJ16_checkIndex_4 rfl ?_
    refine r_iload_n (pc := 5) dJ16_checkIndex_5 rfl ?_
    refine r_icmp_lt (pc := 6) (tgt := 16) dJ16_checkIndex_6 (by decide) (by omega) (by omega) (fun c6 => ?_) (fun c6 => absurd (by omega) c6)
    refine r_iload_n (pc := 16) dJ16_checkIndex_16 rfl ?_
    exact r_iret (pc := 17) dJ16_checkIndex_17 rfl rfl ⟨rfl, rfl⟩
theorem t_J15_checkIndex {G : Gl} {h : Hp} {i n : Int} (h0 : 0 ≤ i) (h1 : i < n) (h2 : n < 2147483648) : Ct G 2 0 yJ15_checkIndex (Cond.code yJ15_checkIndex cJ15_checkIndex 2 (some .int)) [.int (iZ i), .int (iZ n)] h (jE (.int (iZ i)) h) noX := by
  refine Ct.of (own := "java/util/Objects") (nm := "checkIndex") (by decide +kernel) rfl rfl (L := [some (.int (iZ i)), some (.int (iZ n))]) rfl (Nat.le_of_ble_eq_true rfl) rfl ?_
  refine r_iload_n (pc := 0) dJ15_checkIndex_0 rfl ?_
  refine r_iload_n (pc := 1) dJ15_checkIndex_1 rfl ?_
  refine r_null (pc := 2) dJ15_checkIndex_2 ?_
  refine r_callS (pc := 3) (kb' := 0) dJ15_checkIndex_3 kJ16_checkIndex q551 (t_J16_checkIndex (x := 0) (by omega) (by omega) (by omega)) (Nat.le_refl _) (Nat.le_of_ble_eq_true rfl) rfl rfl (Nat.le_of_ble_eq_true rfl) (fun _ _ q => q.elim) (fun _ _ hq => ?_)
  refine go_jE hq ?_
  exact r_iret (pc := 6) dJ15_checkIndex_6 rfl rfl ⟨rfl, rfl⟩
theorem t_J16_checkFromToIndex {G : Gl} {h : Hp} {i j n : Int} {x : Nat} (h0 : 0 ≤ i) (h1 : i ≤ j) (h2 : j ≤ n) (h3 : n < 2147483648) : Ct G 1 0 yJ16_checkFromToIndex (Cond.code yJ16_checkFromToIndex cJ16_checkFromToIndex 4 (some .int)) [.int (iZ i), .int (iZ j), .int (iZ n), vRN x] h (jE (.int (iZ i)) h) noX := by
  cases x with
  | zero =>
    refine Ct.of (own := "jdk/internal/util/Preconditions") (nm := "checkFromToIndex") (by decide +kernel) rfl rfl (L := [some (.int (iZ i)), some (.int (iZ j)), some (.int (iZ n)), some (vRN 0)]) rfl (Nat.le_of_ble_eq_true rfl) rfl ?_
    refine r_iload_n (pc := 0) dJ16_checkFromToIndex_0 rfl ?_
    refine r_if_lt (pc := 1) (tgt := 14) dJ16_checkFromToIndex_1 (by decide) (by omega) (fun c1 => absurd c1 (by omega)) (fun c1 => ?_)
    refine r_iload_n (pc := 4) dJ16_checkFromToIndex_4 rfl ?_
    refine r_iload_n (pc := 5) dJ16_checkFromToIndex_5 rfl ?_
    refine r_icmp_gt (pc := 6) (tgt := 14) dJ16_checkFromToIndex_6 (by decide) (by omega) (by omega) (fun c6 => absurd c6 (by omega)) (fun c6 => ?_)
    refine r_iload_n (pc := 9) dJ16_checkFromToIndex_9 rfl ?_
    refine r_iload_n (pc := 10) dJ16_checkFromToIndex_10 rfl ?_
    refine r_icmp_le (pc := 11) (tgt := 22) dJ16_checkFromToIndex_11 (by decide) (by omega) (by omega) (fun c11 => ?_) (fun c11 => absurd (by omega) c11)
    refine r_iload_n (pc := 22) dJ16_checkFromToIndex_22 rfl ?_
    exact r_iret (pc := 23) dJ16_checkFromToIndex_23 rfl rfl ⟨rfl, rfl⟩
  | succ x =>
    refine Ct.of (own := "jdk/internal/util/Preconditions") (nm := "checkFromToIndex") (by decide +kernel) rfl rfl (L := [some (.int (iZ i)), some (.int (iZ j)), some (.int (iZ n)), some (vRN (x + 1))]) rfl (Nat.le_of_ble_eq_true rfl) rfl ?_
    refine r_iload_n (pc := 0) dJ16_checkFromToIndex_0 rfl ?_
    refine r_if_lt (pc := 1) (tgt := 14) dJ16_checkFromToIndex_1 (by decide) (by omega) (fun c1 => absurd c1 (by omega)) (fun c1 => ?_)
    refine r_iload_n (pc := 4) dJ16_checkFromToIndex_4 rfl ?_
    refine r_iload_n (pc := 5) dJ16_checkFromToIndex_5 rfl ?_
    refine r_icmp_gt (pc := 6) (tgt := 14) dJ16_checkFromToIndex_6 (by decide) (by omega) (by omega) (fun c6 => absurd c6 (by omega)) (fun c6 => ?_)
    refine r_iload_n (pc := 9) dJ16_checkFromToIndex_9 rfl ?_
    refine r_iload_n (pc := 10) dJ16_checkFromToIndex_10 rfl ?_
    refine r_icmp_le (pc := 11) (tgt := 22) dJ16_checkFromToIndex_11 (by decide) (by omega) (by omega) (fun c11 => ?_) (fun c11 => absurd (by omega) c11)
    refine r_iload_n (pc := 22) dJ16_checkFromToIndex_22 rfl ?_
    exact r_iret (pc := 23) dJ16_checkFromToIndex_23 rfl rfl ⟨rfl, rfl⟩
theorem t_J19_max {G : Gl} {h : Hp} {i j : Int} (h0 : InR i) (h1 : InR j) : Ct G 1 0 yJ19_max (Cond.code yJ19_max cJ19_max 2 (some .int)) [.int (iZ i), .int (iZ j)] h (jE (.int (iZ (if i < j then j else i))) h) noX := by
  refine Ct.ofF (own := "java/lang/Math") (nm := "max") (by decide +kernel) rfl rfl (L := [some (.int (iZ i)), some (.int (iZ j))]) rfl (Nat.le_of_ble_eq_true rfl) rfl ?_
  refine r_iload_n (pc := 0) dJ19_max_0 rfl ?_
  refine r_iload_n (pc := 1) dJ19_max_1 rfl ?_
  refine r_icmp_lt (pc := 2) (tgt := 9) dJ19_max_2 (by decide) (by omega) (by omega) (fun c2 => ?_) (fun c2 => ?_)
  · refine r_iload_n (pc := 9) dJ19_max_9 rfl ?_
    exact r_iret (pc := 10) dJ19_max_10 rfl rfl ⟨by rw [if_pos (by omega)], rfl⟩
  · refine r_iload_n (pc := 5) dJ19_max_5 rfl ?_
    refine r_goto (pc := 6) (tgt := 10) dJ19_max_6 (by decide) ?_
    exact r_iret (pc := 10) dJ19_max_10 rfl rfl ⟨by rw [if_neg (by omega)], rfl⟩
theorem t_J19_min {G : Gl} {h : Hp} {i j : Int} (h0 : InR i) (h1 : InR j) : Ct G 1 0 yJ19_min (Cond.code yJ19_min cJ19_min 2 (some .int)) [.int (iZ i), .int (iZ j)] h (jE (.int (iZ (if i ≤ j then i else j))) h) noX := by
  refine Ct.ofF (own := "java/lang/Math") (nm := "min") (by decide +kernel) rfl rfl (L := [some (.int (iZ i)), some (.int (iZ j))]) rfl (Nat.le_of_ble_eq_true rfl) rfl ?_
  refine r_iload_n (pc := 0) dJ19_min_0 rfl ?_
  refine r_iload_n (pc := 1) dJ19_min_1 rfl ?_
  refine r_icmp_gt (pc := 2) (tgt := 9) dJ19_min_2 (by decide) (by omega) (by omega) (fun c2 => ?_) (fun c2 => ?_)
  · refine r_iload_n (pc := 9) dJ19_min_9 rfl ?_
    exact r_iret (pc := 10) dJ19_min_10 rfl rfl ⟨by rw [if_neg (by omega)], rfl⟩
  · refine r_iload_n (pc := 5) dJ19_min_5 rfl ?_
    refine r_goto (pc := 6) (tgt := 10) dJ19_min_6 (by decide) ?_
    exact r_iret (pc := 10) dJ19_min_10 rfl rfl ⟨by rw [if_pos (by omega)], rfl⟩
theorem t_J45_equals {G : Gl} {h : Hp} {a b : Nat} : Ct G 1 0 yJ45_equals (Cond.code yJ45_equals cJ45_equals 2 (some .boolean)) [.ref a, .ref b] h (jE (.int (iZ (bZ (a = b)))) h) noX := by
  refine Ct.ofF (own := "java/lang/Object") (nm := "equals") (by decide +kernel) rfl rfl (L := [some (.ref a), some (.ref b)]) rfl (Nat.le_of_ble_eq_true rfl) rfl ?_
  refine r_aload_n (pc := 0) dJ45_equals_0 rfl ?_
  refine r_aload_n (pc := 1) dJ45_equals_1 rfl ?_
  refine r_acmp_ne (pc := 2) (tgt := 9) dJ45_equals_2 (by decide) (fun c2 => ?_) (fun c2 => ?_)
  · refine r_iconst (pc := 9) dJ45_equals_9 ?_
    exact r_iret (pc := 10) dJ45_equals_10 rfl (nB' (by first | (left; rfl) | (right; rfl) | exact bZ_01' _ | omega)) ⟨by rw [bZ_f (by assumption)], rfl⟩
  · refine r_iconst (pc := 5) dJ45_equals_5 ?_
    refine r_goto (pc := 6) (tgt := 10) dJ45_equals_6 (by decide) ?_
    exact r_iret (pc := 10) dJ45_equals_10 rfl (nB' (by first | (left; rfl) | (right; rfl) | exact bZ_01' _ | omega)) ⟨by rw [bZ_t (by assumption)], rfl⟩
theorem t_J0_init {G : Gl} {h : Hp} {a : Nat} : Ct G 1 0 yJ0_init (Cond.code yJ0_init cJ0_init 1 (none)) [.ref a] h (jN (· = h)) noX := by
  refine Ct.of (own := "java/util/AbstractCollection") (nm := "<init>") (by decide +kernel) rfl rfl (L := [some (.ref a)]) rfl (Nat.le_of_ble_eq_true rfl) rfl ?_
  refine r_aload_n (pc := 0) dJ0_init_0 rfl ?_
  refine r_objInit (pc := 1) dJ0_init_1 q188 q169 q170 (by decide) (Nat.le_of_ble_eq_true rfl) ?_
  exact r_vret (pc := 4) dJ0_init_4 rfl ⟨rfl, rfl⟩
theorem t_J1_init {G : Gl} {h : Hp} {a : Nat} {t : Tg} {v : Value} {fs : List Value} (ha : h a = some (t, ob 8 (v :: fs))) (ht : t ≠ frz) : Ct G 2 0 yJ1_init (Cond.code yJ1_init cJ1_init 1 (none)) [.ref a] h (jN (· = up h a (t, ob 8 (.int (iZ 0) :: fs)))) noX := by
  refine Ct.of (own := "java/util/AbstractList") (nm := "<init>") (by decide +kernel) rfl rfl (L := [some (.ref a)]) rfl (Nat.le_of_ble_eq_true rfl) rfl ?_
  refine r_aload_n (pc := 0) dJ1_init_0 rfl ?_
  refine r_callI (pc := 1) (kb' := 0) dJ1_init_1 kJ0_init q185 (t_J0_init ) (Nat.le_refl _) (Nat.le_of_ble_eq_true rfl) rfl rfl (Nat.le_of_ble_eq_true rfl) (fun _ _ q => q.elim) (fun _ h hq => ?_)
  refine go_jN hq (fun e => ?_)
  subst e
  refine r_aload_n (pc := 4) dJ1_init_4 rfl ?_
  refine r_iconst (pc := 5) dJ1_init_5 ?_
  refine pJ1_7_8 (pc := 6) dJ1_init_6 ha ht (Nat.le_of_ble_eq_true rfl) ?_
  
  exact r_vret (pc := 9) dJ1_init_9 rfl ⟨rfl, rfl⟩
theorem t_J1_init_L {G : Gl} {h : Hp} {a : Nat} {t : Tg} {v : Value} {fs : List Value} (ha : h a = some (t, ob 10 (v :: fs))) (ht : t ≠ frz) : Ct G 2 0 yJ1_init (Cond.code yJ1_init cJ1_init 1 (none)) [.ref a] h (jN (· = up h a (t, ob 10 (.int (iZ 0) :: fs)))) noX := by
  refine Ct.of (own := "java/util/AbstractList") (nm := "<init>") (by decide +kernel) rfl rfl (L := [some (.ref a)]) rfl (Nat.le_of_ble_eq_true rfl) rfl ?_
  refine r_aload_n (pc := 0) dJ1_init_0 rfl ?_
  refine r_callI (pc := 1) (kb' := 0) dJ1_init_1 kJ0_init q185 (t_J0_init ) (Nat.le_refl _) (Nat.le_of_ble_eq_true rfl) rfl rfl (Nat.le_of_ble_eq_true rfl) (fun _ _ q => q.elim) (fun _ h hq => ?_)
  refine go_jN hq (fun e => ?_)
  subst e
  refine r_aload_n (pc := 4) dJ1_init_4 rfl ?_
  refine r_iconst (pc := 5) dJ1_init_5 ?_
  refine pJ1_7_10 (pc := 6) dJ1_init_6 ha ht (Nat.le_of_ble_eq_true rfl) ?_
  
  exact r_vret (pc := 9) dJ1_init_9 rfl ⟨rfl, rfl⟩
