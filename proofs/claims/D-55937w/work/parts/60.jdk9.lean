set_option maxRecDepth 100000
/-! JDK, part 9: BitSet, of one word, its bits below 12 -/
def BS (t : Tg) (a z : Nat) (h : Hp) : Prop :=
  ∃ (w : Nat) (f : Nat → Int64) (s : Int32), h a = some (t, ob 16 [.ref w, .int (iZ (if z = 0 then 0 else 1)), .int s]) ∧ h w = some (t, aJ 1 f) ∧ f 0 = lN z ∧ z < 4096
theorem BS.fr {t : Tg} {a z : Nat} {h h' : Hp} {P : Tg → Prop} (hA : BS t a z h) (hf : Fr P h h') (h1 : ¬ P t) : BS t a z h' := by
  obtain ⟨w, f, s, q1, q2, q3, q4⟩ := hA
  exact ⟨w, f, s, hf.get q1 h1, hf.get q2 h1, q3, q4⟩
theorem bsE {h : Hp} {x : Nat} {t : Tg} {m v1 v2 w1 : Value} (hx : h x = some (t, ob 16 [m, v1, v2])) (e1 : v1 = w1) : h x = some (t, ob 16 [m, w1, v2]) := by rw [hx, e1]
theorem bZn_in (z : Nat) : InR (if z = 0 then 0 else 1) := by split <;> omega
section IU
variable {G : Gl} {own : String} {cc : ByteArray} {Y : Mt} {d mc : Nat} {Qr : Option Value → Hp → Prop} {Qx : String → Hp → Prop} {kb : Nat} {h : Hp} {pc : Nat} {L : List (Option Value)} {st : List Value}
theorem r_iushr1 {a : Int} (hd : decode cc pc = .ok (.iushr, 1)) (h0 : 0 ≤ a ∧ a < 2147483648) (kk : Go G own cc Y d mc Qr Qx kb h (pc + 1) L (.int (iZ (a / 2)) :: st)) : Go G own cc Y d mc Qr Qx kb h pc L (.int (iZ 1) :: .int (iZ a) :: st) := by
  refine q_iushr hd ?_ kk
  obtain ⟨n, rfl⟩ := Int.eq_ofNat_of_zero_le h0.1
  rw [show ((n : Int) / 2) = ((n / 2 : Nat) : Int) from rfl, iZ_nI (Int.natCast_nonneg _), iZ_nI (Int.natCast_nonneg _), Int.toNat_natCast, Int.toNat_natCast]
  exact pk_ushrN (by omega) _ 1 (by decide)
theorem r_iushr2 {a : Int} (hd : decode cc pc = .ok (.iushr, 1)) (h0 : 0 ≤ a ∧ a < 2147483648) (kk : Go G own cc Y d mc Qr Qx kb h (pc + 1) L (.int (iZ (a / 4)) :: st)) : Go G own cc Y d mc Qr Qx kb h pc L (.int (iZ 2) :: .int (iZ a) :: st) := by
  refine q_iushr hd ?_ kk
  obtain ⟨n, rfl⟩ := Int.eq_ofNat_of_zero_le h0.1
  rw [show ((n : Int) / 4) = ((n / 4 : Nat) : Int) from rfl, iZ_nI (Int.natCast_nonneg _), iZ_nI (Int.natCast_nonneg _), Int.toNat_natCast, Int.toNat_natCast]
  exact pk_ushrN (by omega) _ 2 (by decide)
theorem r_iushr4 {a : Int} (hd : decode cc pc = .ok (.iushr, 1)) (h0 : 0 ≤ a ∧ a < 2147483648) (kk : Go G own cc Y d mc Qr Qx kb h (pc + 1) L (.int (iZ (a / 16)) :: st)) : Go G own cc Y d mc Qr Qx kb h pc L (.int (iZ 4) :: .int (iZ a) :: st) := by
  refine q_iushr hd ?_ kk
  obtain ⟨n, rfl⟩ := Int.eq_ofNat_of_zero_le h0.1
  rw [show ((n : Int) / 16) = ((n / 16 : Nat) : Int) from rfl, iZ_nI (Int.natCast_nonneg _), iZ_nI (Int.natCast_nonneg _), Int.toNat_natCast, Int.toNat_natCast]
  exact pk_ushrN (by omega) _ 4 (by decide)
theorem r_iushr8 {a : Int} (hd : decode cc pc = .ok (.iushr, 1)) (h0 : 0 ≤ a ∧ a < 2147483648) (kk : Go G own cc Y d mc Qr Qx kb h (pc + 1) L (.int (iZ (a / 256)) :: st)) : Go G own cc Y d mc Qr Qx kb h pc L (.int (iZ 8) :: .int (iZ a) :: st) := by
  refine q_iushr hd ?_ kk
  obtain ⟨n, rfl⟩ := Int.eq_ofNat_of_zero_le h0.1
  rw [show ((n : Int) / 256) = ((n / 256 : Nat) : Int) from rfl, iZ_nI (Int.natCast_nonneg _), iZ_nI (Int.natCast_nonneg _), Int.toNat_natCast, Int.toNat_natCast]
  exact pk_ushrN (by omega) _ 8 (by decide)
end IU
theorem lN_0 : Int64.ofNat 0 = lN 0 := rfl
theorem eP2 {k e : Int} (h0 : 0 ≤ k ∧ k ≤ 11) (he : e = 2 ^ k.toNat - 1) : (k = 0 ∧ e = 0) ∨ (k = 1 ∧ e = 1) ∨ (k = 2 ∧ e = 3) ∨ (k = 3 ∧ e = 7) ∨ (k = 4 ∧ e = 15) ∨ (k = 5 ∧ e = 31) ∨ (k = 6 ∧ e = 63) ∨ (k = 7 ∧ e = 127) ∨ (k = 8 ∧ e = 255) ∨ (k = 9 ∧ e = 511) ∨ (k = 10 ∧ e = 1023) ∨ (k = 11 ∧ e = 2047) := by
  have : k = 0 ∨ k = 1 ∨ k = 2 ∨ k = 3 ∨ k = 4 ∨ k = 5 ∨ k = 6 ∨ k = 7 ∨ k = 8 ∨ k = 9 ∨ k = 10 ∨ k = 11 := by omega
  rcases this with rfl | rfl | rfl | rfl | rfl | rfl | rfl | rfl | rfl | rfl | rfl | rfl <;> (rw [he]; decide)

theorem t_J14_wordIndex {G : Gl} {h : Hp} {i : Nat} (hi : i < 64) : Ct G 1 0 yJ14_wordIndex (Cond.code yJ14_wordIndex cJ14_wordIndex 1 (some .int)) [.int (iZ i)] h (jE (.int (iZ 0)) h) noX := by
  refine Ct.of (own := "java/util/BitSet") (nm := "wordIndex") (by decide +kernel) rfl rfl (L := [some (.int (iZ i))]) rfl (Nat.le_of_ble_eq_true rfl) rfl ?_
  refine r_iload_n (pc := 0) dJ14_wordIndex_0 rfl ?_
  refine r_bipush (pc := 1) dJ14_wordIndex_1 (by decide) ?_
  refine r_ishr6 (pc := 3) dJ14_wordIndex_3 (by omega) ?_
  exact r_iret (pc := 4) dJ14_wordIndex_4 rfl rfl ⟨congrArg (fun z : Int => some (Value.int (iZ z))) (by omega), rfl⟩
theorem t_J14_initWords {G : Gl} {h : Hp} {a n : Nat} {t : Tg} {v1 v2 v3 : Value} (ha : h a = some (t, ob 16 [v1, v2, v3])) (ht : t ≠ frz) (hn : 0 < n ∧ n ≤ 12) : Ct G 2 2 yJ14_initWords (Cond.code yJ14_initWords cJ14_initWords 2 (none)) [.ref a, .int (iZ n)] h (jN (fun h' => ∃ w, h w = none ∧ PW [(a, t, ob 16 [.ref w, v2, v3]), (w, t, aJ 1 (fun _ => 0))] h h')) noX := by
  have hp := PW.one ha
  refine Ct.of (own := "java/util/BitSet") (nm := "initWords") (by decide +kernel) rfl rfl (L := [some (.ref a), some (.int (iZ n))]) rfl (Nat.le_of_ble_eq_true rfl) rfl ?_
  refine r_aload_n (pc := 0) dJ14_initWords_0 rfl ?_
  refine r_iload_n (pc := 1) dJ14_initWords_1 rfl ?_
  refine r_iconst (pc := 2) dJ14_initWords_2 ?_
  refine r_isub (pc := 3) dJ14_initWords_3 ?_
  refine go_cz (w := ((n - 1 : Nat) : Int)) (by omega) ?_
  refine r_callS (pc := 4) (kb' := 2) dJ14_initWords_4 kJ14_wordIndex q1595 (t_J14_wordIndex (by omega)) (Nat.le_refl _) (Nat.le_of_ble_eq_true rfl) rfl rfl (Nat.le_of_ble_eq_true rfl) (fun _ _ q => q.elim) (fun _ _ hq => ?_)
  refine go_jE hq ?_
  refine r_iconst (pc := 7) dJ14_initWords_7 ?_
  refine r_iadd (pc := 8) dJ14_initWords_8 ?_
  refine r_newJ (pc := 9) (N := 1) (kb' := 0) (t) dJ14_initWords_9 q1608 rfl (by omega) (Nat.le_of_ble_eq_true rfl) (fun w hw zw => ?_)
  refine go_pw (hp.new hw _) (fun h hp => ?_)
  refine pJ14_11 (pc := 11) dJ14_initWords_11 rfl rfl rfl (hp.at 0 rfl) ht (Nat.le_of_ble_eq_true rfl) ?_
  refine go_pw (hp.put 0 rfl) (fun h hp => ?_)
  exact r_vret (pc := 14) dJ14_initWords_14 rfl ⟨rfl, w, hw, hp⟩
theorem t_J14_init {G : Gl} {h : Hp} {a n : Nat} {t : Tg} (ha : h a = some (t, ob 16 [.null, .int 0, .int 0])) (ht : t ≠ frz) (hn : 0 < n ∧ n ≤ 12) : Ct G 3 2 yJ14_init (Cond.code yJ14_init cJ14_init 2 (none)) [.ref a, .int (iZ n)] h (jN (fun h' => BS t a 0 h' ∧ Fr (fun x => x = t) h h')) noX := by
  have hp := PW.one ha
  refine Ct.of (own := "java/util/BitSet") (nm := "<init>") (by decide +kernel) rfl rfl (L := [some (.ref a), some (.int (iZ n))]) rfl (Nat.le_of_ble_eq_true rfl) rfl ?_
  refine r_aload_n (pc := 0) dJ14_init_0 rfl ?_
  refine r_objInit (pc := 1) dJ14_init_1 q1590 q169 q170 (by decide) (Nat.le_of_ble_eq_true rfl) ?_
  refine r_aload_n (pc := 4) dJ14_init_4 rfl ?_
  refine r_iconst (pc := 5) dJ14_init_5 ?_
  refine pJ14_7 (pc := 6) dJ14_init_6 (hp.at 0 rfl) ht (Nat.le_of_ble_eq_true rfl) ?_
  refine go_pw (hp.put 0 rfl) (fun h hp => ?_)
  refine r_aload_n (pc := 9) dJ14_init_9 rfl ?_
  refine r_iconst (pc := 10) dJ14_init_10 ?_
  refine pJ14_24 (pc := 11) dJ14_init_11 (iZ01' (by first | (left; rfl) | (right; rfl) | exact bZ_01' _ | omega)) (hp.at 0 rfl) ht (Nat.le_of_ble_eq_true rfl) ?_
  refine go_pw (hp.put 0 rfl) (fun h hp => ?_)
  refine r_iload_n (pc := 14) dJ14_init_14 rfl ?_
  refine r_if_ge (pc := 15) (tgt := 45) dJ14_init_15 (by decide) (by omega) (fun c15 => ?_) (fun c15 => absurd (by omega) c15)
  refine r_aload_n (pc := 45) dJ14_init_45 rfl ?_
  refine r_iload_n (pc := 46) dJ14_init_46 rfl ?_
  have hx0 := hp.at 0 rfl
  refine r_callV (pc := 47) (kb' := 0) dJ14_init_47 kJ14_initWords q1591 (t_J14_initWords (hp.at 0 rfl) ht hn) (hp.at 0 rfl) rfl (Nat.le_of_ble_eq_true rfl) (Nat.le_of_ble_eq_true rfl) rfl rfl (Nat.le_of_ble_eq_true rfl) (fun _ _ q => q.elim) (fun _ h hq => ?_)
  refine go_jN hq (fun hq => ?_)
  obtain ⟨w, hw, hp2⟩ := hq
  have hw0 : _ = none := (hp.ot ⟨ne_nw (hp.at 0 rfl) hw, trivial⟩).symm.trans hw
  have hF := hp.fr (P := fun x => x = t) ⟨FA.t ha, trivial⟩
  have hF2 := hp2.fr (P := fun x => x = t) ⟨FA.t (hp.at 0 rfl), Or.inl hw, trivial⟩
  have h00 := hp2.at 0 rfl
  have hp := hp2
  refine r_aload_n (pc := 50) dJ14_init_50 rfl ?_
  refine r_iconst (pc := 51) dJ14_init_51 ?_
  refine pJ14_24 (pc := 52) dJ14_init_52 (iZ01' (by first | (left; rfl) | (right; rfl) | exact bZ_01' _ | omega)) (hp.at 0 rfl) ht (Nat.le_of_ble_eq_true rfl) ?_
  refine go_pw (hp.put 0 rfl) (fun h hp => ?_)
  exact r_vret (pc := 55) dJ14_init_55 rfl ⟨rfl, ⟨w, _, _, hp.at 0 rfl, hp.at 1 rfl, rfl, by omega⟩, hF.tr (hp.fr (P := fun x => x = t) ⟨FA.t hx0, Or.inl hw, trivial⟩)⟩
theorem t_J14_checkInvariants {G : Gl} {h : Hp} {a : Nat} : Ct G 1 0 yJ14_checkInvariants (Cond.code yJ14_checkInvariants cJ14_checkInvariants 1 (none)) [.ref a] h (jN (· = h)) noX := by
  refine Ct.of (own := "java/util/BitSet") (nm := "checkInvariants") (by decide +kernel) rfl rfl (L := [some (.ref a)]) rfl (Nat.le_of_ble_eq_true rfl) rfl ?_
  refine r_gets (pc := 0) dJ14_checkInvariants_0 5 rfl q1647 rfl ?_
  refine go_ci (z := 1) rfl ?_
  refine r_if_ne (pc := 3) (tgt := 37) dJ14_checkInvariants_3 (by decide) (by decide) (fun _ => ?_) (fun q => absurd (by decide) q)
  refine r_gets (pc := 37) dJ14_checkInvariants_37 5 rfl q1647 rfl ?_
  refine go_ci (z := 1) rfl ?_
  refine r_if_ne (pc := 40) (tgt := 70) dJ14_checkInvariants_40 (by decide) (by decide) (fun _ => ?_) (fun q => absurd (by decide) q)
  refine r_gets (pc := 70) dJ14_checkInvariants_70 5 rfl q1647 rfl ?_
  refine go_ci (z := 1) rfl ?_
  refine r_if_ne (pc := 73) (tgt := 110) dJ14_checkInvariants_73 (by decide) (by decide) (fun _ => ?_) (fun q => absurd (by decide) q)
  exact r_vret (pc := 110) dJ14_checkInvariants_110 rfl ⟨rfl, rfl⟩
theorem t_J14_ensureCapacity {G : Gl} {h : Hp} {a z : Nat} {t : Tg} (hA : BS t a z h) : Ct G 1 0 yJ14_ensureCapacity (Cond.code yJ14_ensureCapacity cJ14_ensureCapacity 3 (none)) [.ref a, .int (iZ 1)] h (jN (· = h)) noX := by
  have hA0 := hA
  obtain ⟨w, f, s, q1, q2, q3, q4⟩ := hA0
  have zi := bZn_in z
  refine Ct.of (own := "java/util/BitSet") (nm := "ensureCapacity") (by decide +kernel) rfl rfl (L := [some (.ref a), some (.int (iZ 1)), none]) rfl (Nat.le_of_ble_eq_true rfl) rfl ?_
  refine r_aload_n (pc := 0) dJ14_ensureCapacity_0 rfl ?_
  refine gJ14_11 (pc := 1) dJ14_ensureCapacity_1 q1 rfl ?_
  refine r_alen (pc := 4) dJ14_ensureCapacity_4 (by decide) q2 (by omega) ?_
  refine r_iload_n (pc := 5) dJ14_ensureCapacity_5 rfl ?_
  refine r_icmp_ge (pc := 6) (tgt := 38) dJ14_ensureCapacity_6 (by decide) (by omega) (by omega) (fun c6 => ?_) (fun c6 => absurd (by omega) c6)
  exact r_vret (pc := 38) dJ14_ensureCapacity_38 rfl ⟨rfl, rfl⟩
theorem t_J14_expandTo {G : Gl} {h : Hp} {a z : Nat} {t : Tg} (hA : BS t a z h) (ht : t ≠ frz) : Ct G 2 0 yJ14_expandTo (Cond.code yJ14_expandTo cJ14_expandTo 3 (none)) [.ref a, .int (iZ 0)] h (jN (fun h' => ∃ (w : Nat) (f : Nat → Int64) (s : Int32), f 0 = lN z ∧ z < 4096 ∧ h a = some (t, ob 16 [.ref w, .int (iZ (if z = 0 then 0 else 1)), .int s]) ∧ h w = some (t, aJ 1 f) ∧ PW [(a, t, ob 16 [.ref w, .int (iZ 1), .int s]), (w, t, aJ 1 f)] h h')) noX := by
  have hA0 := hA
  obtain ⟨w, f, s, q1, q2, q3, q4⟩ := hA0
  have zi := bZn_in z
  have hp := PW.two q1 q2 (ne_of q1 q2 (by intro e; simp [ob, aJ] at e))
  by_cases z0 : z = 0
  rw [if_pos z0] at hp
  rotate_left
  rw [if_neg z0] at hp
  · refine Ct.of (own := "java/util/BitSet") (nm := "expandTo") (by decide +kernel) rfl rfl (L := [some (.ref a), some (.int (iZ 0)), none]) rfl (Nat.le_of_ble_eq_true rfl) rfl ?_
    refine r_iload_n (pc := 0) dJ14_expandTo_0 rfl ?_
    refine r_iconst (pc := 1) dJ14_expandTo_1 ?_
    refine r_iadd (pc := 2) dJ14_expandTo_2 ?_
    refine r_istore_n (pc := 3) (L' := [_, _, _]) dJ14_expandTo_3 rfl ?_
    refine r_aload_n (pc := 4) dJ14_expandTo_4 rfl ?_
    refine gJ14_7 (pc := 5) dJ14_expandTo_5 (hp.at 0 rfl) rfl ?_
    refine r_iload_n (pc := 8) dJ14_expandTo_8 rfl ?_
    refine r_icmp_ge (pc := 9) (tgt := 22) dJ14_expandTo_9 (by decide) (by omega) (by omega) (fun c9 => ?_) (fun c9 => absurd (by omega) c9)
    exact r_vret (pc := 22) dJ14_expandTo_22 rfl ⟨rfl, w, f, s, q3, q4, q1, q2, hp⟩
  · refine Ct.of (own := "java/util/BitSet") (nm := "expandTo") (by decide +kernel) rfl rfl (L := [some (.ref a), some (.int (iZ 0)), none]) rfl (Nat.le_of_ble_eq_true rfl) rfl ?_
    refine r_iload_n (pc := 0) dJ14_expandTo_0 rfl ?_
    refine r_iconst (pc := 1) dJ14_expandTo_1 ?_
    refine r_iadd (pc := 2) dJ14_expandTo_2 ?_
    refine r_istore_n (pc := 3) (L' := [_, _, _]) dJ14_expandTo_3 rfl ?_
    refine r_aload_n (pc := 4) dJ14_expandTo_4 rfl ?_
    refine gJ14_7 (pc := 5) dJ14_expandTo_5 (hp.at 0 rfl) rfl ?_
    refine r_iload_n (pc := 8) dJ14_expandTo_8 rfl ?_
    refine r_icmp_ge (pc := 9) (tgt := 22) dJ14_expandTo_9 (by decide) (by omega) (by omega) (fun c9 => absurd c9 (by omega)) (fun c9 => ?_)
    refine r_aload_n (pc := 12) dJ14_expandTo_12 rfl ?_
    refine r_iload_n (pc := 13) dJ14_expandTo_13 rfl ?_
    refine r_callV (pc := 14) (kb' := 0) dJ14_expandTo_14 kJ14_ensureCapacity q1630 (t_J14_ensureCapacity hA) (hp.at 0 rfl) rfl (Nat.le_refl _) (Nat.le_of_ble_eq_true rfl) rfl rfl (Nat.le_of_ble_eq_true rfl) (fun _ _ q => q.elim) (fun _ h hq => ?_)
    refine go_jN hq (fun e => ?_)
    subst e
    refine r_aload_n (pc := 17) dJ14_expandTo_17 rfl ?_
    refine r_iload_n (pc := 18) dJ14_expandTo_18 rfl ?_
    refine pJ14_7 (pc := 19) dJ14_expandTo_19 (hp.at 0 rfl) ht (Nat.le_of_ble_eq_true rfl) ?_
    refine go_pw (hp.put 0 rfl) (fun h hp => ?_)
    exact r_vret (pc := 22) dJ14_expandTo_22 rfl ⟨rfl, w, f, s, q3, q4, q1, q2, hp⟩
