set_option maxRecDepth 100000
theorem cuJ38_13_18 {G : Gl} : CUok G "java/util/ImmutableCollections$AbstractImmutableList" "java/util/ImmutableCollections$ListN" "java/util/AbstractCollection" 13 ⟨"java/util/ImmutableCollections$AbstractImmutableList", "size", "()I"⟩ yJ40_size cJ40_size 1 (some .int) 0 := cu_D q1005 q1006 q500 q1010 ⟨q1011, q155, q1012, ⟨by decide, by decide⟩, by decide +kernel, by decide⟩
theorem f10 : Cond.selects "java/util/ImmutableCollections$ListN" ⟨"java/util/List", "get", "(I)Ljava/lang/Object;"⟩ yJ40_get ∈ lw_all ∧ Cond.instanceMethod yJ40_get ∈ lw_all ∧ Cond.initialized yJ40_get.cls ∈ lw_all ∧ Cond.code yJ40_get cJ40_get 2 (some (.object "java/lang/Object")) ∈ lw_all ∧ hdOk ⟨"java/util/List", "get", "(I)Ljava/lang/Object;"⟩ 1 ∧ 2 ≤ 21 := ⟨q1016, q1018, q155, q1020, ⟨by decide, by decide, by decide +kernel⟩, by decide⟩
/-! JDK, part 18: List.of -/
section CF
variable {G : Gl} {own : String} {cc : ByteArray} {Y : Mt} {d mc : Nat} {Qr : Option Value → Hp → Prop} {Qx : String → Hp → Prop} {kb : Nat} {h : Hp} {pc : Nat} {L : List (Option Value)} {st : List Value}
/-- interface calls of a method with handlers -/
theorem r_callFH {y : MethodName} {bytes : ByteArray} {nL1 d1 k1 kb' n idx : Nat} {As : List Value} {Qr1 : Option Value → Hp → Prop} {Qx1 : String → Hp → Prop} {st0 : List Value} {x : MethodName} {cnt : Nat} {r : Option FieldType} {hh : List (Nat × Nat × Nat × Nat)} {Cn : String} {b ci N : Nat} {T : u_T} {t : Tg} {fs : List Value} (hd : decode cc pc = .ok (.invokeinterface idx cnt, 5)) (k0 : Nat) (hz : faceTab[k0]? = some (Cn, x, y)) (K : Cond.selects Cn x y ∈ lw_all ∧ Cond.instanceMethod y ∈ lw_all ∧ Cond.initialized y.cls ∈ lw_all ∧ Cond.codeWith y bytes nL1 r hh ∈ lw_all ∧ hdOk x n ∧ nL1 ≤ 21) (hl : Cond.methodLink own idx x ∈ lw_all) (M : Ct G d1 k1 y (Cond.codeWith y bytes nL1 r hh) (.ref b :: As) h Qr1 Qx1) (ha : h b = some (t, ob ci fs)) (hc : vwCl[ci]? = some (Cn, T, N)) (hk : kb' + k1 ≤ kb) (hdd : d1 + 1 ≤ d) (hn : As.length = n) (hst : st0 = As.reverse ++ .ref b :: st) (hW : (st.map fun v => v.category).sum ≤ 8)
    (kx : ∀ E h', Qx1 E h' → GoX G own cc Y d mc Qr Qx kb' h' pc L E) (kk : ∀ v h', Qr1 v h' → Go G own cc Y d mc Qr Qx kb' h' (pc + 5) L (v.toList ++ st)) : Go G own cc Y d mc Qr Qx kb h pc L st0 := by
  intro p e s m args below meth c H locs cells slots ls C hf hS hL h1 h2
  have hts := C.2.2.2.2.2.2.1
  have hV := C.2.2.2.2.2.2.2.2.2.1
  refine run_go kx kk hk C hS hL h1 h2 (vx_runFW (n := n) (x := x) (C := Cn) (hV.1.1 ci _ hc).2 ⟨C.1, C.2.1, C.2.2.1, C.2.2.2.2.2.1, hts⟩ M (va_cwFW n hts (lw_app (c := Cond.codeWith y bytes nL1 r hh :: lw_all) ?_ (lw_methW K.2.2.2.1)) rfl rfl rfl (hV.2.2.2.2.1 _ (List.mem_of_getElem? hz)) K.2.2.2.2.1 (rmOk hdd K.2.2.2.2.2)) ⟨ct_blind, ob_recv hV (hf.1 b _ _ ha).1 hc, fun U hU hW => ⟨rfl, hV.moved hW, by rw [hU]; exact hf⟩⟩ rfl hn hL.2.1 hst (by show 2 * 0 + _ ≤ 8; omega) hd ⟨by show cells + k1 ≤ mc; omega, by show slots + k1 ≤ mc; omega⟩)
  intro w hw
  simp only [List.mem_cons, List.not_mem_nil, or_false] at hw
  rcases hw with rfl | rfl | rfl | rfl
  · exact hl
  · exact K.1
  · exact K.2.1
  · exact K.2.2.1
end CF
/-- a ListN -/
def LN (t : Tg) (a n : Nat) (e : Nat → Nat) (h : Hp) : Prop :=
  ∃ (ar : Nat) (f : Nat → Option Nat), h a = some (t, ob 18 [.ref ar, .int (iZ 0)]) ∧ h ar = some (t, aQ "java/lang/Object" n f) ∧ n ≤ 8 ∧ ∀ i, i < n → f i = some (e i)
theorem LN.fr {t : Tg} {a n : Nat} {e : Nat → Nat} {h h' : Hp} {P : Tg → Prop} (hA : LN t a n e h) (hf : Fr P h h') (h1 : ¬ P t) : LN t a n e h' := by
  obtain ⟨ar, f, q1, q2, q3, q4⟩ := hA
  exact ⟨ar, f, hf.get q1 h1, hf.get q2 h1, q3, q4⟩
def OBs (n : Nat) (e : Nat → Nat) (h : Hp) : Prop := ∀ i, i < n → ∃ t ci fs, h (e i) = some (t, ob ci fs)
theorem cuX_107 {G : Gl} : CUok G "java/util/ImmutableCollections$AbstractImmutableList" "java/util/ImmutableCollections$ListN" "java/util/List" 107 ⟨"java/util/ImmutableCollections$AbstractImmutableList", "indexOf", "(Ljava/lang/Object;)I"⟩ yJ40_indexOf cJ40_indexOf 4 (some .int) 1 :=
  cu_X (by simp [xwT]) (by simp [xwT]) rfl q2289 q2294 ⟨q2295, q155, q2296, ⟨by decide, by decide⟩, by decide +kernel, by decide⟩

theorem t_J15_requireNonNull {G : Gl} {h : Hp} {a : Nat} : Ct G 1 0 yJ15_requireNonNull (Cond.code yJ15_requireNonNull cJ15_requireNonNull 1 (some (.object "java/lang/Object"))) [.ref a] h (jE (.ref a) h) noX := by
  refine Ct.of (own := "java/util/Objects") (nm := "requireNonNull") (by decide +kernel) rfl rfl (L := [some (.ref a)]) rfl (Nat.le_of_ble_eq_true rfl) rfl ?_
  refine r_aload_n (pc := 0) dJ15_requireNonNull_0 rfl ?_
  refine r_ifnonnull (pc := 1) (tgt := 12) dJ15_requireNonNull_1 (by decide) ?_
  refine r_aload_n (pc := 12) dJ15_requireNonNull_12 rfl ?_
  exact r_aret (pc := 13) dJ15_requireNonNull_13 rfl (Or.inl ⟨_, rfl⟩) (Or.inr ⟨_, rfl⟩) ⟨rfl, rfl⟩
theorem t_J37_init {G : Gl} {h : Hp} {a : Nat} : Ct G 2 0 yJ37_init (Cond.code yJ37_init cJ37_init 1 (none)) [.ref a] h (jN (· = h)) noX := by
  refine Ct.of (own := "java/util/ImmutableCollections$AbstractImmutableCollection") (nm := "<init>") (by decide +kernel) rfl rfl (L := [some (.ref a)]) rfl (Nat.le_of_ble_eq_true rfl) rfl ?_
  refine r_aload_n (pc := 0) dJ37_init_0 rfl ?_
  refine r_callI (pc := 1) (kb' := 0) dJ37_init_1 kJ0_init q436 (t_J0_init ) (Nat.le_refl _) (Nat.le_of_ble_eq_true rfl) rfl rfl (Nat.le_of_ble_eq_true rfl) (fun _ _ q => q.elim) (fun _ h hq => ?_)
  refine go_jN hq (fun e => ?_)
  subst e
  exact r_vret (pc := 4) dJ37_init_4 rfl ⟨rfl, rfl⟩
theorem t_J38_init {G : Gl} {h : Hp} {a : Nat} : Ct G 3 0 yJ38_init (Cond.code yJ38_init cJ38_init 1 (none)) [.ref a] h (jN (· = h)) noX := by
  refine Ct.of (own := "java/util/ImmutableCollections$AbstractImmutableList") (nm := "<init>") (by decide +kernel) rfl rfl (L := [some (.ref a)]) rfl (Nat.le_of_ble_eq_true rfl) rfl ?_
  refine r_aload_n (pc := 0) dJ38_init_0 rfl ?_
  refine r_callI (pc := 1) (kb' := 0) dJ38_init_1 kJ37_init q433 (t_J37_init ) (Nat.le_refl _) (Nat.le_of_ble_eq_true rfl) rfl rfl (Nat.le_of_ble_eq_true rfl) (fun _ _ q => q.elim) (fun _ h hq => ?_)
  refine go_jN hq (fun e => ?_)
  subst e
  exact r_vret (pc := 4) dJ38_init_4 rfl ⟨rfl, rfl⟩
theorem t_J40_init {G : Gl} {h : Hp} {a ar : Nat} {tg : Tg} (h1 : h a = some (tg, ob 18 [.null, .int 0])) (ht : tg ≠ frz) : Ct G 4 0 yJ40_init (Cond.code yJ40_init cJ40_init 3 (none)) [.ref a, .ref ar, .int (iZ 0)] h (jN (· = up h a (tg, ob 18 [.ref ar, .int (iZ 0)]))) noX := by
  have hp := PW.one h1
  refine Ct.of (own := "java/util/ImmutableCollections$ListN") (nm := "<init>") (by decide +kernel) rfl rfl (L := [some (.ref a), some (.ref ar), some (.int (iZ 0))]) rfl (Nat.le_of_ble_eq_true rfl) rfl ?_
  refine r_aload_n (pc := 0) dJ40_init_0 rfl ?_
  refine r_callI (pc := 1) (kb' := 0) dJ40_init_1 kJ38_init q455 (t_J38_init ) (Nat.le_refl _) (Nat.le_of_ble_eq_true rfl) rfl rfl (Nat.le_of_ble_eq_true rfl) (fun _ _ q => q.elim) (fun _ h hq => ?_)
  refine go_jN hq (fun e => ?_)
  subst e
  refine r_aload_n (pc := 4) dJ40_init_4 rfl ?_
  refine r_aload_n (pc := 5) dJ40_init_5 rfl ?_
  refine pJ40_7 (pc := 6) dJ40_init_6 rfl rfl rfl rfl (hp.at 0 rfl) ht (Nat.le_of_ble_eq_true rfl) ?_
  refine go_pw (hp.put 0 rfl) (fun h hp => ?_)
  refine r_aload_n (pc := 9) dJ40_init_9 rfl ?_
  refine r_iload_n (pc := 10) dJ40_init_10 rfl ?_
  refine pJ40_13 (pc := 11) dJ40_init_11 rfl (iZ01' (by first | (left; rfl) | (right; rfl) | exact bZ_01' _ | omega)) (hp.at 0 rfl) ht (Nat.le_of_ble_eq_true rfl) ?_
  refine go_pw (hp.put 0 rfl) (fun h hp => ?_)
  exact r_vret (pc := 14) dJ40_init_14 rfl ⟨rfl, hp.eq1⟩
theorem t_J28_listFromTrustedArray {G : Gl} {h : Hp} {ar n : Nat} {tg : Tg} {e : Nat → Nat} {f : Nat → Option Nat} (ht : tg ≠ frz) (h1 : h ar = some (tg, aQ "java/lang/Object" n f)) (hn : 3 ≤ n ∧ n ≤ 8) (hf : ∀ i, i < n → f i = some (e i)) : Ct G 5 3 yJ28_listFromTrustedArray (Cond.code yJ28_listFromTrustedArray cJ28_listFromTrustedArray 5 (some (.object "java/util/List"))) [.ref ar] h (jX (fun q h' => LN tg q n e h' ∧ Fr pN h h')) noX := by
  have hp := PW.nil (h := h)
  refine Ct.of (own := "java/util/ImmutableCollections") (nm := "listFromTrustedArray") (by decide +kernel) rfl rfl (L := [some (.ref ar), none, none, none, none]) rfl (Nat.le_of_ble_eq_true rfl) rfl ?_
  refine r_gets (pc := 0) dJ28_listFromTrustedArray_0 4 rfl q379 rfl ?_
  refine go_ci (z := 1) rfl ?_
  refine r_if_ne (pc := 3) (tgt := 23) dJ28_listFromTrustedArray_3 (by decide) (by decide) (fun _ => ?_) (fun q => absurd (by decide) q)
  refine r_aload_n (pc := 23) dJ28_listFromTrustedArray_23 rfl ?_
  refine r_astore_n (pc := 24) (L' := [_, _, _, _, _]) dJ28_listFromTrustedArray_24 rfl ?_
  refine r_aload_n (pc := 25) dJ28_listFromTrustedArray_25 rfl ?_
  refine r_alen (pc := 26) dJ28_listFromTrustedArray_26 (by decide) h1 (by omega) ?_
  refine r_istore_n (pc := 27) (L' := [_, _, _, _, _]) dJ28_listFromTrustedArray_27 rfl ?_
  refine r_iconst (pc := 28) dJ28_listFromTrustedArray_28 ?_
  refine r_istore_n (pc := 29) (L' := [_, _, _, _, _]) dJ28_listFromTrustedArray_29 rfl ?_
  have loop30 : ∀ (k30 : Nat) (k : Nat), (k ≤ n) → n - k < k30 → Go G "java/util/ImmutableCollections" cJ28_listFromTrustedArray (5, some (.object "java/util/List"), "listFromTrustedArray", []) 5 3 (jX (fun q h' => LN tg q n e h' ∧ Fr pN h h')) (noX) 3 h 30 [some (.ref ar), some (.ref ar), some (.int (iZ n)), some (.int (iZ k)), none] [] := by
    intro k30
    induction k30 with
    | zero => intro k hk hk; omega
    | succ k30 ih30 =>
      intro k hk hk30
      refine r_iload_n (pc := 30) dJ28_listFromTrustedArray_30 rfl ?_
      refine r_iload_n (pc := 31) dJ28_listFromTrustedArray_31 rfl ?_
      refine r_icmp_ge (pc := 32) (tgt := 52) dJ28_listFromTrustedArray_32 (by decide) (by omega) (by omega) (fun c32 => ?_) (fun c32 => ?_)
      · refine r_aload_n (pc := 52) dJ28_listFromTrustedArray_52 rfl ?_
        refine r_alen (pc := 53) dJ28_listFromTrustedArray_53 (by decide) h1 (by omega) ?_
        refine r_tableOut (pc := 54) (tgt := 115) dJ28_listFromTrustedArray_54 (by omega) (by omega) (by decide) ?_
        refine r_new (pc := 115) (ci := 18) (T := TJ40) (N := 2) (tg) [.null, .int 0] (kb' := 0) dJ28_listFromTrustedArray_115 rfl q450 q451 q155 (by intro j hj; revert j; decide +kernel) (Nat.le_of_ble_eq_true rfl) (fun q hq zq => ?_)
        refine go_pw (hp.new hq _) (fun h hp => ?_)
        have hqn := hq
        refine r_dup (pc := 118) dJ28_listFromTrustedArray_118 rfl ?_
        refine r_aload_n (pc := 119) dJ28_listFromTrustedArray_119 rfl ?_
        refine r_iconst (pc := 120) dJ28_listFromTrustedArray_120 ?_
        refine r_callIN (pc := 121) (kb' := 0) dJ28_listFromTrustedArray_121 kJ40_init q452 (t_J40_init (hp.at 0 rfl) ht) (Nat.le_refl _) (Nat.le_of_ble_eq_true rfl) rfl rfl (Nat.le_of_ble_eq_true rfl) (fun _ _ q => q.elim) (fun _ h hq => ?_)
        refine go_jN hq (fun e9 => ?_)
        subst e9
        refine go_pw (hp.put 0 rfl) (fun h hp => ?_)
        exact r_aret (pc := 124) dJ28_listFromTrustedArray_124 rfl (Or.inl ⟨_, rfl⟩) (Or.inr ⟨_, rfl⟩) ⟨q, rfl, ⟨ar, f, hp.at 0 rfl, (hp.ot ⟨(ne_nw h1 hqn).symm, trivial⟩).trans h1, hn.2, hf⟩, hp.fr ⟨Or.inl hqn, trivial⟩⟩
      · refine r_aload_n (pc := 35) dJ28_listFromTrustedArray_35 rfl ?_
        refine r_iload_n (pc := 36) dJ28_listFromTrustedArray_36 rfl ?_
        refine r_aald (pc := 37) dJ28_listFromTrustedArray_37 (by decide) h1 (by omega) (by omega) (by omega) ?_
        refine go_cv (w := .ref (e k)) (by rw [show (k : Int).toNat = k from rfl, hf k (by omega)]; rfl) ?_
        refine r_astore (pc := 38) (L' := [_, _, _, _, _]) dJ28_listFromTrustedArray_38 rfl ?_
        refine r_aload (pc := 40) dJ28_listFromTrustedArray_40 rfl ?_
        refine r_callS (pc := 42) (kb' := 3) dJ28_listFromTrustedArray_42 kJ15_requireNonNull q420 (t_J15_requireNonNull ) (Nat.le_refl _) (Nat.le_of_ble_eq_true rfl) rfl rfl (Nat.le_of_ble_eq_true rfl) (fun _ _ q => q.elim) (fun _ _ hq => ?_)
        refine go_jE hq ?_
        refine r_pop (pc := 45) dJ28_listFromTrustedArray_45 rfl ?_
        refine r_iinc (pc := 46) (L' := [_, _, _, _, _]) dJ28_listFromTrustedArray_46 rfl rfl ?_
        refine r_goto (pc := 49) (tgt := 30) dJ28_listFromTrustedArray_49 (by decide) ?_
        refine goL (L' := [some (.ref ar), some (.ref ar), some (.int (iZ n)), some (.int (iZ (k + 1 : Nat))), none]) ⟨rfl, rfl, rfl, rfl, trivial⟩ ?_
        exact ih30 (k + 1) (by omega) (by omega)
  exact loop30 _ 0 (by omega) (Nat.lt_succ_self _)
theorem t_J36_of {G : Gl} {h : Hp} {e : Nat → Nat} (tg : Tg) (ht : tg ≠ frz) (he : OBs 3 e h) : Ct G 6 7 yJ36_of (Cond.code yJ36_of cJ36_of 3 (some (.object "java/util/List"))) [.ref (e 0), .ref (e 1), .ref (e 2)] h (jX (fun q h' => LN tg q 3 e h' ∧ Fr pN h h')) noX := by
  have hp := PW.nil (h := h)
  obtain ⟨y0, i0, f0, p0⟩ := he 0 (by decide)
  obtain ⟨y1, i1, f1, p1⟩ := he 1 (by decide)
  obtain ⟨y2, i2, f2, p2⟩ := he 2 (by decide)
  refine Ct.of (own := "java/util/List") (nm := "of") (by decide +kernel) rfl rfl (L := [some (.ref (e 0)), some (.ref (e 1)), some (.ref (e 2))]) rfl (Nat.le_of_ble_eq_true rfl) rfl ?_
  refine r_iconst (pc := 0) dJ36_of_0 ?_
  refine r_newQ (pc := 1) (N := 3) (kb' := 3) (tg) dJ36_of_1 q375 q279 rfl (by omega) (Nat.le_of_ble_eq_true rfl) (fun w hw zw => ?_)
  refine go_pw (hp.new hw _) (fun h hp => ?_)
  have hwn := hw
  refine r_dup (pc := 4) dJ36_of_4 rfl ?_
  refine r_iconst (pc := 5) dJ36_of_5 ?_
  refine r_aload_n (pc := 6) dJ36_of_6 rfl ?_
  refine r_aast (pc := 7) dJ36_of_7 (hp.at 0 rfl) ht ((hp.ot ⟨(ne_nw p0 hw).symm, trivial⟩).trans p0) (by omega) (by omega) (by omega) ?_
  refine go_pw (hp.put 0 rfl) (fun h hp => ?_)
  refine r_dup (pc := 8) dJ36_of_8 rfl ?_
  refine r_iconst (pc := 9) dJ36_of_9 ?_
  refine r_aload_n (pc := 10) dJ36_of_10 rfl ?_
  refine r_aast (pc := 11) dJ36_of_11 (hp.at 0 rfl) ht ((hp.ot ⟨(ne_nw p1 hw).symm, trivial⟩).trans p1) (by omega) (by omega) (by omega) ?_
  refine go_pw (hp.put 0 rfl) (fun h hp => ?_)
  refine r_dup (pc := 12) dJ36_of_12 rfl ?_
  refine r_iconst (pc := 13) dJ36_of_13 ?_
  refine r_aload_n (pc := 14) dJ36_of_14 rfl ?_
  refine r_aast (pc := 15) dJ36_of_15 (hp.at 0 rfl) ht ((hp.ot ⟨(ne_nw p2 hw).symm, trivial⟩).trans p2) (by omega) (by omega) (by omega) ?_
  refine go_pw (hp.put 0 rfl) (fun h hp => ?_)
  refine r_callS (pc := 16) (kb' := 0) dJ36_of_16 kJ28_listFromTrustedArray q376 (t_J28_listFromTrustedArray (e := e) ht (hp.at 0 rfl) (by omega) (fun | 0, _ => rfl | 1, _ => rfl | 2, _ => rfl | _ + 3, hi => absurd hi (by omega))) (Nat.le_of_ble_eq_true rfl) (Nat.le_of_ble_eq_true rfl) rfl rfl (Nat.le_of_ble_eq_true rfl) (fun _ _ q => q.elim) (fun _ h hq => ?_)
  refine go_jX hq (fun q hq => ?_)
  exact r_aret (pc := 19) dJ36_of_19 rfl (Or.inl ⟨_, rfl⟩) (Or.inr ⟨_, rfl⟩) ⟨q, rfl, hq.1, (hp.fr (P := pN) ⟨Or.inl hwn, trivial⟩).tr hq.2⟩
theorem t_J36_of_2 {G : Gl} {h : Hp} {e : Nat → Nat} (tg : Tg) (ht : tg ≠ frz) (he : OBs 8 e h) : Ct G 6 12 yJ36_of_2 (Cond.code yJ36_of_2 cJ36_of_2 8 (some (.object "java/util/List"))) [.ref (e 0), .ref (e 1), .ref (e 2), .ref (e 3), .ref (e 4), .ref (e 5), .ref (e 6), .ref (e 7)] h (jX (fun q h' => LN tg q 8 e h' ∧ Fr pN h h')) noX := by
  have hp := PW.nil (h := h)
  obtain ⟨y0, i0, f0, p0⟩ := he 0 (by decide)
  obtain ⟨y1, i1, f1, p1⟩ := he 1 (by decide)
  obtain ⟨y2, i2, f2, p2⟩ := he 2 (by decide)
  obtain ⟨y3, i3, f3, p3⟩ := he 3 (by decide)
  obtain ⟨y4, i4, f4, p4⟩ := he 4 (by decide)
  obtain ⟨y5, i5, f5, p5⟩ := he 5 (by decide)
  obtain ⟨y6, i6, f6, p6⟩ := he 6 (by decide)
  obtain ⟨y7, i7, f7, p7⟩ := he 7 (by decide)
  refine Ct.of (own := "java/util/List") (nm := "of") (by decide +kernel) rfl rfl (L := [some (.ref (e 0)), some (.ref (e 1)), some (.ref (e 2)), some (.ref (e 3)), some (.ref (e 4)), some (.ref (e 5)), some (.ref (e 6)), some (.ref (e 7))]) rfl (Nat.le_of_ble_eq_true rfl) rfl ?_
  refine r_bipush (pc := 0) dJ36_of_2_0 (by decide) ?_
  refine r_newQ (pc := 2) (N := 8) (kb' := 3) (tg) dJ36_of_2_2 q375 q279 rfl (by omega) (Nat.le_of_ble_eq_true rfl) (fun w hw zw => ?_)
  refine go_pw (hp.new hw _) (fun h hp => ?_)
  have hwn := hw
  refine r_dup (pc := 5) dJ36_of_2_5 rfl ?_
  refine r_iconst (pc := 6) dJ36_of_2_6 ?_
  refine r_aload_n (pc := 7) dJ36_of_2_7 rfl ?_
  refine r_aast (pc := 8) dJ36_of_2_8 (hp.at 0 rfl) ht ((hp.ot ⟨(ne_nw p0 hw).symm, trivial⟩).trans p0) (by omega) (by omega) (by omega) ?_
  refine go_pw (hp.put 0 rfl) (fun h hp => ?_)
  refine r_dup (pc := 9) dJ36_of_2_9 rfl ?_
  refine r_iconst (pc := 10) dJ36_of_2_10 ?_
  refine r_aload_n (pc := 11) dJ36_of_2_11 rfl ?_
  refine r_aast (pc := 12) dJ36_of_2_12 (hp.at 0 rfl) ht ((hp.ot ⟨(ne_nw p1 hw).symm, trivial⟩).trans p1) (by omega) (by omega) (by omega) ?_
  refine go_pw (hp.put 0 rfl) (fun h hp => ?_)
  refine r_dup (pc := 13) dJ36_of_2_13 rfl ?_
  refine r_iconst (pc := 14) dJ36_of_2_14 ?_
  refine r_aload_n (pc := 15) dJ36_of_2_15 rfl ?_
  refine r_aast (pc := 16) dJ36_of_2_16 (hp.at 0 rfl) ht ((hp.ot ⟨(ne_nw p2 hw).symm, trivial⟩).trans p2) (by omega) (by omega) (by omega) ?_
  refine go_pw (hp.put 0 rfl) (fun h hp => ?_)
  refine r_dup (pc := 17) dJ36_of_2_17 rfl ?_
  refine r_iconst (pc := 18) dJ36_of_2_18 ?_
  refine r_aload_n (pc := 19) dJ36_of_2_19 rfl ?_
  refine r_aast (pc := 20) dJ36_of_2_20 (hp.at 0 rfl) ht ((hp.ot ⟨(ne_nw p3 hw).symm, trivial⟩).trans p3) (by omega) (by omega) (by omega) ?_
  refine go_pw (hp.put 0 rfl) (fun h hp => ?_)
  refine r_dup (pc := 21) dJ36_of_2_21 rfl ?_
  refine r_iconst (pc := 22) dJ36_of_2_22 ?_
  refine r_aload (pc := 23) dJ36_of_2_23 rfl ?_
  refine r_aast (pc := 25) dJ36_of_2_25 (hp.at 0 rfl) ht ((hp.ot ⟨(ne_nw p4 hw).symm, trivial⟩).trans p4) (by omega) (by omega) (by omega) ?_
  refine go_pw (hp.put 0 rfl) (fun h hp => ?_)
  refine r_dup (pc := 26) dJ36_of_2_26 rfl ?_
  refine r_iconst (pc := 27) dJ36_of_2_27 ?_
  refine r_aload (pc := 28) dJ36_of_2_28 rfl ?_
  refine r_aast (pc := 30) dJ36_of_2_30 (hp.at 0 rfl) ht ((hp.ot ⟨(ne_nw p5 hw).symm, trivial⟩).trans p5) (by omega) (by omega) (by omega) ?_
  refine go_pw (hp.put 0 rfl) (fun h hp => ?_)
  refine r_dup (pc := 31) dJ36_of_2_31 rfl ?_
  refine r_bipush (pc := 32) dJ36_of_2_32 (by decide) ?_
  refine r_aload (pc := 34) dJ36_of_2_34 rfl ?_
  refine r_aast (pc := 36) dJ36_of_2_36 (hp.at 0 rfl) ht ((hp.ot ⟨(ne_nw p6 hw).symm, trivial⟩).trans p6) (by omega) (by omega) (by omega) ?_
  refine go_pw (hp.put 0 rfl) (fun h hp => ?_)
  refine r_dup (pc := 37) dJ36_of_2_37 rfl ?_
  refine r_bipush (pc := 38) dJ36_of_2_38 (by decide) ?_
  refine r_aload (pc := 40) dJ36_of_2_40 rfl ?_
  refine r_aast (pc := 42) dJ36_of_2_42 (hp.at 0 rfl) ht ((hp.ot ⟨(ne_nw p7 hw).symm, trivial⟩).trans p7) (by omega) (by omega) (by omega) ?_
  refine go_pw (hp.put 0 rfl) (fun h hp => ?_)
  refine r_callS (pc := 43) (kb' := 0) dJ36_of_2_43 kJ28_listFromTrustedArray q376 (t_J28_listFromTrustedArray (e := e) ht (hp.at 0 rfl) (by omega) (fun | 0, _ => rfl | 1, _ => rfl | 2, _ => rfl | 3, _ => rfl | 4, _ => rfl | 5, _ => rfl | 6, _ => rfl | 7, _ => rfl | _ + 8, hi => absurd hi (by omega))) (Nat.le_of_ble_eq_true rfl) (Nat.le_of_ble_eq_true rfl) rfl rfl (Nat.le_of_ble_eq_true rfl) (fun _ _ q => q.elim) (fun _ h hq => ?_)
  refine go_jX hq (fun q hq => ?_)
  exact r_aret (pc := 46) dJ36_of_2_46 rfl (Or.inl ⟨_, rfl⟩) (Or.inr ⟨_, rfl⟩) ⟨q, rfl, hq.1, (hp.fr (P := pN) ⟨Or.inl hwn, trivial⟩).tr hq.2⟩
theorem t_J40_size {G : Gl} {h : Hp} {ls n : Nat} {t : Tg} {e : Nat → Nat} (hA : LN t ls n e h) : Ct G 1 0 yJ40_size (Cond.code yJ40_size cJ40_size 1 (some .int)) [.ref ls] h (jE (.int (iZ n)) h) noX := by
  have hA0 := hA
  obtain ⟨ar, f, q1, q2, q3, q4⟩ := hA0
  refine Ct.of (own := "java/util/ImmutableCollections$ListN") (nm := "size") (by decide +kernel) rfl rfl (L := [some (.ref ls)]) rfl (Nat.le_of_ble_eq_true rfl) rfl ?_
  refine r_aload_n (pc := 0) dJ40_size_0 rfl ?_
  refine gJ40_7 (pc := 1) dJ40_size_1 q1 rfl ?_
  refine r_alen (pc := 4) dJ40_size_4 (by decide) q2 (by omega) ?_
  exact r_iret (pc := 5) dJ40_size_5 rfl rfl ⟨rfl, rfl⟩
theorem t_J40_get {G : Gl} {h : Hp} {ls n : Nat} {t : Tg} {e : Nat → Nat} (hA : LN t ls n e h) {i : Nat} (hi : i < n) : Ct G 1 0 yJ40_get (Cond.code yJ40_get cJ40_get 2 (some (.object "java/lang/Object"))) [.ref ls, .int (iZ i)] h (jE (.ref (e i)) h) noX := by
  have hA0 := hA
  obtain ⟨ar, f, q1, q2, q3, q4⟩ := hA0
  refine Ct.of (own := "java/util/ImmutableCollections$ListN") (nm := "get") (by decide +kernel) rfl rfl (L := [some (.ref ls), some (.int (iZ i))]) rfl (Nat.le_of_ble_eq_true rfl) rfl ?_
  refine r_aload_n (pc := 0) dJ40_get_0 rfl ?_
  refine gJ40_7 (pc := 1) dJ40_get_1 q1 rfl ?_
  refine r_iload_n (pc := 4) dJ40_get_4 rfl ?_
  refine r_aald (pc := 5) dJ40_get_5 (by decide) q2 (by omega) (by omega) (by omega) ?_
  refine go_cv (w := .ref (e i)) (by rw [show (i : Int).toNat = i from rfl, q4 i hi]; rfl) ?_
  exact r_aret (pc := 6) dJ40_get_6 rfl (Or.inl ⟨_, rfl⟩) (Or.inr ⟨_, rfl⟩) ⟨rfl, rfl⟩
theorem t_J41_init {G : Gl} {h : Hp} {q ls : Nat} {n : Int} {t : Tg} (h1 : h q = some (t, ob 19 [.null, .int 0, .int 0, .int 0])) (ht : t ≠ frz) : Ct G 1 0 yJ41_init (Cond.code yJ41_init cJ41_init 3 (none)) [.ref q, .ref ls, .int (iZ n)] h (jN (· = up h q (t, ob 19 [.ref ls, .int (iZ n), .int (iZ 0), .int (iZ 0)]))) noX := by
  have hp := PW.one h1
  refine Ct.of (own := "java/util/ImmutableCollections$ListItr") (nm := "<init>") (by decide +kernel) rfl rfl (L := [some (.ref q), some (.ref ls), some (.int (iZ n))]) rfl (Nat.le_of_ble_eq_true rfl) rfl ?_
  refine r_aload_n (pc := 0) dJ41_init_0 rfl ?_
  refine r_objInit (pc := 1) dJ41_init_1 q1060 q169 q170 (by decide) (Nat.le_of_ble_eq_true rfl) ?_
  refine r_aload_n (pc := 4) dJ41_init_4 rfl ?_
  refine r_aload_n (pc := 5) dJ41_init_5 rfl ?_
  refine pJ41_7 (pc := 6) dJ41_init_6 rfl rfl rfl rfl (hp.at 0 rfl) ht (Nat.le_of_ble_eq_true rfl) ?_
  refine go_pw (hp.put 0 rfl) (fun h hp => ?_)
  refine r_aload_n (pc := 9) dJ41_init_9 rfl ?_
  refine r_iload_n (pc := 10) dJ41_init_10 rfl ?_
  refine pJ41_13 (pc := 11) dJ41_init_11 rfl (hp.at 0 rfl) ht (Nat.le_of_ble_eq_true rfl) ?_
  refine go_pw (hp.put 0 rfl) (fun h hp => ?_)
  refine r_aload_n (pc := 14) dJ41_init_14 rfl ?_
  refine r_iconst (pc := 15) dJ41_init_15 ?_
  refine pJ41_17 (pc := 16) dJ41_init_16 (hp.at 0 rfl) ht (Nat.le_of_ble_eq_true rfl) ?_
  refine go_pw (hp.put 0 rfl) (fun h hp => ?_)
  refine r_aload_n (pc := 19) dJ41_init_19 rfl ?_
  refine r_iconst (pc := 20) dJ41_init_20 ?_
  refine pJ41_20 (pc := 21) dJ41_init_21 rfl (iZ01' (by first | (left; rfl) | (right; rfl) | exact bZ_01' _ | omega)) (hp.at 0 rfl) ht (Nat.le_of_ble_eq_true rfl) ?_
  refine go_pw (hp.put 0 rfl) (fun h hp => ?_)
  exact r_vret (pc := 24) dJ41_init_24 rfl ⟨rfl, hp.eq1⟩
theorem t_J38_iterator {G : Gl} {h : Hp} {ls n : Nat} {t : Tg} {e : Nat → Nat} (hA : LN t ls n e h) (tg : Tg) (ht : tg ≠ frz) : Ct G 2 5 yJ38_iterator (Cond.code yJ38_iterator cJ38_iterator 1 (some (.object "java/util/Iterator"))) [.ref ls] h (jX (fun q h' => h q = none ∧ h' = up h q (tg, ob 19 [.ref ls, .int (iZ n), .int (iZ 0), .int (iZ 0)]))) noX := by
  have hA0 := hA
  obtain ⟨ar, f, q1, q2, q3, q4⟩ := hA0
  have hp := PW.nil (h := h)
  refine Ct.of (own := "java/util/ImmutableCollections$AbstractImmutableList") (nm := "iterator") (by decide +kernel) rfl rfl (L := [some (.ref ls)]) rfl (Nat.le_of_ble_eq_true rfl) rfl ?_
  refine r_new (pc := 0) (ci := 19) (T := TJ41) (N := 4) (tg) [.null, .int 0, .int 0, .int 0] (kb' := 0) dJ38_iterator_0 rfl q1055 q1056 q156 (by intro j hj; revert j; decide +kernel) (Nat.le_of_ble_eq_true rfl) (fun q hq zq => ?_)
  refine go_pw (hp.new hq _) (fun h hp => ?_)
  have hqn := hq
  refine r_dup (pc := 3) dJ38_iterator_3 rfl ?_
  refine r_aload_n (pc := 4) dJ38_iterator_4 rfl ?_
  refine r_aload_n (pc := 5) dJ38_iterator_5 rfl ?_
  refine r_callG (pc := 6) (kb' := 0) dJ38_iterator_6 cuJ38_13_18 (t_J40_size (hA.fr (hp.fr (P := pN) ⟨Or.inl hqn, trivial⟩) (fun q => q))) ((hp.ot ⟨(ne_nw q1 hqn).symm, trivial⟩).trans q1) rfl (Nat.le_refl _) (Nat.le_of_ble_eq_true rfl) rfl rfl (Nat.le_of_ble_eq_true rfl) (fun _ _ q => q.elim) (fun _ _ hq => ?_)
  refine go_jE hq ?_
  refine r_callI (pc := 9) (kb' := 0) dJ38_iterator_9 kJ41_init q1057 (t_J41_init (hp.at 0 rfl) ht) (Nat.le_refl _) (Nat.le_of_ble_eq_true rfl) rfl rfl (Nat.le_of_ble_eq_true rfl) (fun _ _ q => q.elim) (fun _ h hq => ?_)
  refine go_jN hq (fun e9 => ?_)
  subst e9
  refine go_pw (hp.put 0 rfl) (fun h hp => ?_)
  exact r_aret (pc := 12) dJ38_iterator_12 rfl (Or.inl ⟨_, rfl⟩) (Or.inr ⟨_, rfl⟩) ⟨q, rfl, hqn, hp.eq1⟩
theorem t_J41_hasNext {G : Gl} {h : Hp} {a ls n k : Nat} {t : Tg} (h1 : h a = some (t, ob 19 [.ref ls, .int (iZ n), .int (iZ 0), .int (iZ k)])) (hk : k ≤ n ∧ n ≤ 8) : Ct G 1 0 yJ41_hasNext (Cond.code yJ41_hasNext cJ41_hasNext 1 (some .boolean)) [.ref a] h (jE (.int (iZ (bZ (k < n)))) h) noX := by
  refine Ct.of (own := "java/util/ImmutableCollections$ListItr") (nm := "hasNext") (by decide +kernel) rfl rfl (L := [some (.ref a)]) rfl (Nat.le_of_ble_eq_true rfl) rfl ?_
  refine r_aload_n (pc := 0) dJ41_hasNext_0 rfl ?_
  refine gJ41_17 (pc := 1) dJ41_hasNext_1 h1 rfl ?_
  refine r_aload_n (pc := 4) dJ41_hasNext_4 rfl ?_
  refine gJ41_13 (pc := 5) dJ41_hasNext_5 h1 rfl ?_
  refine r_icmp_eq (pc := 8) (tgt := 15) dJ41_hasNext_8 (by decide) (by omega) (by omega) (fun c8 => ?_) (fun c8 => ?_)
  · refine r_iconst (pc := 15) dJ41_hasNext_15 ?_
    exact r_iret (pc := 16) dJ41_hasNext_16 rfl (nB' (by first | (left; rfl) | (right; rfl) | exact bZ_01' _ | omega)) ⟨by rw [bZ_f (by omega)], rfl⟩
  · refine r_iconst (pc := 11) dJ41_hasNext_11 ?_
    refine r_goto (pc := 12) (tgt := 16) dJ41_hasNext_12 (by decide) ?_
    exact r_iret (pc := 16) dJ41_hasNext_16 rfl (nB' (by first | (left; rfl) | (right; rfl) | exact bZ_01' _ | omega)) ⟨by rw [bZ_t (by omega)], rfl⟩
theorem t_J41_next {G : Gl} {h : Hp} {ls n : Nat} {t : Tg} {e : Nat → Nat} (hA : LN t ls n e h) {a k : Nat} {t2 : Tg} (h1 : h a = some (t2, ob 19 [.ref ls, .int (iZ n), .int (iZ 0), .int (iZ k)])) (ht : t2 ≠ frz) (hk : k < n) : Ct G 2 0 yJ41_next (Cond.codeWith yJ41_next cJ41_next 3 (some (.object "java/lang/Object")) [(0, 24, 25, 30)]) [.ref a] h (jP (.ref (e k)) (· = up h a (t2, ob 19 [.ref ls, .int (iZ n), .int (iZ 0), .int (iZ (k + 1 : Nat))]))) noX := by
  have hA0 := hA
  obtain ⟨ar, f, q1, q2, q3, q4⟩ := hA0
  have hp := PW.one h1
  refine Ct.ofH (own := "java/util/ImmutableCollections$ListItr") (nm := "next") (by decide +kernel) rfl rfl (L := [some (.ref a), none, none]) rfl (Nat.le_of_ble_eq_true rfl) rfl ?_
  refine r_aload_n (pc := 0) dJ41_next_0 rfl ?_
  refine gJ41_17 (pc := 1) dJ41_next_1 (hp.at 0 rfl) rfl ?_
  refine r_istore_n (pc := 4) (L' := [_, _, _]) dJ41_next_4 rfl ?_
  refine r_aload_n (pc := 5) dJ41_next_5 rfl ?_
  refine gJ41_7 (pc := 6) dJ41_next_6 (hp.at 0 rfl) rfl ?_
  refine r_iload_n (pc := 9) dJ41_next_9 rfl ?_
  refine r_callF (pc := 10) (kb' := 0) dJ41_next_10 10 rfl f10 q979 (t_J40_get hA hk) q1 rfl (Nat.le_refl _) (Nat.le_of_ble_eq_true rfl) rfl rfl (Nat.le_of_ble_eq_true rfl) (fun _ _ q => q.elim) (fun _ _ hq => ?_)
  refine go_jE hq ?_
  refine r_astore_n (pc := 15) (L' := [_, _, _]) dJ41_next_15 rfl ?_
  refine r_aload_n (pc := 16) dJ41_next_16 rfl ?_
  refine r_iload_n (pc := 17) dJ41_next_17 rfl ?_
  refine r_iconst (pc := 18) dJ41_next_18 ?_
  refine r_iadd (pc := 19) dJ41_next_19 ?_
  refine pJ41_17 (pc := 20) dJ41_next_20 (hp.at 0 rfl) ht (Nat.le_of_ble_eq_true rfl) ?_
  refine go_pw (hp.put 0 rfl) (fun h hp => ?_)
  refine r_aload_n (pc := 23) dJ41_next_23 rfl ?_
  exact r_aret (pc := 24) dJ41_next_24 rfl (Or.inl ⟨_, rfl⟩) (Or.inr ⟨_, rfl⟩) ⟨rfl, hp.eq1⟩
theorem t_J40_indexOf {G : Gl} {h : Hp} {ls n : Nat} {t : Tg} {e : Nat → Nat} (hA : LN t ls n e h) {s m : Nat} {t1 t2 t3 t4 : Tg} {d : Nat → Int} {wl : Nat → Nat} {wc : Nat → Nat → Int} (hS : ST t1 t2 s m d h) (hW : ∀ i, i < n → ST t3 t4 (e i) (wl i) (wc i) h) : Ct G 4 0 yJ40_indexOf (Cond.code yJ40_indexOf cJ40_indexOf 4 (some .int)) [.ref ls, .ref s] h (jE (.int (iZ (fnd n (fun i => m = wl i.toNat ∧ ∀ x, x < m → d x = wc i.toNat x)))) h) noX := by
  have hA0 := hA
  obtain ⟨ar, f, q1, q2, q3, q4⟩ := hA0
  have hin := fnd_in (N := n) (p := fun i => m = wl i.toNat ∧ ∀ x, x < m → d x = wc i.toNat x) (by omega)
  refine Ct.of (own := "java/util/ImmutableCollections$ListN") (nm := "indexOf") (by decide +kernel) rfl rfl (L := [some (.ref ls), some (.ref s), none, none]) rfl (Nat.le_of_ble_eq_true rfl) rfl ?_
  refine r_aload_n (pc := 0) dJ40_indexOf_0 rfl ?_
  refine gJ40_13 (pc := 1) dJ40_indexOf_1 q1 rfl ?_
  refine r_if_ne (pc := 4) (tgt := 19) dJ40_indexOf_4 (by decide) (by decide) (fun q => absurd q (by decide)) (fun _ => ?_)
  refine r_aload_n (pc := 7) dJ40_indexOf_7 rfl ?_
  refine r_ifnonnull (pc := 8) (tgt := 19) dJ40_indexOf_8 (by decide) ?_
  refine r_aload_n (pc := 19) dJ40_indexOf_19 rfl ?_
  refine gJ40_7 (pc := 20) dJ40_indexOf_20 q1 rfl ?_
  refine r_astore_n (pc := 23) (L' := [_, _, _, _]) dJ40_indexOf_23 rfl ?_
  refine r_iconst (pc := 24) dJ40_indexOf_24 ?_
  refine r_istore_n (pc := 25) (L' := [_, _, _, _]) dJ40_indexOf_25 rfl ?_
  have loop26 : ∀ (k26 : Nat) (z : Int), (0 ≤ z) → (z ≤ n) → (fnd n (fun i => m = wl i.toNat ∧ ∀ x, x < m → d x = wc i.toNat x) = fndZ (fun i => m = wl i.toNat ∧ ∀ x, x < m → d x = wc i.toNat x) z ((n : Int) - z).toNat) → ((n : Int) - z).toNat < k26 → Go G "java/util/ImmutableCollections$ListN" cJ40_indexOf (4, some .int, "indexOf", []) 4 0 (jE (.int (iZ (fnd n (fun i => m = wl i.toNat ∧ ∀ x, x < m → d x = wc i.toNat x)))) h) (noX) 0 h 26 [some (.ref ls), some (.ref s), some (.ref ar), some (.int (iZ z))] [] := by
    intro k26
    induction k26 with
    | zero => intro z z0 z1 hz hk; omega
    | succ k26 ih26 =>
      intro z z0 z1 hz hk26
      refine r_iload_n (pc := 26) dJ40_indexOf_26 rfl ?_
      refine r_aload_n (pc := 27) dJ40_indexOf_27 rfl ?_
      refine r_alen (pc := 28) dJ40_indexOf_28 (by decide) q2 (by omega) ?_
      refine r_icmp_ge (pc := 29) (tgt := 50) dJ40_indexOf_29 (by decide) (by omega) (by omega) (fun c29 => ?_) (fun c29 => ?_)
      · refine r_iconst (pc := 50) dJ40_indexOf_50 ?_
        exact r_iret (pc := 51) dJ40_indexOf_51 rfl rfl ⟨by rw [hz, fnd_e (by omega)], rfl⟩
      · refine r_aload_n (pc := 32) dJ40_indexOf_32 rfl ?_
        refine r_aload_n (pc := 33) dJ40_indexOf_33 rfl ?_
        refine r_iload_n (pc := 34) dJ40_indexOf_34 rfl ?_
        refine r_aald (pc := 35) dJ40_indexOf_35 (by decide) q2 (by omega) (by omega) (by omega) ?_
        refine go_cv (w := .ref (e z.toNat)) (by rw [q4 _ (by omega)]; rfl) ?_
        refine r_callS (pc := 36) (kb' := 0) dJ40_indexOf_36 kJ15_equals q2297 (t_J15_equals hS (hW z.toNat (by omega))) (Nat.le_refl _) (Nat.le_of_ble_eq_true rfl) rfl rfl (Nat.le_of_ble_eq_true rfl) (fun _ _ q => q.elim) (fun _ _ hq => ?_)
        refine go_jE hq ?_
        refine r_ifB_eq (pc := 39) (tgt := 44) dJ40_indexOf_39 (by decide) (fun c39 => ?_) (fun c39 => ?_)
        · refine r_iinc (pc := 44) (L' := [_, _, _, _]) dJ40_indexOf_44 rfl rfl ?_
          refine r_goto (pc := 47) (tgt := 26) dJ40_indexOf_47 (by decide) ?_
          exact ih26 _ (by omega) (by omega) (by rw [hz, fnd_s (by omega), if_neg c39]) (by omega)
        · refine r_iload_n (pc := 42) dJ40_indexOf_42 rfl ?_
          exact r_iret (pc := 43) dJ40_indexOf_43 rfl rfl ⟨by rw [hz, fnd_s (by omega), if_pos c39], rfl⟩
  exact loop26 _ _ (by omega) (by omega) (by rw [Int.sub_zero]; rfl) (Nat.lt_succ_self _)
theorem t_J38_contains {G : Gl} {h : Hp} {ls n : Nat} {t : Tg} {e : Nat → Nat} (hA : LN t ls n e h) {s m : Nat} {t1 t2 t3 t4 : Tg} {d : Nat → Int} {wl : Nat → Nat} {wc : Nat → Nat → Int} (hS : ST t1 t2 s m d h) (hW : ∀ i, i < n → ST t3 t4 (e i) (wl i) (wc i) h) : Ct G 5 0 yJ38_contains (Cond.code yJ38_contains cJ38_contains 2 (some .boolean)) [.ref ls, .ref s] h (jE (.int (iZ (bZ (0 ≤ fnd n (fun i => m = wl i.toNat ∧ ∀ x, x < m → d x = wc i.toNat x))))) h) noX := by
  have hA0 := hA
  obtain ⟨ar, f, q1, q2, q3, q4⟩ := hA0
  have hin := fnd_in (N := n) (p := fun i => m = wl i.toNat ∧ ∀ x, x < m → d x = wc i.toNat x) (by omega)
  refine Ct.of (own := "java/util/ImmutableCollections$AbstractImmutableList") (nm := "contains") (by decide +kernel) rfl rfl (L := [some (.ref ls), some (.ref s)]) rfl (Nat.le_of_ble_eq_true rfl) rfl ?_
  refine r_aload_n (pc := 0) dJ38_contains_0 rfl ?_
  refine r_aload_n (pc := 1) dJ38_contains_1 rfl ?_
  refine r_callG (pc := 2) (kb' := 0) dJ38_contains_2 cuX_107 (t_J40_indexOf hA hS hW) q1 rfl (Nat.le_refl _) (Nat.le_of_ble_eq_true rfl) rfl rfl (Nat.le_of_ble_eq_true rfl) (fun _ _ q => q.elim) (fun _ _ hq => ?_)
  refine go_jE hq ?_
  refine r_if_lt (pc := 5) (tgt := 12) dJ38_contains_5 (by decide) (by omega) (fun c5 => ?_) (fun c5 => ?_)
  · refine r_iconst (pc := 12) dJ38_contains_12 ?_
    exact r_iret (pc := 13) dJ38_contains_13 rfl (nB' (by first | (left; rfl) | (right; rfl) | exact bZ_01' _ | omega)) ⟨by rw [bZ_f (by omega)], rfl⟩
  · refine r_iconst (pc := 8) dJ38_contains_8 ?_
    refine r_goto (pc := 9) (tgt := 13) dJ38_contains_9 (by decide) ?_
    exact r_iret (pc := 13) dJ38_contains_13 rfl (nB' (by first | (left; rfl) | (right; rfl) | exact bZ_01' _ | omega)) ⟨by rw [bZ_t (by omega)], rfl⟩
theorem t_J23_intValue {G : Gl} {h : Hp} {a : Nat} {t : Tg} {z : Int} (h1 : h a = some (t, ob 17 [.int (iZ z)])) : Ct G 1 0 yJ23_intValue (Cond.code yJ23_intValue cJ23_intValue 1 (some .int)) [.ref a] h (jE (.int (iZ z)) h) noX := by
  refine Ct.of (own := "java/lang/Integer") (nm := "intValue") (by decide +kernel) rfl rfl (L := [some (.ref a)]) rfl (Nat.le_of_ble_eq_true rfl) rfl ?_
  refine r_aload_n (pc := 0) dJ23_intValue_0 rfl ?_
  refine gJ23_205 (pc := 1) dJ23_intValue_1 h1 rfl ?_
  exact r_iret (pc := 4) dJ23_intValue_4 rfl rfl ⟨rfl, rfl⟩
theorem t_J23_valueOf {G : Gl} {h : Hp} {z : Int} {t : Tg} (h1 : h (gS G 1) = some (t, aQ "java/lang/Integer" 256 (fun i => some (gS G (100 + i))))) (hz : 0 ≤ z ∧ z < 128) : Ct G 1 0 yJ23_valueOf (Cond.code yJ23_valueOf cJ23_valueOf 1 (some (.object "java/lang/Integer"))) [.int (iZ z)] h (jE (.ref (gS G (228 + z.toNat))) h) noX := by
  refine Ct.of (own := "java/lang/Integer") (nm := "valueOf") (by decide +kernel) rfl rfl (L := [some (.int (iZ z))]) rfl (Nat.le_of_ble_eq_true rfl) rfl ?_
  refine r_iload_n (pc := 0) dJ23_valueOf_0 rfl ?_
  refine r_bipush (pc := 1) dJ23_valueOf_1 (by decide) ?_
  refine r_icmp_lt (pc := 3) (tgt := 23) dJ23_valueOf_3 (by decide) (by omega) (by omega) (fun c3 => absurd c3 (by omega)) (fun c3 => ?_)
  refine r_iload_n (pc := 6) dJ23_valueOf_6 rfl ?_
  refine r_gets (pc := 7) dJ23_valueOf_7 2 rfl q355 rfl ?_
  refine go_ci (z := 127) rfl ?_
  refine r_icmp_gt (pc := 10) (tgt := 23) dJ23_valueOf_10 (by decide) (by omega) (by omega) (fun c10 => absurd c10 (by omega)) (fun c10 => ?_)
  refine r_gets (pc := 13) dJ23_valueOf_13 3 rfl q357 rfl ?_
  refine r_iload_n (pc := 16) dJ23_valueOf_16 rfl ?_
  refine r_sipush (pc := 17) dJ23_valueOf_17 (by decide) ?_
  refine r_iadd (pc := 20) dJ23_valueOf_20 ?_
  refine r_aald (pc := 21) dJ23_valueOf_21 (by decide) h1 (by omega) (by omega) (by omega) ?_
  refine go_cv (w := .ref (gS G (228 + z.toNat))) (by show va_rf (some _) = _; rw [show 100 + (z + 128).toNat = 228 + z.toNat by omega]; rfl) ?_
  exact r_aret (pc := 22) dJ23_valueOf_22 rfl (Or.inl ⟨_, rfl⟩) (Or.inr ⟨_, rfl⟩) ⟨rfl, rfl⟩
