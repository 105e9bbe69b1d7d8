set_option maxRecDepth 100000
/-! the class, part 20: undo, save, restore -/
theorem SW.o {G : Gl} {T s : Nat} {r : Row} {h : Hp} (hS : SW G T s r h) : ∃ fs, h s = some ((T, 0), ob 1 fs) := by
  obtain ⟨_, _, _, _, _, _, _, _, _, _, w⟩ := hS
  exact ⟨_, w.1⟩

theorem t_X1_undo {G : Gl} {h9 : Hp} {o : Nat} {r : Row} {Y : KY} {s : Nat} {vs : Value} {hq0 ip ln : Nat} {rv : Value} {Tc Tv : Nat} {HT he : Nat → Nat} (hK : KWx G o (r, Y) s vs hq0 ip ln rv Tc Tv HT he h9) (hI : RI r) (hn : KX.hn (r, Y) ≤ 8) : Ct G 7 7 yX1_undo (Cond.code yX1_undo cX1_undo 1 (some .int)) [.ref o] h9 (kQ G o ((KX.hn (r, Y) : Int) - 1) (if KX.hn (r, Y) = 0 then 1 else 0) (((KX.wH (r, Y) (KX.hn (r, Y) - 1) (KX.hr (r, Y))).wR (KX.hr (r, Y) (KX.hn (r, Y) - 1)))) h9) (qX (if KX.hn (r, Y) = 0 then 1 else 0) eISE "" (· = h9)) := by
  obtain ⟨k1, k2, k3, k4, k5, k6, k7, k8, k9⟩ := id hK
  obtain ⟨al, cl, sl, m1, m2, m3, n1, n2, E, F, hX9⟩ := k2
  have hX9 : SWx G Tc s r al cl sl m1 m2 m3 n1 n2 E F h9 := hX9
  have hb9 := k1
  have hF : Fr pQ h9 h9 := Fr.rf
  have hb := hb9
  have hX := hX9
  have b := hI.1
  have hX2 := hX
  obtain ⟨w1, w2, w3, w4, w5, w6, w7, w8⟩ := hX2
  obtain ⟨ar1, w2s⟩ := w2.size
  obtain ⟨k4a, k4b, k4c, k4o⟩ := k4.o
  refine Ct.of (own := "CharterKiln") (nm := "undo") (by decide +kernel) rfl rfl (L := [some (.ref o)]) rfl (Nat.le_of_ble_eq_true rfl) rfl ?_
  refine r_aload_n (pc := 0) dX1_undo_0 rfl ?_
  refine gX1_19 (pc := 1) dX1_undo_1 hb rfl ?_
  refine r_callV (pc := 4) (kb' := 7) dX1_undo_4 kJ5_isEmpty q2664 (t_J5_isEmpty k4) k4o rfl (Nat.le_refl _) (Nat.le_of_ble_eq_true rfl) rfl rfl (Nat.le_of_ble_eq_true rfl) (fun _ _ q => q.elim) (fun _ _ hq => ?_)
  refine go_jE hq ?_
  refine r_ifB_ne (pc := 7) (tgt := 14) dX1_undo_7 (by decide) (fun c7 => ?_) (fun c7 => ?_)
  · refine r_iconst (pc := 14) dX1_undo_14 ?_
    refine go_cz (w := bZ (KX.hn (r, Y) ≠ 0)) (bZ_f (by first | assumption | omega)).symm ?_
    refine r_callS (pc := 15) (kb' := 0) dX1_undo_15 kX1_checkState q2182 (t_X1_checkState (p := KX.hn (r, Y) ≠ 0)) (Nat.le_of_ble_eq_true rfl) (Nat.le_of_ble_eq_true rfl) rfl rfl (Nat.le_of_ble_eq_true rfl) (fun E h7 hx => x_out rfl ⟨Or.inl ⟨hx.1, if_pos (Classical.not_not.mp hx.2.1)⟩, hx.2.2⟩) (fun _ h hq => ?_)
    refine go_jN hq (fun hq2 => ?_)
    obtain ⟨e9, hpx⟩ := hq2
    replace e9 := e9.symm
    subst e9
    obtain ⟨N9, hn9⟩ : ∃ N, KX.hn (r, Y) = N + 1 := ⟨KX.hn (r, Y) - 1, by omega⟩
    refine r_aload_n (pc := 18) dX1_undo_18 rfl ?_
    refine r_aload_n (pc := 19) dX1_undo_19 rfl ?_
    refine gX1_19 (pc := 20) dX1_undo_20 hb rfl ?_
    refine r_callV (pc := 23) (kb' := 0) dX1_undo_23 kJ5_removeLast q2668 (t_J5_removeLast k4 (by decide) (by omega)) k4o rfl (Nat.le_refl _) (Nat.le_of_ble_eq_true rfl) rfl rfl (Nat.le_of_ble_eq_true rfl) (fun _ _ q => q.elim) (fun _ h hq => ?_)
    refine go_jP hq (fun hq2 => ?_)
    obtain ⟨hA, hf⟩ := hq2
    rw [show KX.hn (r, Y) - 1 = N9 by omega] at hA ⊢
    have hK2 := hK.chD hn9 hf hA
    have hSn : SW G (HT N9) (he N9) (KX.hr (r, Y) N9) h := (k5 N9 (by omega)).fr hf (fun k hk => ne21 (by have := (k9.2.2.2.1 N9 (by omega)).1; omega)) fz2
    have hT9 := k9.2.2.2.1 N9 (by omega)
    obtain ⟨nsf, nsw⟩ := hSn.o
    have hb := hK2.1
    refine r_cast (pc := 26) dX1_undo_26 q171 nsw rfl ?_
    refine pX1_10 (pc := 29) dX1_undo_29 rfl rfl rfl hb (by decide) (Nat.le_of_ble_eq_true rfl) ?_
    have hU : Fr (fun x => x = (2, 0)) h (up h o ((2, 0), ob 0 [.ref (he N9), vs, .ref hq0, .ref ip, .ref ln, .int (iZ (KX.wi (r, Y))), .int (iZ (KX.fp (r, Y))), rv])) := Fr.upd hK2.1 rfl
    replace hK2 := hK2.setS (r' := KX.hr (r, Y) N9) (s' := he N9) (T' := HT N9) hSn hT9.1 hT9.2.2 (fun i hi e => by have hi : i < N9 := hi; have := k9.2.2.2.2 i N9 (by omega) (by omega) e; omega) rfl
    have hG := hf.wk (Q := pC) p2_C
    replace hG := hG.tr (hU.wk p2_C)
    refine go_ho (h1 := up h o ((2, 0), ob 0 [.ref (he N9), vs, .ref hq0, .ref ip, .ref ln, .int (iZ (KX.wi (r, Y))), .int (iZ (KX.fp (r, Y))), rv])) rfl ?_
    generalize up h o ((2, 0), ob 0 [.ref (he N9), vs, .ref hq0, .ref ip, .ref ln, .int (iZ (KX.wi (r, Y))), .int (iZ (KX.fp (r, Y))), rv]) = h at hK2 hG ⊢
    obtain ⟨k1, k2, k3, k4, k5, k6, k7, k8, k9b⟩ := id hK2
    have hb := k1
    obtain ⟨k4a, k4b, k4c, k4o⟩ := k4.o
    refine r_aload_n (pc := 32) dX1_undo_32 rfl ?_
    refine gX1_19 (pc := 33) dX1_undo_33 hb rfl ?_
    refine r_callV (pc := 36) (kb' := 0) dX1_undo_36 kJ5_size q1707 (t_J5_size k4) k4o rfl (Nat.le_refl _) (Nat.le_of_ble_eq_true rfl) rfl rfl (Nat.le_of_ble_eq_true rfl) (fun _ _ q => q.elim) (fun _ _ hq => ?_)
    refine go_jE hq ?_
    refine go_cz (w := (KX.hn (r, Y) : Int) - 1) (by show (N9 : Int) = _; omega) ?_
    exact r_iret (pc := 39) dX1_undo_39 rfl rfl ⟨rfl, if_neg hpx, hK2.w, hG⟩
  · refine r_iconst (pc := 10) dX1_undo_10 ?_
    refine go_cz (w := bZ (KX.hn (r, Y) ≠ 0)) (bZ_t (by first | assumption | omega)).symm ?_
    refine r_goto (pc := 11) (tgt := 15) dX1_undo_11 (by decide) ?_
    refine r_callS (pc := 15) (kb' := 0) dX1_undo_15 kX1_checkState q2182 (t_X1_checkState (p := KX.hn (r, Y) ≠ 0)) (Nat.le_of_ble_eq_true rfl) (Nat.le_of_ble_eq_true rfl) rfl rfl (Nat.le_of_ble_eq_true rfl) (fun E h7 hx => x_out rfl ⟨Or.inl ⟨hx.1, if_pos (Classical.not_not.mp hx.2.1)⟩, hx.2.2⟩) (fun _ h hq => ?_)
    refine go_jN hq (fun hq2 => ?_)
    obtain ⟨e9, hpx⟩ := hq2
    replace e9 := e9.symm
    subst e9
    obtain ⟨N9, hn9⟩ : ∃ N, KX.hn (r, Y) = N + 1 := ⟨KX.hn (r, Y) - 1, by omega⟩
    refine r_aload_n (pc := 18) dX1_undo_18 rfl ?_
    refine r_aload_n (pc := 19) dX1_undo_19 rfl ?_
    refine gX1_19 (pc := 20) dX1_undo_20 hb rfl ?_
    refine r_callV (pc := 23) (kb' := 0) dX1_undo_23 kJ5_removeLast q2668 (t_J5_removeLast k4 (by decide) (by omega)) k4o rfl (Nat.le_refl _) (Nat.le_of_ble_eq_true rfl) rfl rfl (Nat.le_of_ble_eq_true rfl) (fun _ _ q => q.elim) (fun _ h hq => ?_)
    refine go_jP hq (fun hq2 => ?_)
    obtain ⟨hA, hf⟩ := hq2
    rw [show KX.hn (r, Y) - 1 = N9 by omega] at hA ⊢
    have hK2 := hK.chD hn9 hf hA
    have hSn : SW G (HT N9) (he N9) (KX.hr (r, Y) N9) h := (k5 N9 (by omega)).fr hf (fun k hk => ne21 (by have := (k9.2.2.2.1 N9 (by omega)).1; omega)) fz2
    have hT9 := k9.2.2.2.1 N9 (by omega)
    obtain ⟨nsf, nsw⟩ := hSn.o
    have hb := hK2.1
    refine r_cast (pc := 26) dX1_undo_26 q171 nsw rfl ?_
    refine pX1_10 (pc := 29) dX1_undo_29 rfl rfl rfl hb (by decide) (Nat.le_of_ble_eq_true rfl) ?_
    have hU : Fr (fun x => x = (2, 0)) h (up h o ((2, 0), ob 0 [.ref (he N9), vs, .ref hq0, .ref ip, .ref ln, .int (iZ (KX.wi (r, Y))), .int (iZ (KX.fp (r, Y))), rv])) := Fr.upd hK2.1 rfl
    replace hK2 := hK2.setS (r' := KX.hr (r, Y) N9) (s' := he N9) (T' := HT N9) hSn hT9.1 hT9.2.2 (fun i hi e => by have hi : i < N9 := hi; have := k9.2.2.2.2 i N9 (by omega) (by omega) e; omega) rfl
    have hG := hf.wk (Q := pC) p2_C
    replace hG := hG.tr (hU.wk p2_C)
    refine go_ho (h1 := up h o ((2, 0), ob 0 [.ref (he N9), vs, .ref hq0, .ref ip, .ref ln, .int (iZ (KX.wi (r, Y))), .int (iZ (KX.fp (r, Y))), rv])) rfl ?_
    generalize up h o ((2, 0), ob 0 [.ref (he N9), vs, .ref hq0, .ref ip, .ref ln, .int (iZ (KX.wi (r, Y))), .int (iZ (KX.fp (r, Y))), rv]) = h at hK2 hG ⊢
    obtain ⟨k1, k2, k3, k4, k5, k6, k7, k8, k9b⟩ := id hK2
    have hb := k1
    obtain ⟨k4a, k4b, k4c, k4o⟩ := k4.o
    refine r_aload_n (pc := 32) dX1_undo_32 rfl ?_
    refine gX1_19 (pc := 33) dX1_undo_33 hb rfl ?_
    refine r_callV (pc := 36) (kb' := 0) dX1_undo_36 kJ5_size q1707 (t_J5_size k4) k4o rfl (Nat.le_refl _) (Nat.le_of_ble_eq_true rfl) rfl rfl (Nat.le_of_ble_eq_true rfl) (fun _ _ q => q.elim) (fun _ _ hq => ?_)
    refine go_jE hq ?_
    refine go_cz (w := (KX.hn (r, Y) : Int) - 1) (by show (N9 : Int) = _; omega) ?_
    exact r_iret (pc := 39) dX1_undo_39 rfl rfl ⟨rfl, if_neg hpx, hK2.w, hG⟩
theorem t_X1_save {G : Gl} {h9 : Hp} {o : Nat} {r : Row} {Y : KY} {s : Nat} {vs : Value} {hq0 ip ln : Nat} {rv : Value} {Tc Tv : Nat} {HT he : Nat → Nat} (hK : KWx G o (r, Y) s vs hq0 ip ln rv Tc Tv HT he h9) (hI : RI r) (hZ : FZ G h9) : Ct G 9 457 yX1_save (Cond.code yX1_save cX1_save 1 (some .int)) [.ref o] h9 (kQ G o (r 0) 0 (KX.wS (r, Y) (some r)) h9) noX := by
  obtain ⟨k1, k2, k3, k4, k5, k6, k7, k8, k9⟩ := id hK
  obtain ⟨al, cl, sl, m1, m2, m3, n1, n2, E, F, hX9⟩ := k2
  have hX9 : SWx G Tc s r al cl sl m1 m2 m3 n1 n2 E F h9 := hX9
  have hb9 := k1
  have hF : Fr pQ h9 h9 := Fr.rf
  have hb := hb9
  have hX := hX9
  have b := hI.1
  have hX2 := hX
  obtain ⟨w1, w2, w3, w4, w5, w6, w7, w8⟩ := hX2
  obtain ⟨ar1, w2s⟩ := w2.size
  obtain ⟨Tn, hn1, hn2, hn3, hn4⟩ := fresh HT Tc Tv (KX.hn (r, Y))
  refine Ct.of (own := "CharterKiln") (nm := "save") (by decide +kernel) rfl rfl (L := [some (.ref o)]) rfl (Nat.le_of_ble_eq_true rfl) rfl ?_
  refine r_aload_n (pc := 0) dX1_save_0 rfl ?_
  refine r_aload_n (pc := 1) dX1_save_1 rfl ?_
  refine gX1_10 (pc := 2) dX1_save_2 hb rfl ?_
  refine r_callV (pc := 5) (kb' := 0) dX1_save_5 kX2_copy q1376 (t_X2_copy hX.w hI hZ Tn (by omega) (by omega)) w1 rfl (Nat.le_of_ble_eq_true rfl) (Nat.le_of_ble_eq_true rfl) rfl rfl (Nat.le_of_ble_eq_true rfl) (fun _ _ q => q.elim) (fun _ h hq => ?_)
  refine go_jX hq (fun q hq2 => ?_)
  obtain ⟨hS, hf⟩ := hq2
  have hK1 := hK.fr2 hf (fun k => pT_2 hn1) (fun T hT => pTQ_s (by rcases hT with rfl | rfl | ⟨i, hi, rfl⟩; omega; omega; exact Nat.ne_of_lt (hn4 i hi))) (pTQ_z (by omega))
  obtain ⟨nsf, nsw⟩ := hS.o
  have hb := hK1.1
  refine pX1_501 (pc := 8) dX1_save_8 rfl rfl rfl hb (by decide) (Nat.le_of_ble_eq_true rfl) ?_
  have hU : Fr (fun x => x = (2, 0)) h (up h o ((2, 0), ob 0 [.ref s, .ref q, .ref hq0, .ref ip, .ref ln, .int (iZ (KX.wi (r, Y))), .int (iZ (KX.fp (r, Y))), rv])) := Fr.upd hK1.1 rfl
  replace hK1 := hK1.setV (r' := r) (s' := q) (T' := Tn) hS hn1 (by omega) (fun i hi => Nat.ne_of_lt (hn4 i hi)) rfl
  have hG := (hf.wk (pTQ_C hn1)).tr (hU.wk p2_C)
  refine go_ho (h1 := up h o ((2, 0), ob 0 [.ref s, .ref q, .ref hq0, .ref ip, .ref ln, .int (iZ (KX.wi (r, Y))), .int (iZ (KX.fp (r, Y))), rv])) rfl ?_
  generalize up h o ((2, 0), ob 0 [.ref s, .ref q, .ref hq0, .ref ip, .ref ln, .int (iZ (KX.wi (r, Y))), .int (iZ (KX.fp (r, Y))), rv]) = h at hK1 hG ⊢
  obtain ⟨k1, k2, k3, k4, k5, k6, k7, k8, k9b⟩ := id hK1
  have hb := k1
  obtain ⟨al, cl, sl, m1, m2, m3, n1, n2, E, F, hX⟩ := k2
  replace hX : SWx G Tc s r al cl sl m1 m2 m3 n1 n2 E F h := hX
  have hX2 := hX
  obtain ⟨w1, w2, w3, w4, w5, w6, w7, w8⟩ := hX2
  obtain ⟨ar1, w2s⟩ := w2.size
  refine r_aload_n (pc := 11) dX1_save_11 rfl ?_
  refine gX1_10 (pc := 12) dX1_save_12 hb rfl ?_
  refine gX1_95 (pc := 15) dX1_save_15 w1 rfl ?_
  refine r_callV (pc := 18) (kb' := 0) dX1_save_18 kJ2_size q1512 (t_J2_size w2s) w2s rfl (Nat.le_refl _) (Nat.le_of_ble_eq_true rfl) rfl rfl (Nat.le_of_ble_eq_true rfl) (fun _ _ q => q.elim) (fun _ _ hq => ?_)
  refine go_jE hq ?_
  refine go_cz (w := r 0) (by omega) ?_
  exact r_iret (pc := 21) dX1_save_21 rfl rfl ⟨rfl, rfl, hK1.w, hG⟩
theorem t_X1_restore {G : Gl} {h9 : Hp} {o : Nat} {r : Row} {Y : KY} {s : Nat} {vs : Value} {hq0 ip ln : Nat} {rv : Value} {Tc Tv : Nat} {HT he : Nat → Nat} (hK : KWx G o (r, Y) s vs hq0 ip ln rv Tc Tv HT he h9) (hI : RI r) (hZ : FZ G h9) (hsI : ∀ r', KX.sv (r, Y) = some r' → RI r') : Ct G 9 464 yX1_restore (Cond.code yX1_restore cX1_restore 1 (some .int)) [.ref o] h9 (kQ G o (((KX.sv (r, Y)).getD r) 0) (if KX.sv (r, Y) = none then 1 else 0) (KX.wH (KX.wR (r, Y) ((KX.sv (r, Y)).getD r)) 0 (KX.hr (r, Y))) h9) (qX (if KX.sv (r, Y) = none then 1 else 0) eISE "" (· = h9)) := by
  obtain ⟨k1, k2, k3, k4, k5, k6, k7, k8, k9⟩ := id hK
  obtain ⟨al, cl, sl, m1, m2, m3, n1, n2, E, F, hX9⟩ := k2
  have hX9 : SWx G Tc s r al cl sl m1 m2 m3 n1 n2 E F h9 := hX9
  have hb9 := k1
  have hF : Fr pQ h9 h9 := Fr.rf
  have hb := hb9
  have hX := hX9
  have b := hI.1
  have hX2 := hX
  obtain ⟨w1, w2, w3, w4, w5, w6, w7, w8⟩ := hX2
  obtain ⟨ar1, w2s⟩ := w2.size
  obtain ⟨Tn, hn1, hn2, hn3, hn4⟩ := fresh HT Tc Tv (KX.hn (r, Y))
  rcases hsv : KX.sv (r, Y) with _ | rv9
  · rw [hsv] at k3
    have k3 : vs = .null := k3
    subst k3
    refine Ct.of (own := "CharterKiln") (nm := "restore") (by decide +kernel) rfl rfl (L := [some (.ref o)]) rfl (Nat.le_of_ble_eq_true rfl) rfl ?_
    refine r_aload_n (pc := 0) dX1_restore_0 rfl ?_
    refine gX1_501 (pc := 1) dX1_restore_1 hb rfl ?_
    refine r_ifnullN (pc := 4) (tgt := 11) dX1_restore_4 (by decide) ?_
    refine r_iconst (pc := 11) dX1_restore_11 ?_
    refine go_cz (w := bZ False) (bZ_f (fun q => q)).symm ?_
    refine r_callS (pc := 12) (kb' := 457) dX1_restore_12 kX1_checkState q2182 (t_X1_checkState (p := False) ) (Nat.le_of_ble_eq_true rfl) (Nat.le_of_ble_eq_true rfl) rfl rfl (Nat.le_of_ble_eq_true rfl) (fun E h7 hx => x_out rfl ⟨Or.inl ⟨hx.1, if_pos rfl⟩, hx.2.2⟩) (fun _ h hq => ?_)
    exact (go_jN hq (fun hq2 => hq2.2.elim))
  · rw [hsv] at k3
    obtain ⟨sv, e9, hSv⟩ := k3
    subst e9
    have hsr := hsI rv9 hsv
    obtain ⟨svf, svw⟩ := hSv.o
    refine Ct.of (own := "CharterKiln") (nm := "restore") (by decide +kernel) rfl rfl (L := [some (.ref o)]) rfl (Nat.le_of_ble_eq_true rfl) rfl ?_
    refine r_aload_n (pc := 0) dX1_restore_0 rfl ?_
    refine gX1_501 (pc := 1) dX1_restore_1 hb rfl ?_
    refine r_ifnull (pc := 4) dX1_restore_4 ?_
    refine r_iconst (pc := 7) dX1_restore_7 ?_
    refine go_cz (w := bZ True) (bZ_t trivial).symm ?_
    refine r_goto (pc := 8) (tgt := 12) dX1_restore_8 (by decide) ?_
    refine r_callS (pc := 12) (kb' := 457) dX1_restore_12 kX1_checkState q2182 (t_X1_checkState (p := True) ) (Nat.le_of_ble_eq_true rfl) (Nat.le_of_ble_eq_true rfl) rfl rfl (Nat.le_of_ble_eq_true rfl) (fun E h7 hx => x_out rfl (absurd trivial hx.2.1)) (fun _ h hq => ?_)
    refine go_jN hq (fun hq2 => ?_)
    obtain ⟨e9, hpx⟩ := hq2
    replace e9 := e9.symm
    subst e9
    refine r_aload_n (pc := 15) dX1_restore_15 rfl ?_
    refine r_aload_n (pc := 16) dX1_restore_16 rfl ?_
    refine gX1_501 (pc := 17) dX1_restore_17 hb rfl ?_
    refine r_callV (pc := 20) (kb' := 0) dX1_restore_20 kX2_copy q1376 (t_X2_copy hSv hsr hZ Tn (by omega) (by omega)) svw rfl (Nat.le_of_ble_eq_true rfl) (Nat.le_of_ble_eq_true rfl) rfl rfl (Nat.le_of_ble_eq_true rfl) (fun _ _ q => q.elim) (fun _ h hq => ?_)
    refine go_jX hq (fun q hq2 => ?_)
    obtain ⟨hS, hf⟩ := hq2
    have hK1 := hK.fr2 hf (fun k => pT_2 hn1) (fun T hT => pTQ_s (by rcases hT with rfl | rfl | ⟨i, hi, rfl⟩; omega; omega; exact Nat.ne_of_lt (hn4 i hi))) (pTQ_z (by omega))
    obtain ⟨nsf, nsw⟩ := hS.o
    have hb := hK1.1
    refine pX1_10 (pc := 23) dX1_restore_23 rfl rfl rfl hb (by decide) (Nat.le_of_ble_eq_true rfl) ?_
    have hU : Fr (fun x => x = (2, 0)) h (up h o ((2, 0), ob 0 [.ref q, .ref sv, .ref hq0, .ref ip, .ref ln, .int (iZ (KX.wi (r, Y))), .int (iZ (KX.fp (r, Y))), rv])) := Fr.upd hK1.1 rfl
    replace hK1 := hK1.setS (r' := rv9) (s' := q) (T' := Tn) hS hn1 (by omega) (fun i hi => Nat.ne_of_lt (hn4 i hi)) rfl
    have hG := (hf.wk (pTQ_C hn1)).tr (hU.wk p2_C)
    refine go_ho (h1 := up h o ((2, 0), ob 0 [.ref q, .ref sv, .ref hq0, .ref ip, .ref ln, .int (iZ (KX.wi (r, Y))), .int (iZ (KX.fp (r, Y))), rv])) rfl ?_
    generalize up h o ((2, 0), ob 0 [.ref q, .ref sv, .ref hq0, .ref ip, .ref ln, .int (iZ (KX.wi (r, Y))), .int (iZ (KX.fp (r, Y))), rv]) = h at hK1 hG ⊢
    obtain ⟨k1, k2, k3, k4, k5, k6, k7, k8, k9b⟩ := id hK1
    have hb := k1
    obtain ⟨k4a, k4b, k4c, k4o⟩ := k4.o
    refine r_aload_n (pc := 26) dX1_restore_26 rfl ?_
    refine gX1_19 (pc := 27) dX1_restore_27 hb rfl ?_
    refine r_callV (pc := 30) (kb' := 0) dX1_restore_30 kJ5_clear q2686 (t_J5_clear k4 (by decide)) k4o rfl (Nat.le_refl _) (Nat.le_of_ble_eq_true rfl) rfl rfl (Nat.le_of_ble_eq_true rfl) (fun _ _ q => q.elim) (fun _ h hq => ?_)
    refine go_jN hq (fun hq2 => ?_)
    obtain ⟨hA, hf3⟩ := hq2
    replace hK1 := hK1.setH0 hf3 hA
    replace hG := hG.tr (hf3.wk p2_C)
    obtain ⟨k1, k2, k3, k4, k5, k6, k7, k8, k9b⟩ := id hK1
    have hb := k1
    obtain ⟨al, cl, sl, m1, m2, m3, n1, n2, E, F, hX⟩ := k2
    replace hX : SWx G Tn q rv9 al cl sl m1 m2 m3 n1 n2 E F h := hX
    have hX2 := hX
    obtain ⟨w1, w2, w3, w4, w5, w6, w7, w8⟩ := hX2
    obtain ⟨ar1, w2s⟩ := w2.size
    refine r_aload_n (pc := 33) dX1_restore_33 rfl ?_
    refine gX1_10 (pc := 34) dX1_restore_34 hb rfl ?_
    refine gX1_95 (pc := 37) dX1_restore_37 w1 rfl ?_
    refine r_callV (pc := 40) (kb' := 0) dX1_restore_40 kJ2_size q1512 (t_J2_size w2s) w2s rfl (Nat.le_refl _) (Nat.le_of_ble_eq_true rfl) rfl rfl (Nat.le_of_ble_eq_true rfl) (fun _ _ q => q.elim) (fun _ _ hq => ?_)
    refine go_jE hq ?_
    refine go_cz (w := rv9 0) (by have := hsr.1; omega) ?_
    exact r_iret (pc := 43) dX1_restore_43 rfl rfl ⟨rfl, if_neg (by simp), hK1.w, hG⟩
