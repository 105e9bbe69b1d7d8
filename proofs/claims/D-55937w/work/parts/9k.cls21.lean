set_option maxRecDepth 100000
/-! the class, part 21: reasons -/
def rsD (rs : Option ((Int × Int) × Rf)) (d : Int) : Rf := match rs with
  | none => none
  | some (p, c) => if d = 0 then some p else c
def kRs (rs : Option ((Int × Int) × Rf)) (d : Int) : Int := if ¬ (0 ≤ d ∧ d ≤ 1) then 1 else if rsD rs d = none then 2 else 0
def zRs (rs : Option ((Int × Int) × Rf)) (d b : Int) : Int := match rsD rs d with
  | none => 0
  | some p => if b = 0 then p.1 else p.2
theorem kRs_2 {rs : Option ((Int × Int) × Rf)} {d : Int} (hd : 0 ≤ d ∧ d ≤ 1) (h : rsD rs d = none) : kRs rs d = 2 := by unfold kRs; rw [if_neg (fun q => q hd), if_pos h]
theorem kRs_0 {rs : Option ((Int × Int) × Rf)} {d : Int} {p : Int × Int} (hd : 0 ≤ d ∧ d ≤ 1) (h : rsD rs d = some p) : kRs rs d = 0 := by unfold kRs; rw [if_neg (fun q => q hd), if_neg (by rw [h]; simp)]
theorem zRs_0 {rs : Option ((Int × Int) × Rf)} {d b : Int} {p : Int × Int} (h : rsD rs d = some p) : zRs rs d b = if b = 0 then p.1 else p.2 := by unfold zRs; rw [h]

theorem t_X1_reason {G : Gl} {h9 : Hp} {o : Nat} {r : Row} {Y : KY} {s : Nat} {vs : Value} {hq0 ip ln : Nat} {rv : Value} {Tc Tv : Nat} {HT he : Nat → Nat} (hK : KWx G o (r, Y) s vs hq0 ip ln rv Tc Tv HT he h9) (hI : RI r) {d b9 : Int} (hd : InR d) (hb01 : b9 = 0 ∨ b9 = 1) : Ct G 7 14 yX1_reason (Cond.code yX1_reason cX1_reason 4 (some .int)) [.ref o, .int (iZ d), .int (iZ b9)] h9 (qQ (zRs (KX.rs (r, Y)) d b9) (kRs (KX.rs (r, Y)) d) (· = h9)) (qX (kRs (KX.rs (r, Y)) d) eIAE eNSE (· = h9)) := by
  obtain ⟨k1, k2, k3, k4, k5, k6, k7, k8, k9⟩ := id hK
  obtain ⟨al, cl, sl, m1, m2, m3, n1, n2, E, F, hX9⟩ := k2
  have hX9 : SWx G Tc s r al cl sl m1 m2 m3 n1 n2 E F h9 := hX9
  have hb9 := k1
  have hF : Fr pQ h9 h9 := Fr.rf
  have hb := hb9
  have hX := hX9
  have b := hI.1
  have hX2 := hX
  obtain ⟨w1, w2, w3, w4, w5, w6, w7, w8⟩ := hX2
  obtain ⟨ar1, w2s⟩ := w2.size
  rcases hrs : KX.rs (r, Y) with _ | ⟨p, _ | p2⟩
  · rw [hrs] at k8
    have k8 : rv = .null := k8
    subst k8
    refine Ct.of (own := "CharterKiln") (nm := "reason") (by decide +kernel) rfl rfl (L := [some (.ref o), some (.int (iZ d)), some (.int (iZ b9)), none]) rfl (Nat.le_of_ble_eq_true rfl) rfl ?_
    refine r_iload_n (pc := 0) dX1_reason_0 rfl ?_
    refine r_iconst (pc := 1) dX1_reason_1 ?_
    refine r_iconst (pc := 2) dX1_reason_2 ?_
    refine r_callS (pc := 3) (kb' := 14) dX1_reason_3 kX1_isBetween q1525 (t_X1_isBetween (lo := 0) (hi := 1) (by omega) (by omega) (by omega)) (Nat.le_refl _) (Nat.le_of_ble_eq_true rfl) rfl rfl (Nat.le_of_ble_eq_true rfl) (fun _ _ q => q.elim) (fun _ _ hq => ?_)
    refine go_jE hq ?_
    refine r_callS (pc := 6) (kb' := 7) dX1_reason_6 kX1_check q1964 (t_X1_check ) (Nat.le_of_ble_eq_true rfl) (Nat.le_of_ble_eq_true rfl) rfl rfl (Nat.le_of_ble_eq_true rfl) (fun E h7 hx => x_out rfl ⟨Or.inl ⟨hx.1, if_pos hx.2.1⟩, hx.2.2⟩) (fun _ h hq => ?_)
    refine go_jN hq (fun hq2 => ?_)
    obtain ⟨e9, hpd⟩ := hq2
    replace e9 := e9.symm
    subst e9
    refine r_aload_n (pc := 9) dX1_reason_9 rfl ?_
    refine gX1_42 (pc := 10) dX1_reason_10 hb rfl ?_
    refine r_ifnullN (pc := 13) (tgt := 20) dX1_reason_13 (by decide) ?_
    refine r_aload_n (pc := 20) dX1_reason_20 rfl ?_
    refine gX1_42 (pc := 21) dX1_reason_21 hb rfl ?_
    refine r_goto (pc := 24) (tgt := 34) dX1_reason_24 (by decide) ?_
    refine r_astore_nN (pc := 34) (L' := [_, _, _, _]) dX1_reason_34 rfl ?_
    refine r_aload_nN (pc := 35) dX1_reason_35 rfl ?_
    refine r_ifnullN (pc := 36) (tgt := 43) dX1_reason_36 (by decide) ?_
    refine r_iconst (pc := 43) dX1_reason_43 ?_
    refine go_cz (w := bZ False) (bZ_f (fun q => q)).symm ?_
    refine r_callS (pc := 44) (kb' := 0) dX1_reason_44 kX1_checkElement q2017 (t_X1_checkElement (p := False)) (Nat.le_of_ble_eq_true rfl) (Nat.le_of_ble_eq_true rfl) rfl rfl (Nat.le_of_ble_eq_true rfl) (fun E h7 hx => x_out rfl ⟨Or.inr ⟨hx.1, kRs_2 hpd (rfl)⟩, hx.2.2⟩) (fun _ h hq => go_jN hq (fun hq2 => hq2.2.elim))
  · rw [hrs] at k8
    obtain ⟨q, e9, hq9⟩ := k8
    subst e9
    refine Ct.of (own := "CharterKiln") (nm := "reason") (by decide +kernel) rfl rfl (L := [some (.ref o), some (.int (iZ d)), some (.int (iZ b9)), none]) rfl (Nat.le_of_ble_eq_true rfl) rfl ?_
    refine r_iload_n (pc := 0) dX1_reason_0 rfl ?_
    refine r_iconst (pc := 1) dX1_reason_1 ?_
    refine r_iconst (pc := 2) dX1_reason_2 ?_
    refine r_callS (pc := 3) (kb' := 14) dX1_reason_3 kX1_isBetween q1525 (t_X1_isBetween (lo := 0) (hi := 1) (by omega) (by omega) (by omega)) (Nat.le_refl _) (Nat.le_of_ble_eq_true rfl) rfl rfl (Nat.le_of_ble_eq_true rfl) (fun _ _ q => q.elim) (fun _ _ hq => ?_)
    refine go_jE hq ?_
    refine r_callS (pc := 6) (kb' := 7) dX1_reason_6 kX1_check q1964 (t_X1_check ) (Nat.le_of_ble_eq_true rfl) (Nat.le_of_ble_eq_true rfl) rfl rfl (Nat.le_of_ble_eq_true rfl) (fun E h7 hx => x_out rfl ⟨Or.inl ⟨hx.1, if_pos hx.2.1⟩, hx.2.2⟩) (fun _ h hq => ?_)
    refine go_jN hq (fun hq2 => ?_)
    obtain ⟨e9, hpd⟩ := hq2
    replace e9 := e9.symm
    subst e9
    refine r_aload_n (pc := 9) dX1_reason_9 rfl ?_
    refine gX1_42 (pc := 10) dX1_reason_10 hb rfl ?_
    refine r_ifnull (pc := 13) dX1_reason_13 ?_
    refine r_iload_n (pc := 16) dX1_reason_16 rfl ?_
    refine r_if_ne (pc := 17) (tgt := 27) dX1_reason_17 (by decide) (by omega) (fun c17 => ?_) (fun c17 => ?_)
    · refine r_aload_n (pc := 27) dX1_reason_27 rfl ?_
      refine gX1_42 (pc := 28) dX1_reason_28 hb rfl ?_
      refine gX1_438 (pc := 31) dX1_reason_31 hq9 rfl ?_
      refine r_astore_nN (pc := 34) (L' := [_, _, _, _]) dX1_reason_34 rfl ?_
      refine r_aload_nN (pc := 35) dX1_reason_35 rfl ?_
      refine r_ifnullN (pc := 36) (tgt := 43) dX1_reason_36 (by decide) ?_
      refine r_iconst (pc := 43) dX1_reason_43 ?_
      refine go_cz (w := bZ False) (bZ_f (fun q => q)).symm ?_
      refine r_callS (pc := 44) (kb' := 0) dX1_reason_44 kX1_checkElement q2017 (t_X1_checkElement (p := False)) (Nat.le_of_ble_eq_true rfl) (Nat.le_of_ble_eq_true rfl) rfl rfl (Nat.le_of_ble_eq_true rfl) (fun E h7 hx => x_out rfl ⟨Or.inr ⟨hx.1, kRs_2 hpd (show rsD (some (p, none)) d = none from if_neg (by omega))⟩, hx.2.2⟩) (fun _ h hq => go_jN hq (fun hq2 => hq2.2.elim))
    · refine r_aload_n (pc := 20) dX1_reason_20 rfl ?_
      refine gX1_42 (pc := 21) dX1_reason_21 hb rfl ?_
      refine r_goto (pc := 24) (tgt := 34) dX1_reason_24 (by decide) ?_
      refine r_astore_n (pc := 34) (L' := [_, _, _, _]) dX1_reason_34 rfl ?_
      refine r_aload_n (pc := 35) dX1_reason_35 rfl ?_
      refine r_ifnull (pc := 36) dX1_reason_36 ?_
      refine r_iconst (pc := 39) dX1_reason_39 ?_
      refine go_cz (w := bZ True) (bZ_t trivial).symm ?_
      refine r_goto (pc := 40) (tgt := 44) dX1_reason_40 (by decide) ?_
      refine r_callS (pc := 44) (kb' := 0) dX1_reason_44 kX1_checkElement q2017 (t_X1_checkElement (p := True)) (Nat.le_of_ble_eq_true rfl) (Nat.le_of_ble_eq_true rfl) rfl rfl (Nat.le_of_ble_eq_true rfl) (fun _ _ hx => absurd trivial hx.2.1) (fun _ h hq => ?_)
      refine go_jN hq (fun hq2 => ?_)
      obtain ⟨e9, -⟩ := hq2
      replace e9 := e9.symm
      subst e9
      refine r_aload_n (pc := 47) dX1_reason_47 rfl ?_
      refine r_ifnonnull (pc := 48) (tgt := 55) dX1_reason_48 (by decide) ?_
      refine r_iload_n (pc := 55) dX1_reason_55 rfl ?_
      refine r_if_eq (pc := 56) (tgt := 66) dX1_reason_56 (by decide) (by omega) (fun c56 => ?_) (fun c56 => ?_)
      · refine r_aload_n (pc := 66) dX1_reason_66 rfl ?_
        refine gX1_444 (pc := 67) dX1_reason_67 hq9 rfl ?_
        exact r_iret (pc := 70) dX1_reason_70 rfl rfl ⟨congrArg (fun q : Int => some (Value.int (iZ q))) ((zRs_0 (show rsD (some (p, none)) d = some p from if_pos (by omega))).trans (by first | exact if_pos (by omega) | exact if_neg (by omega))).symm, kRs_0 hpd (show rsD (some (p, none)) d = some p from if_pos (by omega)), rfl⟩
      · refine r_aload_n (pc := 59) dX1_reason_59 rfl ?_
        refine gX1_441 (pc := 60) dX1_reason_60 hq9 rfl ?_
        refine r_goto (pc := 63) (tgt := 70) dX1_reason_63 (by decide) ?_
        exact r_iret (pc := 70) dX1_reason_70 rfl rfl ⟨congrArg (fun q : Int => some (Value.int (iZ q))) ((zRs_0 (show rsD (some (p, none)) d = some p from if_pos (by omega))).trans (by first | exact if_pos (by omega) | exact if_neg (by omega))).symm, kRs_0 hpd (show rsD (some (p, none)) d = some p from if_pos (by omega)), rfl⟩
  · rw [hrs] at k8
    obtain ⟨q, q2, e9, hq9, hq29⟩ := k8
    subst e9
    refine Ct.of (own := "CharterKiln") (nm := "reason") (by decide +kernel) rfl rfl (L := [some (.ref o), some (.int (iZ d)), some (.int (iZ b9)), none]) rfl (Nat.le_of_ble_eq_true rfl) rfl ?_
    refine r_iload_n (pc := 0) dX1_reason_0 rfl ?_
    refine r_iconst (pc := 1) dX1_reason_1 ?_
    refine r_iconst (pc := 2) dX1_reason_2 ?_
    refine r_callS (pc := 3) (kb' := 14) dX1_reason_3 kX1_isBetween q1525 (t_X1_isBetween (lo := 0) (hi := 1) (by omega) (by omega) (by omega)) (Nat.le_refl _) (Nat.le_of_ble_eq_true rfl) rfl rfl (Nat.le_of_ble_eq_true rfl) (fun _ _ q => q.elim) (fun _ _ hq => ?_)
    refine go_jE hq ?_
    refine r_callS (pc := 6) (kb' := 7) dX1_reason_6 kX1_check q1964 (t_X1_check ) (Nat.le_of_ble_eq_true rfl) (Nat.le_of_ble_eq_true rfl) rfl rfl (Nat.le_of_ble_eq_true rfl) (fun E h7 hx => x_out rfl ⟨Or.inl ⟨hx.1, if_pos hx.2.1⟩, hx.2.2⟩) (fun _ h hq => ?_)
    refine go_jN hq (fun hq2 => ?_)
    obtain ⟨e9, hpd⟩ := hq2
    replace e9 := e9.symm
    subst e9
    refine r_aload_n (pc := 9) dX1_reason_9 rfl ?_
    refine gX1_42 (pc := 10) dX1_reason_10 hb rfl ?_
    refine r_ifnull (pc := 13) dX1_reason_13 ?_
    refine r_iload_n (pc := 16) dX1_reason_16 rfl ?_
    refine r_if_ne (pc := 17) (tgt := 27) dX1_reason_17 (by decide) (by omega) (fun c17 => ?_) (fun c17 => ?_)
    · refine r_aload_n (pc := 27) dX1_reason_27 rfl ?_
      refine gX1_42 (pc := 28) dX1_reason_28 hb rfl ?_
      refine gX1_438 (pc := 31) dX1_reason_31 hq9 rfl ?_
      refine r_astore_n (pc := 34) (L' := [_, _, _, _]) dX1_reason_34 rfl ?_
      refine r_aload_n (pc := 35) dX1_reason_35 rfl ?_
      refine r_ifnull (pc := 36) dX1_reason_36 ?_
      refine r_iconst (pc := 39) dX1_reason_39 ?_
      refine go_cz (w := bZ True) (bZ_t trivial).symm ?_
      refine r_goto (pc := 40) (tgt := 44) dX1_reason_40 (by decide) ?_
      refine r_callS (pc := 44) (kb' := 0) dX1_reason_44 kX1_checkElement q2017 (t_X1_checkElement (p := True)) (Nat.le_of_ble_eq_true rfl) (Nat.le_of_ble_eq_true rfl) rfl rfl (Nat.le_of_ble_eq_true rfl) (fun _ _ hx => absurd trivial hx.2.1) (fun _ h hq => ?_)
      refine go_jN hq (fun hq2 => ?_)
      obtain ⟨e9, -⟩ := hq2
      replace e9 := e9.symm
      subst e9
      refine r_aload_n (pc := 47) dX1_reason_47 rfl ?_
      refine r_ifnonnull (pc := 48) (tgt := 55) dX1_reason_48 (by decide) ?_
      refine r_iload_n (pc := 55) dX1_reason_55 rfl ?_
      refine r_if_eq (pc := 56) (tgt := 66) dX1_reason_56 (by decide) (by omega) (fun c56 => ?_) (fun c56 => ?_)
      · refine r_aload_n (pc := 66) dX1_reason_66 rfl ?_
        refine gX1_444 (pc := 67) dX1_reason_67 hq29 rfl ?_
        exact r_iret (pc := 70) dX1_reason_70 rfl rfl ⟨congrArg (fun q : Int => some (Value.int (iZ q))) ((zRs_0 (by first | exact (show rsD (some (p, some p2)) d = some p from if_pos (by omega)) | exact (show rsD (some (p, some p2)) d = some p2 from if_neg (by omega)))).trans (by first | exact if_pos (by omega) | exact if_neg (by omega))).symm, kRs_0 hpd (by first | exact (show rsD (some (p, some p2)) d = some p from if_pos (by omega)) | exact (show rsD (some (p, some p2)) d = some p2 from if_neg (by omega))), rfl⟩
      · refine r_aload_n (pc := 59) dX1_reason_59 rfl ?_
        refine gX1_441 (pc := 60) dX1_reason_60 hq29 rfl ?_
        refine r_goto (pc := 63) (tgt := 70) dX1_reason_63 (by decide) ?_
        exact r_iret (pc := 70) dX1_reason_70 rfl rfl ⟨congrArg (fun q : Int => some (Value.int (iZ q))) ((zRs_0 (by first | exact (show rsD (some (p, some p2)) d = some p from if_pos (by omega)) | exact (show rsD (some (p, some p2)) d = some p2 from if_neg (by omega)))).trans (by first | exact if_pos (by omega) | exact if_neg (by omega))).symm, kRs_0 hpd (by first | exact (show rsD (some (p, some p2)) d = some p from if_pos (by omega)) | exact (show rsD (some (p, some p2)) d = some p2 from if_neg (by omega))), rfl⟩
    · refine r_aload_n (pc := 20) dX1_reason_20 rfl ?_
      refine gX1_42 (pc := 21) dX1_reason_21 hb rfl ?_
      refine r_goto (pc := 24) (tgt := 34) dX1_reason_24 (by decide) ?_
      refine r_astore_n (pc := 34) (L' := [_, _, _, _]) dX1_reason_34 rfl ?_
      refine r_aload_n (pc := 35) dX1_reason_35 rfl ?_
      refine r_ifnull (pc := 36) dX1_reason_36 ?_
      refine r_iconst (pc := 39) dX1_reason_39 ?_
      refine go_cz (w := bZ True) (bZ_t trivial).symm ?_
      refine r_goto (pc := 40) (tgt := 44) dX1_reason_40 (by decide) ?_
      refine r_callS (pc := 44) (kb' := 0) dX1_reason_44 kX1_checkElement q2017 (t_X1_checkElement (p := True)) (Nat.le_of_ble_eq_true rfl) (Nat.le_of_ble_eq_true rfl) rfl rfl (Nat.le_of_ble_eq_true rfl) (fun _ _ hx => absurd trivial hx.2.1) (fun _ h hq => ?_)
      refine go_jN hq (fun hq2 => ?_)
      obtain ⟨e9, -⟩ := hq2
      replace e9 := e9.symm
      subst e9
      refine r_aload_n (pc := 47) dX1_reason_47 rfl ?_
      refine r_ifnonnull (pc := 48) (tgt := 55) dX1_reason_48 (by decide) ?_
      refine r_iload_n (pc := 55) dX1_reason_55 rfl ?_
      refine r_if_eq (pc := 56) (tgt := 66) dX1_reason_56 (by decide) (by omega) (fun c56 => ?_) (fun c56 => ?_)
      · refine r_aload_n (pc := 66) dX1_reason_66 rfl ?_
        refine gX1_444 (pc := 67) dX1_reason_67 hq9 rfl ?_
        exact r_iret (pc := 70) dX1_reason_70 rfl rfl ⟨congrArg (fun q : Int => some (Value.int (iZ q))) ((zRs_0 (by first | exact (show rsD (some (p, some p2)) d = some p from if_pos (by omega)) | exact (show rsD (some (p, some p2)) d = some p2 from if_neg (by omega)))).trans (by first | exact if_pos (by omega) | exact if_neg (by omega))).symm, kRs_0 hpd (by first | exact (show rsD (some (p, some p2)) d = some p from if_pos (by omega)) | exact (show rsD (some (p, some p2)) d = some p2 from if_neg (by omega))), rfl⟩
      · refine r_aload_n (pc := 59) dX1_reason_59 rfl ?_
        refine gX1_441 (pc := 60) dX1_reason_60 hq9 rfl ?_
        refine r_goto (pc := 63) (tgt := 70) dX1_reason_63 (by decide) ?_
        exact r_iret (pc := 70) dX1_reason_70 rfl rfl ⟨congrArg (fun q : Int => some (Value.int (iZ q))) ((zRs_0 (by first | exact (show rsD (some (p, some p2)) d = some p from if_pos (by omega)) | exact (show rsD (some (p, some p2)) d = some p2 from if_neg (by omega)))).trans (by first | exact if_pos (by omega) | exact if_neg (by omega))).symm, kRs_0 hpd (by first | exact (show rsD (some (p, some p2)) d = some p from if_pos (by omega)) | exact (show rsD (some (p, some p2)) d = some p2 from if_neg (by omega))), rfl⟩
