set_option maxRecDepth 100000
/-! the class, part 23: an article's line -/
theorem nL3 {T k : Nat} (hT : 10 ≤ T) : ¬ (((T, k) : Tg) = (2, 3)) := ne21 (by omega)

theorem t_X1_tell {G : Gl} {h9 : Hp} {o : Nat} {r : Row} {Y : KY} {s : Nat} {vs : Value} {hq0 ip ln : Nat} {rv : Value} {Tc Tv : Nat} {HT he : Nat → Nat} (hK : KWx G o (r, Y) s vs hq0 ip ln rv Tc Tv HT he h9) (hI : RI r) (hZ : FZ G h9) {a : Int} (ha : InR a) : Ct G 8 788 yX1_tell (Cond.code yX1_tell cX1_tell 3 (some .int)) [.ref o, .int (iZ a)] h9 (kQ G o ((telL r a).length) (kAr r a) (KX.wL (r, Y) (telL r a).length (chL (telL r a))) h9) (qX (kAr r a) eIOB "" (· = h9)) := by
  obtain ⟨k1, k2, k3, k4, k5, k6, k7, k8, k9⟩ := id hK
  obtain ⟨al, cl, sl, m1, m2, m3, n1, n2, E, F, hX9⟩ := k2
  have hX9 : SWx G Tc s r al cl sl m1 m2 m3 n1 n2 E F h9 := hX9
  have hb9 := k1
  have hF : Fr pQ h9 h9 := Fr.rf
  have hb := hb9
  have hX := hX9
  have b := hI.1
  have hX2 := hX
  obtain ⟨w1, w2, w3, w4, w5, w6, w7, w8⟩ := hX2
  obtain ⟨ar1, w2s⟩ := w2.size
  obtain ⟨lna, lnb, lno⟩ := k7.obj
  have q1 := numL_le a
  have q2 := numL_le (fA r a 0)
  have q3 := numL_le (fA r a 1)
  have q4 := numL_le (fA r a 2)
  have q5 := numL_le (plOf r a)
  have q6 := numL_le (fA r a 4)
  refine Ct.of (own := "CharterKiln") (nm := "tell") (by decide +kernel) rfl rfl (L := [some (.ref o), some (.int (iZ a)), none]) rfl (Nat.le_of_ble_eq_true rfl) rfl ?_
  refine r_aload_n (pc := 0) dX1_tell_0 rfl ?_
  refine r_iload_n (pc := 1) dX1_tell_1 rfl ?_
  refine r_callV (pc := 2) (kb' := 781) dX1_tell_2 kX1_checkArticle q1952 (t_X1_checkArticle hb hX hI (by omega)) hb rfl (Nat.le_of_ble_eq_true rfl) (Nat.le_of_ble_eq_true rfl) rfl rfl (Nat.le_of_ble_eq_true rfl) (fun E h7 hx => x_out rfl ⟨Or.inl ⟨hx.1, kAr_1 hx.2.1⟩, hx.2.2⟩) (fun _ h hq => ?_)
  refine go_jN hq (fun hq2 => ?_)
  obtain ⟨e9, hpa⟩ := hq2
  replace e9 := e9.symm
  subst e9
  refine r_aload_n (pc := 5) dX1_tell_5 rfl ?_
  refine r_iload_n (pc := 6) dX1_tell_6 rfl ?_
  refine r_callV (pc := 7) (kb' := 781) dX1_tell_7 kX1_articleAt q1749 (t_X1_articleAt hb hX hI (by omega)) hb rfl (Nat.le_refl _) (Nat.le_of_ble_eq_true rfl) rfl rfl (Nat.le_of_ble_eq_true rfl) (fun _ _ q => q.elim) (fun _ _ hq => ?_)
  refine go_jE hq ?_
  have ea : ((a.toNat : Nat) : Int) = a := by omega
  have ho := hI.2.1 a (by omega) (by omega)
  have ho2 := ho
  unfold artOk at ho2
  have hA5 := w5 a.toNat (by omega)
  rw [ea] at hA5
  refine r_astore_n (pc := 10) (L' := [_, _, _]) dX1_tell_10 rfl ?_
  refine r_aload_n (pc := 11) dX1_tell_11 rfl ?_
  refine gX1_30 (pc := 12) dX1_tell_12 hb rfl ?_
  refine r_iconst (pc := 15) dX1_tell_15 ?_
  refine r_callV (pc := 16) (kb' := 710) dX1_tell_16 kJ7_setLength q1217 (t_J7_setLength k7 (by decide)) lno rfl (Nat.le_of_ble_eq_true rfl) (Nat.le_of_ble_eq_true rfl) rfl rfl (Nat.le_of_ble_eq_true rfl) (fun _ _ q => q.elim) (fun _ h hq => ?_)
  refine go_jN hq (fun hq2 => ?_)
  obtain ⟨hA, hf⟩ := hq2
  have hL := SBL.nil hA
  have hG : Fr (fun x => x = (2, 3)) h9 h := hf
  have hb := hG.get hb9 (tne (by decide))
  have hX := hX9.fr hG (fun k hk => nL3 k9.1) fz2
  have hX2 := hX
  obtain ⟨w1, w2, w3, w4, w5, w6, w7, w8⟩ := hX2
  obtain ⟨ar1, w2s⟩ := w2.size
  obtain ⟨lna, lnb, lno⟩ := hL.obj
  have hA5 := w5 a.toNat (by omega)
  rw [ea] at hA5
  refine r_aload_n (pc := 19) dX1_tell_19 rfl ?_
  refine gX1_30 (pc := 20) dX1_tell_20 hb rfl ?_
  refine r_iload_n (pc := 23) dX1_tell_23 rfl ?_
  refine r_callV (pc := 24) (kb' := 639) dX1_tell_24 kJ7_append_2 q1303 (t_J7_append_2 hL (by decide) (by omega) (by simp only [List.length_append, List.length_cons, List.length_nil]; omega) (hG.get hZ.2.2.1 fz2) (hG.get hZ.2.2.2.1 fz2)) lno rfl (Nat.le_of_ble_eq_true rfl) (Nat.le_of_ble_eq_true rfl) rfl rfl (Nat.le_of_ble_eq_true rfl) (fun _ _ q => q.elim) (fun _ h hq => ?_)
  refine go_jP hq (fun hq2 => ?_)
  obtain ⟨hA, hf⟩ := hq2
  replace hL := SBL.num (by omega) hA
  replace hG := hG.tr hf
  have hb := hG.get hb9 (tne (by decide))
  have hX := hX9.fr hG (fun k hk => nL3 k9.1) fz2
  have hX2 := hX
  obtain ⟨w1, w2, w3, w4, w5, w6, w7, w8⟩ := hX2
  obtain ⟨ar1, w2s⟩ := w2.size
  obtain ⟨lna, lnb, lno⟩ := hL.obj
  have hA5 := w5 a.toNat (by omega)
  rw [ea] at hA5
  refine r_bipush (pc := 27) dX1_tell_27 (by decide) ?_
  refine r_callV (pc := 29) (kb' := 568) dX1_tell_29 kJ7_append_3 q1304 (t_J7_append_3 hL (by decide) (by omega) (by simp only [List.length_append, List.length_cons, List.length_nil]; omega)) lno rfl (Nat.le_of_ble_eq_true rfl) (Nat.le_of_ble_eq_true rfl) rfl rfl (Nat.le_of_ble_eq_true rfl) (fun _ _ q => q.elim) (fun _ h hq => ?_)
  refine go_jP hq (fun hq2 => ?_)
  obtain ⟨hA, hf⟩ := hq2
  replace hL := SBL.chr hA
  replace hG := hG.tr hf
  have hb := hG.get hb9 (tne (by decide))
  have hX := hX9.fr hG (fun k hk => nL3 k9.1) fz2
  have hX2 := hX
  obtain ⟨w1, w2, w3, w4, w5, w6, w7, w8⟩ := hX2
  obtain ⟨ar1, w2s⟩ := w2.size
  obtain ⟨lna, lnb, lno⟩ := hL.obj
  have hA5 := w5 a.toNat (by omega)
  rw [ea] at hA5
  refine r_aload_n (pc := 32) dX1_tell_32 rfl ?_
  refine gX1_189 (pc := 33) dX1_tell_33 hA5 rfl ?_
  refine r_callV (pc := 36) (kb' := 497) dX1_tell_36 kJ7_append_2 q1303 (t_J7_append_2 hL (by decide) (by omega) (by simp only [List.length_append, List.length_cons, List.length_nil]; omega) (hG.get hZ.2.2.1 fz2) (hG.get hZ.2.2.2.1 fz2)) lno rfl (Nat.le_of_ble_eq_true rfl) (Nat.le_of_ble_eq_true rfl) rfl rfl (Nat.le_of_ble_eq_true rfl) (fun _ _ q => q.elim) (fun _ h hq => ?_)
  refine go_jP hq (fun hq2 => ?_)
  obtain ⟨hA, hf⟩ := hq2
  replace hL := SBL.num (by omega) hA
  replace hG := hG.tr hf
  have hb := hG.get hb9 (tne (by decide))
  have hX := hX9.fr hG (fun k hk => nL3 k9.1) fz2
  have hX2 := hX
  obtain ⟨w1, w2, w3, w4, w5, w6, w7, w8⟩ := hX2
  obtain ⟨ar1, w2s⟩ := w2.size
  obtain ⟨lna, lnb, lno⟩ := hL.obj
  have hA5 := w5 a.toNat (by omega)
  rw [ea] at hA5
  refine r_bipush (pc := 39) dX1_tell_39 (by decide) ?_
  refine r_callV (pc := 41) (kb' := 426) dX1_tell_41 kJ7_append_3 q1304 (t_J7_append_3 hL (by decide) (by omega) (by simp only [List.length_append, List.length_cons, List.length_nil]; omega)) lno rfl (Nat.le_of_ble_eq_true rfl) (Nat.le_of_ble_eq_true rfl) rfl rfl (Nat.le_of_ble_eq_true rfl) (fun _ _ q => q.elim) (fun _ h hq => ?_)
  refine go_jP hq (fun hq2 => ?_)
  obtain ⟨hA, hf⟩ := hq2
  replace hL := SBL.chr hA
  replace hG := hG.tr hf
  have hb := hG.get hb9 (tne (by decide))
  have hX := hX9.fr hG (fun k hk => nL3 k9.1) fz2
  have hX2 := hX
  obtain ⟨w1, w2, w3, w4, w5, w6, w7, w8⟩ := hX2
  obtain ⟨ar1, w2s⟩ := w2.size
  obtain ⟨lna, lnb, lno⟩ := hL.obj
  have hA5 := w5 a.toNat (by omega)
  rw [ea] at hA5
  refine r_aload_n (pc := 44) dX1_tell_44 rfl ?_
  refine gX1_164 (pc := 45) dX1_tell_45 hA5 rfl ?_
  refine r_callV (pc := 48) (kb' := 355) dX1_tell_48 kJ7_append_2 q1303 (t_J7_append_2 hL (by decide) (by omega) (by simp only [List.length_append, List.length_cons, List.length_nil]; omega) (hG.get hZ.2.2.1 fz2) (hG.get hZ.2.2.2.1 fz2)) lno rfl (Nat.le_of_ble_eq_true rfl) (Nat.le_of_ble_eq_true rfl) rfl rfl (Nat.le_of_ble_eq_true rfl) (fun _ _ q => q.elim) (fun _ h hq => ?_)
  refine go_jP hq (fun hq2 => ?_)
  obtain ⟨hA, hf⟩ := hq2
  replace hL := SBL.num (by omega) hA
  replace hG := hG.tr hf
  have hb := hG.get hb9 (tne (by decide))
  have hX := hX9.fr hG (fun k hk => nL3 k9.1) fz2
  have hX2 := hX
  obtain ⟨w1, w2, w3, w4, w5, w6, w7, w8⟩ := hX2
  obtain ⟨ar1, w2s⟩ := w2.size
  obtain ⟨lna, lnb, lno⟩ := hL.obj
  have hA5 := w5 a.toNat (by omega)
  rw [ea] at hA5
  refine r_bipush (pc := 51) dX1_tell_51 (by decide) ?_
  refine r_callV (pc := 53) (kb' := 284) dX1_tell_53 kJ7_append_3 q1304 (t_J7_append_3 hL (by decide) (by omega) (by simp only [List.length_append, List.length_cons, List.length_nil]; omega)) lno rfl (Nat.le_of_ble_eq_true rfl) (Nat.le_of_ble_eq_true rfl) rfl rfl (Nat.le_of_ble_eq_true rfl) (fun _ _ q => q.elim) (fun _ h hq => ?_)
  refine go_jP hq (fun hq2 => ?_)
  obtain ⟨hA, hf⟩ := hq2
  replace hL := SBL.chr hA
  replace hG := hG.tr hf
  have hb := hG.get hb9 (tne (by decide))
  have hX := hX9.fr hG (fun k hk => nL3 k9.1) fz2
  have hX2 := hX
  obtain ⟨w1, w2, w3, w4, w5, w6, w7, w8⟩ := hX2
  obtain ⟨ar1, w2s⟩ := w2.size
  obtain ⟨lna, lnb, lno⟩ := hL.obj
  have hA5 := w5 a.toNat (by omega)
  rw [ea] at hA5
  refine r_aload_n (pc := 56) dX1_tell_56 rfl ?_
  refine gX1_193 (pc := 57) dX1_tell_57 hA5 rfl ?_
  refine r_callV (pc := 60) (kb' := 213) dX1_tell_60 kJ7_append_2 q1303 (t_J7_append_2 hL (by decide) (by omega) (by simp only [List.length_append, List.length_cons, List.length_nil]; omega) (hG.get hZ.2.2.1 fz2) (hG.get hZ.2.2.2.1 fz2)) lno rfl (Nat.le_of_ble_eq_true rfl) (Nat.le_of_ble_eq_true rfl) rfl rfl (Nat.le_of_ble_eq_true rfl) (fun _ _ q => q.elim) (fun _ h hq => ?_)
  refine go_jP hq (fun hq2 => ?_)
  obtain ⟨hA, hf⟩ := hq2
  replace hL := SBL.num (by omega) hA
  replace hG := hG.tr hf
  have hb := hG.get hb9 (tne (by decide))
  have hX := hX9.fr hG (fun k hk => nL3 k9.1) fz2
  have hX2 := hX
  obtain ⟨w1, w2, w3, w4, w5, w6, w7, w8⟩ := hX2
  obtain ⟨ar1, w2s⟩ := w2.size
  obtain ⟨lna, lnb, lno⟩ := hL.obj
  have hA5 := w5 a.toNat (by omega)
  rw [ea] at hA5
  refine r_pop (pc := 63) dX1_tell_63 rfl ?_
  refine r_aload_n (pc := 64) dX1_tell_64 rfl ?_
  refine r_callV (pc := 65) (kb' := 213) dX1_tell_65 kX5_isLaw q1206 (t_X5_isLaw hA5 (by omega)) hA5 rfl (Nat.le_refl _) (Nat.le_of_ble_eq_true rfl) rfl rfl (Nat.le_of_ble_eq_true rfl) (fun _ _ q => q.elim) (fun _ _ hq => ?_)
  refine go_jE hq ?_
  refine r_ifB_eq (pc := 68) (tgt := 98) dX1_tell_68 (by decide) (fun c68 => ?_) (fun c68 => ?_)
  · refine r_aload_n (pc := 98) dX1_tell_98 rfl ?_
    refine gX1_30 (pc := 99) dX1_tell_99 hb rfl ?_
    refine r_bipush (pc := 102) dX1_tell_102 (by decide) ?_
    refine r_callV (pc := 104) (kb' := 142) dX1_tell_104 kJ7_append_3 q1304 (t_J7_append_3 hL (by decide) (by omega) (by simp only [List.length_append, List.length_cons, List.length_nil]; omega)) lno rfl (Nat.le_of_ble_eq_true rfl) (Nat.le_of_ble_eq_true rfl) rfl rfl (Nat.le_of_ble_eq_true rfl) (fun _ _ q => q.elim) (fun _ h hq => ?_)
    refine go_jP hq (fun hq2 => ?_)
    obtain ⟨hA, hf⟩ := hq2
    replace hL := SBL.chr hA
    replace hG := hG.tr hf
    have hb := hG.get hb9 (tne (by decide))
    have hX := hX9.fr hG (fun k hk => nL3 k9.1) fz2
    have hX2 := hX
    obtain ⟨w1, w2, w3, w4, w5, w6, w7, w8⟩ := hX2
    obtain ⟨ar1, w2s⟩ := w2.size
    obtain ⟨lna, lnb, lno⟩ := hL.obj
    have hA5 := w5 a.toNat (by omega)
    rw [ea] at hA5
    refine r_aload_n (pc := 107) dX1_tell_107 rfl ?_
    refine gX1_167 (pc := 108) dX1_tell_108 hA5 rfl ?_
    refine r_callV (pc := 111) (kb' := 71) dX1_tell_111 kJ7_append_2 q1303 (t_J7_append_2 hL (by decide) (by omega) (by simp only [List.length_append, List.length_cons, List.length_nil]; omega) (hG.get hZ.2.2.1 fz2) (hG.get hZ.2.2.2.1 fz2)) lno rfl (Nat.le_of_ble_eq_true rfl) (Nat.le_of_ble_eq_true rfl) rfl rfl (Nat.le_of_ble_eq_true rfl) (fun _ _ q => q.elim) (fun _ h hq => ?_)
    refine go_jP hq (fun hq2 => ?_)
    obtain ⟨hA, hf⟩ := hq2
    replace hL := SBL.num (by omega) hA
    replace hG := hG.tr hf
    have hb := hG.get hb9 (tne (by decide))
    have hX := hX9.fr hG (fun k hk => nL3 k9.1) fz2
    have hX2 := hX
    obtain ⟨w1, w2, w3, w4, w5, w6, w7, w8⟩ := hX2
    obtain ⟨ar1, w2s⟩ := w2.size
    obtain ⟨lna, lnb, lno⟩ := hL.obj
    have hA5 := w5 a.toNat (by omega)
    rw [ea] at hA5
    refine r_pop (pc := 114) dX1_tell_114 rfl ?_
    refine r_aload_n (pc := 115) dX1_tell_115 rfl ?_
    refine gX1_30 (pc := 116) dX1_tell_116 hb rfl ?_
    refine r_aload_n (pc := 119) dX1_tell_119 rfl ?_
    refine gX1_200 (pc := 120) dX1_tell_120 hA5 rfl ?_
    refine r_if_eq (pc := 123) (tgt := 132) dX1_tell_123 (by decide) (by omega) (fun c123 => ?_) (fun c123 => ?_)
    · refine r_ldcSw (pc := 132) dX1_tell_132 15 rfl ?_
      refine r_callV (pc := 135) (kb' := 0) dX1_tell_135 kJ7_append q1302 (t_J7_append hL (by decide) ((hZ.2.2.2.2.2 8 (by decide)).fr hG fz2 fz2) (by decide) (by decide) (by rw [show wlen 8 = 0 by decide]; refine ⟨?_, by decide⟩; simp only [List.length_append, List.length_cons, List.length_nil]; omega)) lno rfl (Nat.le_of_ble_eq_true rfl) (Nat.le_of_ble_eq_true rfl) rfl rfl (Nat.le_of_ble_eq_true rfl) (fun _ _ q => q.elim) (fun _ h hq => ?_)
      refine go_jP hq (fun hq2 => ?_)
      obtain ⟨hA, hf⟩ := hq2
      replace hL := SBL.str (l2 := []) (by decide) (fun i hi => by revert i; decide) hA
      replace hG := hG.tr hf
      have hb := hG.get hb9 (tne (by decide))
      have hX := hX9.fr hG (fun k hk => nL3 k9.1) fz2
      have hX2 := hX
      obtain ⟨w1, w2, w3, w4, w5, w6, w7, w8⟩ := hX2
      obtain ⟨ar1, w2s⟩ := w2.size
      obtain ⟨lna, lnb, lno⟩ := hL.obj
      refine r_pop (pc := 138) dX1_tell_138 rfl ?_
      have hL2 : SBL (2, 3) ln (telL r a) h := by
        unfold telL tllL
        (repeat' split) <;> first | omega | simpa using hL
      replace hL := hL2
      have hb := hG.get hb9 (tne (by decide))
      have hX := hX9.fr hG (fun k hk => nL3 k9.1) fz2
      have hX2 := hX
      obtain ⟨w1, w2, w3, w4, w5, w6, w7, w8⟩ := hX2
      obtain ⟨ar1, w2s⟩ := w2.size
      obtain ⟨lna, lnb, lno⟩ := hL.obj
      refine r_aload_n (pc := 139) dX1_tell_139 rfl ?_
      refine gX1_30 (pc := 140) dX1_tell_140 hb rfl ?_
      refine r_callV (pc := 143) (kb' := 0) dX1_tell_143 kJ7_length q1324 (t_J7_length hL) lno rfl (Nat.le_refl _) (Nat.le_of_ble_eq_true rfl) rfl rfl (Nat.le_of_ble_eq_true rfl) (fun _ _ q => q.elim) (fun _ _ hq => ?_)
      refine go_jE hq ?_
      exact r_iret (pc := 146) dX1_tell_146 rfl rfl ⟨rfl, kAr_0 hpa, (hK.setL hG hL).w, hG.wk p2_C⟩
    · refine r_ldcSw (pc := 126) dX1_tell_126 18 rfl ?_
      refine r_goto (pc := 129) (tgt := 135) dX1_tell_129 (by decide) ?_
      refine r_callV (pc := 135) (kb' := 0) dX1_tell_135 kJ7_append q1302 (t_J7_append hL (by decide) ((hZ.2.2.2.2.2 11 (by decide)).fr hG fz2 fz2) (by decide) (by decide) (by rw [show wlen 11 = 1 by decide]; refine ⟨?_, by decide⟩; simp only [List.length_append, List.length_cons, List.length_nil]; omega)) lno rfl (Nat.le_of_ble_eq_true rfl) (Nat.le_of_ble_eq_true rfl) rfl rfl (Nat.le_of_ble_eq_true rfl) (fun _ _ q => q.elim) (fun _ h hq => ?_)
      refine go_jP hq (fun hq2 => ?_)
      obtain ⟨hA, hf⟩ := hq2
      replace hL := SBL.str (l2 := [33]) (by decide) (fun i hi => by revert i; decide) hA
      replace hG := hG.tr hf
      have hb := hG.get hb9 (tne (by decide))
      have hX := hX9.fr hG (fun k hk => nL3 k9.1) fz2
      have hX2 := hX
      obtain ⟨w1, w2, w3, w4, w5, w6, w7, w8⟩ := hX2
      obtain ⟨ar1, w2s⟩ := w2.size
      obtain ⟨lna, lnb, lno⟩ := hL.obj
      refine r_pop (pc := 138) dX1_tell_138 rfl ?_
      have hL2 : SBL (2, 3) ln (telL r a) h := by
        unfold telL tllL
        (repeat' split) <;> first | omega | simpa using hL
      replace hL := hL2
      have hb := hG.get hb9 (tne (by decide))
      have hX := hX9.fr hG (fun k hk => nL3 k9.1) fz2
      have hX2 := hX
      obtain ⟨w1, w2, w3, w4, w5, w6, w7, w8⟩ := hX2
      obtain ⟨ar1, w2s⟩ := w2.size
      obtain ⟨lna, lnb, lno⟩ := hL.obj
      refine r_aload_n (pc := 139) dX1_tell_139 rfl ?_
      refine gX1_30 (pc := 140) dX1_tell_140 hb rfl ?_
      refine r_callV (pc := 143) (kb' := 0) dX1_tell_143 kJ7_length q1324 (t_J7_length hL) lno rfl (Nat.le_refl _) (Nat.le_of_ble_eq_true rfl) rfl rfl (Nat.le_of_ble_eq_true rfl) (fun _ _ q => q.elim) (fun _ _ hq => ?_)
      refine go_jE hq ?_
      exact r_iret (pc := 146) dX1_tell_146 rfl rfl ⟨rfl, kAr_0 hpa, (hK.setL hG hL).w, hG.wk p2_C⟩
  · refine r_aload_n (pc := 71) dX1_tell_71 rfl ?_
    refine gX1_30 (pc := 72) dX1_tell_72 hb rfl ?_
    refine r_bipush (pc := 75) dX1_tell_75 (by decide) ?_
    refine r_callV (pc := 77) (kb' := 142) dX1_tell_77 kJ7_append_3 q1304 (t_J7_append_3 hL (by decide) (by omega) (by simp only [List.length_append, List.length_cons, List.length_nil]; omega)) lno rfl (Nat.le_of_ble_eq_true rfl) (Nat.le_of_ble_eq_true rfl) rfl rfl (Nat.le_of_ble_eq_true rfl) (fun _ _ q => q.elim) (fun _ h hq => ?_)
    refine go_jP hq (fun hq2 => ?_)
    obtain ⟨hA, hf⟩ := hq2
    replace hL := SBL.chr hA
    replace hG := hG.tr hf
    have hb := hG.get hb9 (tne (by decide))
    have hX := hX9.fr hG (fun k hk => nL3 k9.1) fz2
    have hX2 := hX
    obtain ⟨w1, w2, w3, w4, w5, w6, w7, w8⟩ := hX2
    obtain ⟨ar1, w2s⟩ := w2.size
    obtain ⟨lna, lnb, lno⟩ := hL.obj
    have hA5 := w5 a.toNat (by omega)
    rw [ea] at hA5
    refine r_aload_n (pc := 80) dX1_tell_80 rfl ?_
    refine gX1_10 (pc := 81) dX1_tell_81 hb rfl ?_
    refine gX1_122 (pc := 84) dX1_tell_84 w1 rfl ?_
    refine r_aload_n (pc := 87) dX1_tell_87 rfl ?_
    refine r_callV (pc := 88) (kb' := 142) dX1_tell_88 kJ4_indexOf q1754 (t_J4_indexOf w3 hA5) w3.2.1 rfl (Nat.le_refl _) (Nat.le_of_ble_eq_true rfl) rfl rfl (Nat.le_of_ble_eq_true rfl) (fun _ _ q => q.elim) (fun _ _ hq => ?_)
    refine go_jE hq ?_
    refine go_cz (w := plOf r a) (pl_fnd hI (by omega) w7) ?_
    have hpl := pl_law hI (a := a) (by omega) (by omega)
    refine r_callV (pc := 91) (kb' := 71) dX1_tell_91 kJ7_append_2 q1303 (t_J7_append_2 hL (by decide) (by omega) (by simp only [List.length_append, List.length_cons, List.length_nil]; omega) (hG.get hZ.2.2.1 fz2) (hG.get hZ.2.2.2.1 fz2)) lno rfl (Nat.le_of_ble_eq_true rfl) (Nat.le_of_ble_eq_true rfl) rfl rfl (Nat.le_of_ble_eq_true rfl) (fun _ _ q => q.elim) (fun _ h hq => ?_)
    refine go_jP hq (fun hq2 => ?_)
    obtain ⟨hA, hf⟩ := hq2
    replace hL := SBL.num (by omega) hA
    replace hG := hG.tr hf
    have hb := hG.get hb9 (tne (by decide))
    have hX := hX9.fr hG (fun k hk => nL3 k9.1) fz2
    have hX2 := hX
    obtain ⟨w1, w2, w3, w4, w5, w6, w7, w8⟩ := hX2
    obtain ⟨ar1, w2s⟩ := w2.size
    obtain ⟨lna, lnb, lno⟩ := hL.obj
    have hA5 := w5 a.toNat (by omega)
    rw [ea] at hA5
    refine r_pop (pc := 94) dX1_tell_94 rfl ?_
    refine r_goto (pc := 95) (tgt := 115) dX1_tell_95 (by decide) ?_
    refine r_aload_n (pc := 115) dX1_tell_115 rfl ?_
    refine gX1_30 (pc := 116) dX1_tell_116 hb rfl ?_
    refine r_aload_n (pc := 119) dX1_tell_119 rfl ?_
    refine gX1_200 (pc := 120) dX1_tell_120 hA5 rfl ?_
    refine r_if_eq (pc := 123) (tgt := 132) dX1_tell_123 (by decide) (by omega) (fun c123 => ?_) (fun c123 => ?_)
    · refine r_ldcSw (pc := 132) dX1_tell_132 15 rfl ?_
      refine r_callV (pc := 135) (kb' := 0) dX1_tell_135 kJ7_append q1302 (t_J7_append hL (by decide) ((hZ.2.2.2.2.2 8 (by decide)).fr hG fz2 fz2) (by decide) (by decide) (by rw [show wlen 8 = 0 by decide]; refine ⟨?_, by decide⟩; simp only [List.length_append, List.length_cons, List.length_nil]; omega)) lno rfl (Nat.le_of_ble_eq_true rfl) (Nat.le_of_ble_eq_true rfl) rfl rfl (Nat.le_of_ble_eq_true rfl) (fun _ _ q => q.elim) (fun _ h hq => ?_)
      refine go_jP hq (fun hq2 => ?_)
      obtain ⟨hA, hf⟩ := hq2
      replace hL := SBL.str (l2 := []) (by decide) (fun i hi => by revert i; decide) hA
      replace hG := hG.tr hf
      have hb := hG.get hb9 (tne (by decide))
      have hX := hX9.fr hG (fun k hk => nL3 k9.1) fz2
      have hX2 := hX
      obtain ⟨w1, w2, w3, w4, w5, w6, w7, w8⟩ := hX2
      obtain ⟨ar1, w2s⟩ := w2.size
      obtain ⟨lna, lnb, lno⟩ := hL.obj
      refine r_pop (pc := 138) dX1_tell_138 rfl ?_
      have hL2 : SBL (2, 3) ln (telL r a) h := by
        unfold telL tllL
        (repeat' split) <;> first | omega | simpa using hL
      replace hL := hL2
      have hb := hG.get hb9 (tne (by decide))
      have hX := hX9.fr hG (fun k hk => nL3 k9.1) fz2
      have hX2 := hX
      obtain ⟨w1, w2, w3, w4, w5, w6, w7, w8⟩ := hX2
      obtain ⟨ar1, w2s⟩ := w2.size
      obtain ⟨lna, lnb, lno⟩ := hL.obj
      refine r_aload_n (pc := 139) dX1_tell_139 rfl ?_
      refine gX1_30 (pc := 140) dX1_tell_140 hb rfl ?_
      refine r_callV (pc := 143) (kb' := 0) dX1_tell_143 kJ7_length q1324 (t_J7_length hL) lno rfl (Nat.le_refl _) (Nat.le_of_ble_eq_true rfl) rfl rfl (Nat.le_of_ble_eq_true rfl) (fun _ _ q => q.elim) (fun _ _ hq => ?_)
      refine go_jE hq ?_
      exact r_iret (pc := 146) dX1_tell_146 rfl rfl ⟨rfl, kAr_0 hpa, (hK.setL hG hL).w, hG.wk p2_C⟩
    · refine r_ldcSw (pc := 126) dX1_tell_126 18 rfl ?_
      refine r_goto (pc := 129) (tgt := 135) dX1_tell_129 (by decide) ?_
      refine r_callV (pc := 135) (kb' := 0) dX1_tell_135 kJ7_append q1302 (t_J7_append hL (by decide) ((hZ.2.2.2.2.2 11 (by decide)).fr hG fz2 fz2) (by decide) (by decide) (by rw [show wlen 11 = 1 by decide]; refine ⟨?_, by decide⟩; simp only [List.length_append, List.length_cons, List.length_nil]; omega)) lno rfl (Nat.le_of_ble_eq_true rfl) (Nat.le_of_ble_eq_true rfl) rfl rfl (Nat.le_of_ble_eq_true rfl) (fun _ _ q => q.elim) (fun _ h hq => ?_)
      refine go_jP hq (fun hq2 => ?_)
      obtain ⟨hA, hf⟩ := hq2
      replace hL := SBL.str (l2 := [33]) (by decide) (fun i hi => by revert i; decide) hA
      replace hG := hG.tr hf
      have hb := hG.get hb9 (tne (by decide))
      have hX := hX9.fr hG (fun k hk => nL3 k9.1) fz2
      have hX2 := hX
      obtain ⟨w1, w2, w3, w4, w5, w6, w7, w8⟩ := hX2
      obtain ⟨ar1, w2s⟩ := w2.size
      obtain ⟨lna, lnb, lno⟩ := hL.obj
      refine r_pop (pc := 138) dX1_tell_138 rfl ?_
      have hL2 : SBL (2, 3) ln (telL r a) h := by
        unfold telL tllL
        (repeat' split) <;> first | omega | simpa using hL
      replace hL := hL2
      have hb := hG.get hb9 (tne (by decide))
      have hX := hX9.fr hG (fun k hk => nL3 k9.1) fz2
      have hX2 := hX
      obtain ⟨w1, w2, w3, w4, w5, w6, w7, w8⟩ := hX2
      obtain ⟨ar1, w2s⟩ := w2.size
      obtain ⟨lna, lnb, lno⟩ := hL.obj
      refine r_aload_n (pc := 139) dX1_tell_139 rfl ?_
      refine gX1_30 (pc := 140) dX1_tell_140 hb rfl ?_
      refine r_callV (pc := 143) (kb' := 0) dX1_tell_143 kJ7_length q1324 (t_J7_length hL) lno rfl (Nat.le_refl _) (Nat.le_of_ble_eq_true rfl) rfl rfl (Nat.le_of_ble_eq_true rfl) (fun _ _ q => q.elim) (fun _ _ hq => ?_)
      refine go_jE hq ?_
      exact r_iret (pc := 146) dX1_tell_146 rfl rfl ⟨rfl, kAr_0 hpa, (hK.setL hG hL).w, hG.wk p2_C⟩
