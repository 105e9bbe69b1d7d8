set_option maxRecDepth 100000
/-! the class, part 19: accounts, undoing, saving, typing -/
/-- changed, and the world behind it -/
def kQ (G : Gl) (o : Nat) (z k : Int) (X' : KX) (h9 : Hp) : Option Value → Hp → Prop := fun r9 h' => r9 = some (.int (iZ z)) ∧ k = 0 ∧ KW G o X' h' ∧ Fr pC h9 h'
theorem SB.ch {t : Tg} {a n : Nat} {c : Nat → Int} {h : Hp} (hA : SB t a n c h) {i : Nat} (hi : i < n) : 0 ≤ c i ∧ c i < 128 := by
  obtain ⟨cap, v, f, ml, q1, q2, q3, q4, q5⟩ := hA
  exact (q4 i hi).2
def aX (X : KX) (w : Int) : Int := if w = 0 then X.r 0 else if w = 1 then X.r 1 else if w = 2 then smA X.r 3 else if w = 3 then smA X.r 2 else if w = 4 then X.r 2 else if w = 5 then X.r 3 else if w = 6 then X.r 4 else if w = 7 then X.r 5 else if w = 8 then X.r 6 else if w = 9 then X.r 7 else if w = 10 then X.r 8 else if w = 11 then X.r 9 else if w = 12 then X.iN else X.hn
theorem ne21 {a b c : Nat} (h : a ≠ 2) : ¬ (((a, b) : Tg) = (2, c)) := fun e => h (congrArg Prod.fst e)
theorem fz2 {c : Nat} : ¬ (frz = ((2, c) : Tg)) := fun e => absurd (congrArg Prod.fst e) (show ¬ (0 : Nat) = 2 by decide)
section KWU
variable {G : Gl} {o : Nat} {X : KX} {s : Nat} {vs : Value} {hq ip ln : Nat} {rv : Value} {Tc Tv : Nat} {HT he : Nat → Nat} {h h' : Hp}
/-- the object's own cell, or one part of it, changes -/
theorem KWx.pt (hK : KWx G o X s vs hq ip ln rv Tc Tv HT he h) {c : Nat} (hf : Fr (fun x => x = (2, c)) h h') (hc : c ≠ 4) : (c ≠ 0 → h' o = some ((2, 0), ob 0 [.ref s, vs, .ref hq, .ref ip, .ref ln, .int (iZ X.wi), .int (iZ X.fp), rv])) ∧ SW G Tc s X.r h' ∧ SVW G vs Tv X.sv h' ∧ (c ≠ 1 → AD (2, 1) hq X.hn he h') ∧ (∀ i, i < X.hn → SW G (HT i) (he i) (X.hr i) h') ∧ (c ≠ 2 → SB (2, 2) ip X.iN X.iC h') ∧ (c ≠ 3 → SB (2, 3) ln X.lN X.lC h') ∧ RW rv X.rs h' ∧ TG Tc Tv HT X.hn := by
  obtain ⟨k1, k2, k3, k4, k5, k6, k7, k8, k9⟩ := hK
  exact ⟨fun q => hf.get k1 (tne (Ne.symm q)), k2.fr hf (fun k hk => ne21 (by have := k9.1; omega)) fz2, k3.fr hf (fun k hk => ne21 (by have := k9.2.1; omega)) fz2, fun q => k4.fr hf (tne (Ne.symm q)), fun i hi => (k5 i hi).fr hf (fun k hk => ne21 (by have := (k9.2.2.2.1 i hi).1; omega)) fz2, fun q => k6.fr hf (tne (Ne.symm q)), fun q => k7.fr hf (tne (Ne.symm q)), k8.fr hf (tne (Ne.symm hc)), k9⟩
theorem KWx.chD (hK : KWx G o X s vs hq ip ln rv Tc Tv HT he h) {n : Nat} (hn : X.hn = n + 1) (hf : Fr (fun x => x = (2, 1)) h h') (hA : AD (2, 1) hq n he h') : KWx G o (X.wH n X.hr) s vs hq ip ln rv Tc Tv HT he h' := by
  obtain ⟨p1, p2, p3, p4, p5, p6, p7, p8, p9⟩ := hK.pt hf (by decide)
  exact ⟨p1 (by decide), p2, p3, hA, fun i hi => p5 i (by have : i < n := hi; omega), p6 (by decide), p7 (by decide), p8, p9.1, p9.2.1, p9.2.2.1, fun i hi => p9.2.2.2.1 i (by have : i < n := hi; omega), fun i j hi hj e => p9.2.2.2.2 i j (by have : i < n := hi; omega) (by have : j < n := hj; omega) e⟩
theorem KWx.setS (hK : KWx G o X s vs hq ip ln rv Tc Tv HT he h) {s' T' : Nat} {r' : Row} (hS : SW G T' s' r' h) (h1 : 10 ≤ T') (h2 : T' ≠ Tv) (h3 : ∀ i, i < X.hn → HT i ≠ T') (hh : h' = up h o ((2, 0), ob 0 [.ref s', vs, .ref hq, .ref ip, .ref ln, .int (iZ X.wi), .int (iZ X.fp), rv])) : KWx G o (X.wR r') s' vs hq ip ln rv T' Tv HT he h' := by
  have hf : Fr (fun x => x = (2, 0)) h h' := by rw [hh]; exact Fr.upd hK.1 rfl
  obtain ⟨p1, p2, p3, p4, p5, p6, p7, p8, p9⟩ := hK.pt hf (by decide)
  exact ⟨by rw [hh, up_s], hS.fr hf (fun k hk => ne21 (by omega)) fz2, p3, p4 (by decide), p5, p6 (by decide), p7 (by decide), p8, h1, p9.2.1, h2, fun i hi => ⟨(p9.2.2.2.1 i hi).1, h3 i hi, (p9.2.2.2.1 i hi).2.2⟩, p9.2.2.2.2⟩
theorem KWx.setV (hK : KWx G o X s vs hq ip ln rv Tc Tv HT he h) {s' T' : Nat} {r' : Row} (hS : SW G T' s' r' h) (h1 : 10 ≤ T') (h2 : Tc ≠ T') (h3 : ∀ i, i < X.hn → HT i ≠ T') (hh : h' = up h o ((2, 0), ob 0 [.ref s, .ref s', .ref hq, .ref ip, .ref ln, .int (iZ X.wi), .int (iZ X.fp), rv])) : KWx G o (X.wS (some r')) s (.ref s') hq ip ln rv Tc T' HT he h' := by
  have hf : Fr (fun x => x = (2, 0)) h h' := by rw [hh]; exact Fr.upd hK.1 rfl
  obtain ⟨p1, p2, p3, p4, p5, p6, p7, p8, p9⟩ := hK.pt hf (by decide)
  exact ⟨by rw [hh, up_s], p2, ⟨s', rfl, hS.fr hf (fun k hk => ne21 (by omega)) fz2⟩, p4 (by decide), p5, p6 (by decide), p7 (by decide), p8, p9.1, h1, h2, fun i hi => ⟨(p9.2.2.2.1 i hi).1, (p9.2.2.2.1 i hi).2.1, h3 i hi⟩, p9.2.2.2.2⟩
theorem KWx.setH0 (hK : KWx G o X s vs hq ip ln rv Tc Tv HT he h) (hf : Fr (fun x => x = (2, 1)) h h') (hA : AD (2, 1) hq 0 (fun _ => 0) h') : KWx G o (X.wH 0 X.hr) s vs hq ip ln rv Tc Tv HT (fun _ => 0) h' := by
  obtain ⟨p1, p2, p3, p4, p5, p6, p7, p8, p9⟩ := hK.pt hf (by decide)
  exact ⟨p1 (by decide), p2, p3, hA, fun i hi => absurd hi (Nat.not_lt_zero i), p6 (by decide), p7 (by decide), p8, p9.1, p9.2.1, p9.2.2.1, fun i hi => absurd hi (Nat.not_lt_zero i), fun i j hi => absurd hi (Nat.not_lt_zero i)⟩
theorem KWx.setI (hK : KWx G o X s vs hq ip ln rv Tc Tv HT he h) {n : Nat} {c : Nat → Int} (hf : Fr (fun x => x = (2, 2)) h h') (hA : SB (2, 2) ip n c h') : KWx G o (X.wI n c) s vs hq ip ln rv Tc Tv HT he h' := by
  obtain ⟨p1, p2, p3, p4, p5, p6, p7, p8, p9⟩ := hK.pt hf (by decide)
  exact ⟨p1 (by decide), p2, p3, p4 (by decide), p5, hA, p7 (by decide), p8, p9⟩
theorem KWx.setL (hK : KWx G o X s vs hq ip ln rv Tc Tv HT he h) {n : Nat} {c : Nat → Int} (hf : Fr (fun x => x = (2, 3)) h h') (hA : SB (2, 3) ln n c h') : KWx G o (X.wL n c) s vs hq ip ln rv Tc Tv HT he h' := by
  obtain ⟨p1, p2, p3, p4, p5, p6, p7, p8, p9⟩ := hK.pt hf (by decide)
  exact ⟨p1 (by decide), p2, p3, p4 (by decide), p5, p6 (by decide), hA, p8, p9⟩
/-- the other fields of the object's cell -/
theorem KWx.setO (hK : KWx G o X s vs hq ip ln rv Tc Tv HT he h) {w f : Int} (hh : h' = up h o ((2, 0), ob 0 [.ref s, vs, .ref hq, .ref ip, .ref ln, .int (iZ w), .int (iZ f), rv])) : KWx G o ((X.wW w).wF f) s vs hq ip ln rv Tc Tv HT he h' := by
  have hf : Fr (fun x => x = (2, 0)) h h' := by rw [hh]; exact Fr.upd hK.1 rfl
  obtain ⟨p1, p2, p3, p4, p5, p6, p7, p8, p9⟩ := hK.pt hf (by decide)
  exact ⟨by rw [hh, up_s], p2, p3, p4 (by decide), p5, p6 (by decide), p7 (by decide), p8, p9⟩
end KWU
theorem p2_C {c : Nat} : ∀ t : Tg, t = (2, c) → pC t := by rintro _ rfl; exact Or.inl rfl

theorem t_X1_faultPosition {G : Gl} {h9 : Hp} {o : Nat} {r : Row} {Y : KY} {s : Nat} {vs : Value} {hq0 ip ln : Nat} {rv : Value} {Tc Tv : Nat} {HT he : Nat → Nat} (hK : KWx G o (r, Y) s vs hq0 ip ln rv Tc Tv HT he h9) (hI : RI r)  : Ct G 1 0 yX1_faultPosition (Cond.code yX1_faultPosition cX1_faultPosition 1 (some .int)) [.ref o] h9 (jE (.int (iZ (KX.fp (r, Y)))) h9) noX := by
  obtain ⟨k1, k2, k3, k4, k5, k6, k7, k8, k9⟩ := id hK
  obtain ⟨al, cl, sl, m1, m2, m3, n1, n2, E, F, hX9⟩ := k2
  have hX9 : SWx G Tc s r al cl sl m1 m2 m3 n1 n2 E F h9 := hX9
  have hb9 := k1
  have hF : Fr pQ h9 h9 := Fr.rf
  have hb := hb9
  have hX := hX9
  have b := hI.1
  have hX2 := hX
  obtain ⟨w1, w2, w3, w4, w5, w6, w7, w8⟩ := hX2
  obtain ⟨ar1, w2s⟩ := w2.size
  refine Ct.of (own := "CharterKiln") (nm := "faultPosition") (by decide +kernel) rfl rfl (L := [some (.ref o)]) rfl (Nat.le_of_ble_eq_true rfl) rfl ?_
  refine r_aload_n (pc := 0) dX1_faultPosition_0 rfl ?_
  refine gX1_33 (pc := 1) dX1_faultPosition_1 hb rfl ?_
  exact r_iret (pc := 4) dX1_faultPosition_4 rfl rfl ⟨rfl, rfl⟩
theorem t_X1_character {G : Gl} {h9 : Hp} {o : Nat} {r : Row} {Y : KY} {s : Nat} {vs : Value} {hq0 ip ln : Nat} {rv : Value} {Tc Tv : Nat} {HT he : Nat → Nat} (hK : KWx G o (r, Y) s vs hq0 ip ln rv Tc Tv HT he h9) (hI : RI r) {x : Int} (hx9 : InR x) (hl : KX.lN (r, Y) ≤ 60) : Ct G 7 7 yX1_character (Cond.code yX1_character cX1_character 2 (some .char)) [.ref o, .int (iZ x)] h9 (qQ (KX.lC (r, Y) x.toNat) (if 0 ≤ x ∧ x ≤ (KX.lN (r, Y) : Int) - 1 then 0 else 1) (· = h9)) (qX (if 0 ≤ x ∧ x ≤ (KX.lN (r, Y) : Int) - 1 then 0 else 1) eIOB "" (· = h9)) := by
  obtain ⟨k1, k2, k3, k4, k5, k6, k7, k8, k9⟩ := id hK
  obtain ⟨al, cl, sl, m1, m2, m3, n1, n2, E, F, hX9⟩ := k2
  have hX9 : SWx G Tc s r al cl sl m1 m2 m3 n1 n2 E F h9 := hX9
  have hb9 := k1
  have hF : Fr pQ h9 h9 := Fr.rf
  have hb := hb9
  have hX := hX9
  have b := hI.1
  have hX2 := hX
  obtain ⟨w1, w2, w3, w4, w5, w6, w7, w8⟩ := hX2
  obtain ⟨ar1, w2s⟩ := w2.size
  obtain ⟨k7a, k7b, k7o⟩ := k7.obj
  generalize hN9 : KX.lN (r, Y) = N9 at hl k7 k7o ⊢
  refine Ct.of (own := "CharterKiln") (nm := "character") (by decide +kernel) rfl rfl (L := [some (.ref o), some (.int (iZ x))]) rfl (Nat.le_of_ble_eq_true rfl) rfl ?_
  refine r_iload_n (pc := 0) dX1_character_0 rfl ?_
  refine r_iconst (pc := 1) dX1_character_1 ?_
  refine r_aload_n (pc := 2) dX1_character_2 rfl ?_
  refine gX1_30 (pc := 3) dX1_character_3 hb rfl ?_
  refine r_callV (pc := 6) (kb' := 7) dX1_character_6 kJ7_length q1324 (t_J7_length k7) k7o rfl (Nat.le_refl _) (Nat.le_of_ble_eq_true rfl) rfl rfl (Nat.le_of_ble_eq_true rfl) (fun _ _ q => q.elim) (fun _ _ hq => ?_)
  refine go_jE hq ?_
  refine r_iconst (pc := 9) dX1_character_9 ?_
  refine r_isub (pc := 10) dX1_character_10 ?_
  refine r_callS (pc := 11) (kb' := 7) dX1_character_11 kX1_isBetween q1525 (t_X1_isBetween (lo := 0) (hi := (N9 : Int) - 1) (by omega) (by omega) (by omega)) (Nat.le_refl _) (Nat.le_of_ble_eq_true rfl) rfl rfl (Nat.le_of_ble_eq_true rfl) (fun _ _ q => q.elim) (fun _ _ hq => ?_)
  refine go_jE hq ?_
  refine r_callS (pc := 14) (kb' := 0) dX1_character_14 kX1_checkIndex q1956 (t_X1_checkIndex ) (Nat.le_of_ble_eq_true rfl) (Nat.le_of_ble_eq_true rfl) rfl rfl (Nat.le_of_ble_eq_true rfl) (fun E h7 hx => x_out rfl ⟨Or.inl ⟨hx.1, if_neg hx.2.1⟩, hx.2.2⟩) (fun _ h hq => ?_)
  refine go_jN hq (fun hq2 => ?_)
  obtain ⟨e9, hpx⟩ := hq2
  replace e9 := e9.symm
  subst e9
  refine r_aload_n (pc := 17) dX1_character_17 rfl ?_
  refine gX1_30 (pc := 18) dX1_character_18 hb rfl ?_
  refine r_iload_n (pc := 21) dX1_character_21 rfl ?_
  refine go_cz (w := ((x.toNat : Nat) : Int)) (by omega) ?_
  refine r_callV (pc := 22) (kb' := 0) dX1_character_22 kJ7_charAt q2591 (t_J7_charAt (i := x.toNat) k7 (by decide) (by omega)) k7o rfl (Nat.le_refl _) (Nat.le_of_ble_eq_true rfl) rfl rfl (Nat.le_of_ble_eq_true rfl) (fun _ _ q => q.elim) (fun _ _ hq => ?_)
  refine go_jE hq ?_
  have hc8 := k7.ch (i := x.toNat) (by omega)
  exact r_iret (pc := 25) dX1_character_25 rfl (nC (by omega)) ⟨rfl, if_pos hpx, rfl⟩
theorem t_X1_account {G : Gl} {h9 : Hp} {o : Nat} {r : Row} {Y : KY} {s : Nat} {vs : Value} {hq0 ip ln : Nat} {rv : Value} {Tc Tv : Nat} {HT he : Nat → Nat} (hK : KWx G o (r, Y) s vs hq0 ip ln rv Tc Tv HT he h9) (hI : RI r) {w : Int} (hw : InR w) : Ct G 7 12 yX1_account (Cond.code yX1_account cX1_account 2 (some .int)) [.ref o, .int (iZ w)] h9 (qQ (aX (r, Y) w) (kAcc w) (Fr pQ h9)) (qX (kAcc w) eIAE "" (Fr pQ h9)) := by
  obtain ⟨k1, k2, k3, k4, k5, k6, k7, k8, k9⟩ := id hK
  obtain ⟨al, cl, sl, m1, m2, m3, n1, n2, E, F, hX9⟩ := k2
  have hX9 : SWx G Tc s r al cl sl m1 m2 m3 n1 n2 E F h9 := hX9
  have hb9 := k1
  have hF : Fr pQ h9 h9 := Fr.rf
  have hb := hb9
  have hX := hX9
  have b := hI.1
  have hX2 := hX
  obtain ⟨w1, w2, w3, w4, w5, w6, w7, w8⟩ := hX2
  obtain ⟨ar1, w2s⟩ := w2.size
  obtain ⟨k6a, k6b, k6o⟩ := k6.obj
  obtain ⟨k4a, k4b, k4c, k4o⟩ := k4.o
  refine Ct.of (own := "CharterKiln") (nm := "account") (by decide +kernel) rfl rfl (L := [some (.ref o), some (.int (iZ w))]) rfl (Nat.le_of_ble_eq_true rfl) rfl ?_
  refine r_iload_n (pc := 0) dX1_account_0 rfl ?_
  refine r_iconst (pc := 1) dX1_account_1 ?_
  refine r_bipush (pc := 2) dX1_account_2 (by decide) ?_
  refine r_callS (pc := 4) (kb' := 12) dX1_account_4 kX1_isBetween q1525 (t_X1_isBetween (lo := 0) (hi := 13) (by omega) (by omega) (by omega)) (Nat.le_refl _) (Nat.le_of_ble_eq_true rfl) rfl rfl (Nat.le_of_ble_eq_true rfl) (fun _ _ q => q.elim) (fun _ _ hq => ?_)
  refine go_jE hq ?_
  refine r_callS (pc := 7) (kb' := 5) dX1_account_7 kX1_check q1964 (t_X1_check ) (Nat.le_of_ble_eq_true rfl) (Nat.le_of_ble_eq_true rfl) rfl rfl (Nat.le_of_ble_eq_true rfl) (fun E h7 hx => x_out rfl ⟨Or.inl ⟨hx.1, if_neg hx.2.1⟩, by rw [hx.2.2]; exact hF⟩) (fun _ h hq => ?_)
  refine go_jN hq (fun hq2 => ?_)
  obtain ⟨e9, hpw⟩ := hq2
  replace e9 := e9.symm
  subst e9
  refine r_iload_n (pc := 10) dX1_account_10 rfl ?_
  by_cases w11_0 : w = 0
  · refine r_tableIn (pc := 11) (off := 65) (tgt := 76) dX1_account_11 (by omega) (by omega) (by omega) (by rw [w11_0]; rfl) (by decide) ?_
    refine r_aload_n (pc := 76) dX1_account_76 rfl ?_
    refine gX1_10 (pc := 77) dX1_account_77 hb rfl ?_
    refine gX1_95 (pc := 80) dX1_account_80 w1 rfl ?_
    refine r_callV (pc := 83) (kb' := 5) dX1_account_83 kJ2_size q1512 (t_J2_size w2s) w2s rfl (Nat.le_refl _) (Nat.le_of_ble_eq_true rfl) rfl rfl (Nat.le_of_ble_eq_true rfl) (fun _ _ q => q.elim) (fun _ _ hq => ?_)
    refine go_jE hq ?_
    refine go_cz (w := r 0) (by omega) ?_
    exact r_iret (pc := 86) dX1_account_86 rfl rfl ⟨congrArg (fun q : Int => some (Value.int (iZ q))) (by unfold aX; rw [if_pos (show w = 0 by omega)] <;> rfl), if_pos hpw, hF⟩
  by_cases w11_1 : w = 1
  · refine r_tableIn (pc := 11) (off := 76) (tgt := 87) dX1_account_11 (by omega) (by omega) (by omega) (by rw [w11_1]; rfl) (by decide) ?_
    refine r_aload_n (pc := 87) dX1_account_87 rfl ?_
    refine gX1_10 (pc := 88) dX1_account_88 hb rfl ?_
    refine gX1_122 (pc := 91) dX1_account_91 w1 rfl ?_
    refine r_callV (pc := 94) (kb' := 5) dX1_account_94 kJ4_size q1773 (t_J4_size w3) w3.2.1 rfl (Nat.le_refl _) (Nat.le_of_ble_eq_true rfl) rfl rfl (Nat.le_of_ble_eq_true rfl) (fun _ _ q => q.elim) (fun _ _ hq => ?_)
    refine go_jE hq ?_
    refine go_cz (w := r 1) (by omega) ?_
    exact r_iret (pc := 97) dX1_account_97 rfl rfl ⟨congrArg (fun q : Int => some (Value.int (iZ q))) (by unfold aX; rw [if_neg (show ¬ w = 0 by omega), if_pos (show w = 1 by omega)] <;> rfl), if_pos hpw, hF⟩
  by_cases w11_2 : w = 2
  · refine r_tableIn (pc := 11) (off := 87) (tgt := 98) dX1_account_11 (by omega) (by omega) (by omega) (by rw [w11_2]; rfl) (by decide) ?_
    refine r_aload_n (pc := 98) dX1_account_98 rfl ?_
    refine gX1_10 (pc := 99) dX1_account_99 hb rfl ?_
    refine r_callV (pc := 102) (kb' := 0) dX1_account_102 kX2_fired q2608 (t_X2_fired hX.w hI) w1 rfl (Nat.le_of_ble_eq_true rfl) (Nat.le_of_ble_eq_true rfl) rfl rfl (Nat.le_of_ble_eq_true rfl) (fun _ _ q => q.elim) (fun _ h hq => ?_)
    refine go_jP hq (fun hq2 => ?_)
    replace hF := hF.tr hq2
    have hb := hF.get hb9 pQ_2
    have hX := hX9.q hF
    have hX2 := hX
    obtain ⟨w1, w2, w3, w4, w5, w6, w7, w8⟩ := hX2
    obtain ⟨ar1, w2s⟩ := w2.size
    exact r_iret (pc := 105) dX1_account_105 rfl rfl ⟨congrArg (fun q : Int => some (Value.int (iZ q))) (by unfold aX; rw [if_neg (show ¬ w = 0 by omega), if_neg (show ¬ w = 1 by omega), if_pos (show w = 2 by omega)] <;> rfl), if_pos hpw, hF⟩
  by_cases w11_3 : w = 3
  · refine r_tableIn (pc := 11) (off := 95) (tgt := 106) dX1_account_11 (by omega) (by omega) (by omega) (by rw [w11_3]; rfl) (by decide) ?_
    refine r_aload_n (pc := 106) dX1_account_106 rfl ?_
    refine gX1_10 (pc := 107) dX1_account_107 hb rfl ?_
    refine r_callV (pc := 110) (kb' := 0) dX1_account_110 kX2_cracks q2612 (t_X2_cracks hX.w hI) w1 rfl (Nat.le_of_ble_eq_true rfl) (Nat.le_of_ble_eq_true rfl) rfl rfl (Nat.le_of_ble_eq_true rfl) (fun _ _ q => q.elim) (fun _ h hq => ?_)
    refine go_jP hq (fun hq2 => ?_)
    replace hF := hF.tr hq2
    have hb := hF.get hb9 pQ_2
    have hX := hX9.q hF
    have hX2 := hX
    obtain ⟨w1, w2, w3, w4, w5, w6, w7, w8⟩ := hX2
    obtain ⟨ar1, w2s⟩ := w2.size
    exact r_iret (pc := 113) dX1_account_113 rfl rfl ⟨congrArg (fun q : Int => some (Value.int (iZ q))) (by unfold aX; rw [if_neg (show ¬ w = 0 by omega), if_neg (show ¬ w = 1 by omega), if_neg (show ¬ w = 2 by omega), if_pos (show w = 3 by omega)] <;> rfl), if_pos hpw, hF⟩
  by_cases w11_4 : w = 4
  · refine r_tableIn (pc := 11) (off := 103) (tgt := 114) dX1_account_11 (by omega) (by omega) (by omega) (by rw [w11_4]; rfl) (by decide) ?_
    refine r_aload_n (pc := 114) dX1_account_114 rfl ?_
    refine gX1_10 (pc := 115) dX1_account_115 hb rfl ?_
    refine gX1_180 (pc := 118) dX1_account_118 w1 rfl ?_
    refine r_callV (pc := 121) (kb' := 5) dX1_account_121 kJ4_size q1773 (t_J4_size w4) w4.2.1 rfl (Nat.le_refl _) (Nat.le_of_ble_eq_true rfl) rfl rfl (Nat.le_of_ble_eq_true rfl) (fun _ _ q => q.elim) (fun _ _ hq => ?_)
    refine go_jE hq ?_
    refine go_cz (w := r 2) (by omega) ?_
    exact r_iret (pc := 124) dX1_account_124 rfl rfl ⟨congrArg (fun q : Int => some (Value.int (iZ q))) (by unfold aX; rw [if_neg (show ¬ w = 0 by omega), if_neg (show ¬ w = 1 by omega), if_neg (show ¬ w = 2 by omega), if_neg (show ¬ w = 3 by omega), if_pos (show w = 4 by omega)] <;> rfl), if_pos hpw, hF⟩
  by_cases w11_5 : w = 5
  · refine r_tableIn (pc := 11) (off := 114) (tgt := 125) dX1_account_11 (by omega) (by omega) (by omega) (by rw [w11_5]; rfl) (by decide) ?_
    refine r_aload_n (pc := 125) dX1_account_125 rfl ?_
    refine gX1_10 (pc := 126) dX1_account_126 hb rfl ?_
    refine gX1_471 (pc := 129) dX1_account_129 w1 rfl ?_
    exact r_iret (pc := 132) dX1_account_132 rfl rfl ⟨congrArg (fun q : Int => some (Value.int (iZ q))) (by unfold aX; rw [if_neg (show ¬ w = 0 by omega), if_neg (show ¬ w = 1 by omega), if_neg (show ¬ w = 2 by omega), if_neg (show ¬ w = 3 by omega), if_neg (show ¬ w = 4 by omega), if_pos (show w = 5 by omega)] <;> rfl), if_pos hpw, hF⟩
  by_cases w11_6 : w = 6
  · refine r_tableIn (pc := 11) (off := 122) (tgt := 133) dX1_account_11 (by omega) (by omega) (by omega) (by rw [w11_6]; rfl) (by decide) ?_
    refine r_aload_n (pc := 133) dX1_account_133 rfl ?_
    refine gX1_10 (pc := 134) dX1_account_134 hb rfl ?_
    refine gX1_472 (pc := 137) dX1_account_137 w1 rfl ?_
    exact r_iret (pc := 140) dX1_account_140 rfl rfl ⟨congrArg (fun q : Int => some (Value.int (iZ q))) (by unfold aX; rw [if_neg (show ¬ w = 0 by omega), if_neg (show ¬ w = 1 by omega), if_neg (show ¬ w = 2 by omega), if_neg (show ¬ w = 3 by omega), if_neg (show ¬ w = 4 by omega), if_neg (show ¬ w = 5 by omega), if_pos (show w = 6 by omega)] <;> rfl), if_pos hpw, hF⟩
  by_cases w11_7 : w = 7
  · refine r_tableIn (pc := 11) (off := 130) (tgt := 141) dX1_account_11 (by omega) (by omega) (by omega) (by rw [w11_7]; rfl) (by decide) ?_
    refine r_aload_n (pc := 141) dX1_account_141 rfl ?_
    refine gX1_10 (pc := 142) dX1_account_142 hb rfl ?_
    refine gX1_475 (pc := 145) dX1_account_145 w1 rfl ?_
    exact r_iret (pc := 148) dX1_account_148 rfl rfl ⟨congrArg (fun q : Int => some (Value.int (iZ q))) (by unfold aX; rw [if_neg (show ¬ w = 0 by omega), if_neg (show ¬ w = 1 by omega), if_neg (show ¬ w = 2 by omega), if_neg (show ¬ w = 3 by omega), if_neg (show ¬ w = 4 by omega), if_neg (show ¬ w = 5 by omega), if_neg (show ¬ w = 6 by omega), if_pos (show w = 7 by omega)] <;> rfl), if_pos hpw, hF⟩
  by_cases w11_8 : w = 8
  · refine r_tableIn (pc := 11) (off := 138) (tgt := 149) dX1_account_11 (by omega) (by omega) (by omega) (by rw [w11_8]; rfl) (by decide) ?_
    refine r_aload_n (pc := 149) dX1_account_149 rfl ?_
    refine gX1_10 (pc := 150) dX1_account_150 hb rfl ?_
    refine gX1_478 (pc := 153) dX1_account_153 w1 rfl ?_
    exact r_iret (pc := 156) dX1_account_156 rfl rfl ⟨congrArg (fun q : Int => some (Value.int (iZ q))) (by unfold aX; rw [if_neg (show ¬ w = 0 by omega), if_neg (show ¬ w = 1 by omega), if_neg (show ¬ w = 2 by omega), if_neg (show ¬ w = 3 by omega), if_neg (show ¬ w = 4 by omega), if_neg (show ¬ w = 5 by omega), if_neg (show ¬ w = 6 by omega), if_neg (show ¬ w = 7 by omega), if_pos (show w = 8 by omega)] <;> rfl), if_pos hpw, hF⟩
  by_cases w11_9 : w = 9
  · refine r_tableIn (pc := 11) (off := 146) (tgt := 157) dX1_account_11 (by omega) (by omega) (by omega) (by rw [w11_9]; rfl) (by decide) ?_
    refine r_aload_n (pc := 157) dX1_account_157 rfl ?_
    refine gX1_10 (pc := 158) dX1_account_158 hb rfl ?_
    refine gX1_481 (pc := 161) dX1_account_161 w1 rfl ?_
    exact r_iret (pc := 164) dX1_account_164 rfl rfl ⟨congrArg (fun q : Int => some (Value.int (iZ q))) (by unfold aX; rw [if_neg (show ¬ w = 0 by omega), if_neg (show ¬ w = 1 by omega), if_neg (show ¬ w = 2 by omega), if_neg (show ¬ w = 3 by omega), if_neg (show ¬ w = 4 by omega), if_neg (show ¬ w = 5 by omega), if_neg (show ¬ w = 6 by omega), if_neg (show ¬ w = 7 by omega), if_neg (show ¬ w = 8 by omega), if_pos (show w = 9 by omega)] <;> rfl), if_pos hpw, hF⟩
  by_cases w11_10 : w = 10
  · refine r_tableIn (pc := 11) (off := 154) (tgt := 165) dX1_account_11 (by omega) (by omega) (by omega) (by rw [w11_10]; rfl) (by decide) ?_
    refine r_aload_n (pc := 165) dX1_account_165 rfl ?_
    refine gX1_10 (pc := 166) dX1_account_166 hb rfl ?_
    refine gX1_484 (pc := 169) dX1_account_169 w1 rfl ?_
    exact r_iret (pc := 172) dX1_account_172 rfl rfl ⟨congrArg (fun q : Int => some (Value.int (iZ q))) (by unfold aX; rw [if_neg (show ¬ w = 0 by omega), if_neg (show ¬ w = 1 by omega), if_neg (show ¬ w = 2 by omega), if_neg (show ¬ w = 3 by omega), if_neg (show ¬ w = 4 by omega), if_neg (show ¬ w = 5 by omega), if_neg (show ¬ w = 6 by omega), if_neg (show ¬ w = 7 by omega), if_neg (show ¬ w = 8 by omega), if_neg (show ¬ w = 9 by omega), if_pos (show w = 10 by omega)] <;> rfl), if_pos hpw, hF⟩
  by_cases w11_11 : w = 11
  · refine r_tableIn (pc := 11) (off := 162) (tgt := 173) dX1_account_11 (by omega) (by omega) (by omega) (by rw [w11_11]; rfl) (by decide) ?_
    refine r_aload_n (pc := 173) dX1_account_173 rfl ?_
    refine gX1_10 (pc := 174) dX1_account_174 hb rfl ?_
    refine gX1_487 (pc := 177) dX1_account_177 w1 rfl ?_
    exact r_iret (pc := 180) dX1_account_180 rfl rfl ⟨congrArg (fun q : Int => some (Value.int (iZ q))) (by unfold aX; rw [if_neg (show ¬ w = 0 by omega), if_neg (show ¬ w = 1 by omega), if_neg (show ¬ w = 2 by omega), if_neg (show ¬ w = 3 by omega), if_neg (show ¬ w = 4 by omega), if_neg (show ¬ w = 5 by omega), if_neg (show ¬ w = 6 by omega), if_neg (show ¬ w = 7 by omega), if_neg (show ¬ w = 8 by omega), if_neg (show ¬ w = 9 by omega), if_neg (show ¬ w = 10 by omega), if_pos (show w = 11 by omega)] <;> rfl), if_pos hpw, hF⟩
  by_cases w11_12 : w = 12
  · refine r_tableIn (pc := 11) (off := 170) (tgt := 181) dX1_account_11 (by omega) (by omega) (by omega) (by rw [w11_12]; rfl) (by decide) ?_
    refine r_aload_n (pc := 181) dX1_account_181 rfl ?_
    refine gX1_26 (pc := 182) dX1_account_182 hb rfl ?_
    refine r_callV (pc := 185) (kb' := 5) dX1_account_185 kJ7_length q1324 (t_J7_length k6) k6o rfl (Nat.le_refl _) (Nat.le_of_ble_eq_true rfl) rfl rfl (Nat.le_of_ble_eq_true rfl) (fun _ _ q => q.elim) (fun _ _ hq => ?_)
    refine go_jE hq ?_
    exact r_iret (pc := 188) dX1_account_188 rfl rfl ⟨congrArg (fun q : Int => some (Value.int (iZ q))) (by unfold aX; rw [if_neg (show ¬ w = 0 by omega), if_neg (show ¬ w = 1 by omega), if_neg (show ¬ w = 2 by omega), if_neg (show ¬ w = 3 by omega), if_neg (show ¬ w = 4 by omega), if_neg (show ¬ w = 5 by omega), if_neg (show ¬ w = 6 by omega), if_neg (show ¬ w = 7 by omega), if_neg (show ¬ w = 8 by omega), if_neg (show ¬ w = 9 by omega), if_neg (show ¬ w = 10 by omega), if_neg (show ¬ w = 11 by omega), if_pos (show w = 12 by omega)] <;> rfl), if_pos hpw, hF⟩
  refine r_tableOut (pc := 11) (tgt := 189) dX1_account_11 (by omega) (by omega) (by decide) ?_
  refine r_aload_n (pc := 189) dX1_account_189 rfl ?_
  refine gX1_19 (pc := 190) dX1_account_190 hb rfl ?_
  refine r_callV (pc := 193) (kb' := 5) dX1_account_193 kJ5_size q1707 (t_J5_size k4) k4o rfl (Nat.le_refl _) (Nat.le_of_ble_eq_true rfl) rfl rfl (Nat.le_of_ble_eq_true rfl) (fun _ _ q => q.elim) (fun _ _ hq => ?_)
  refine go_jE hq ?_
  exact r_iret (pc := 196) dX1_account_196 rfl rfl ⟨congrArg (fun q : Int => some (Value.int (iZ q))) (by unfold aX; rw [if_neg (show ¬ w = 0 by omega), if_neg (show ¬ w = 1 by omega), if_neg (show ¬ w = 2 by omega), if_neg (show ¬ w = 3 by omega), if_neg (show ¬ w = 4 by omega), if_neg (show ¬ w = 5 by omega), if_neg (show ¬ w = 6 by omega), if_neg (show ¬ w = 7 by omega), if_neg (show ¬ w = 8 by omega), if_neg (show ¬ w = 9 by omega), if_neg (show ¬ w = 10 by omega), if_neg (show ¬ w = 11 by omega), if_neg (show ¬ w = 12 by omega)] <;> rfl), if_pos hpw, hF⟩
theorem t_X1_append {G : Gl} {h9 : Hp} {o : Nat} {r : Row} {Y : KY} {s : Nat} {vs : Value} {hq0 ip ln : Nat} {rv : Value} {Tc Tv : Nat} {HT he : Nat → Nat} (hK : KWx G o (r, Y) s vs hq0 ip ln rv Tc Tv HT he h9) (hI : RI r) {c : Int} (hc : 0 ≤ c ∧ c < 65536) (hl : KX.iN (r, Y) ≤ 60) : Ct G 7 85 yX1_append (Cond.code yX1_append cX1_append 2 (some .int)) [.ref o, .int (iZ c)] h9 (kQ G o (KX.iN (r, Y) + 1) (if ¬ (32 ≤ c ∧ c ≤ 126) then 1 else if KX.iN (r, Y) = 60 then 2 else 0) (KX.wI (r, Y) (KX.iN (r, Y) + 1) (catC (KX.iC (r, Y)) (KX.iN (r, Y)) (fun _ => c))) h9) (qX (if ¬ (32 ≤ c ∧ c ≤ 126) then 1 else if KX.iN (r, Y) = 60 then 2 else 0) eIAE eISE (· = h9)) := by
  obtain ⟨k1, k2, k3, k4, k5, k6, k7, k8, k9⟩ := id hK
  obtain ⟨al, cl, sl, m1, m2, m3, n1, n2, E, F, hX9⟩ := k2
  have hX9 : SWx G Tc s r al cl sl m1 m2 m3 n1 n2 E F h9 := hX9
  have hb9 := k1
  have hF : Fr pQ h9 h9 := Fr.rf
  have hb := hb9
  have hX := hX9
  have b := hI.1
  have hX2 := hX
  obtain ⟨w1, w2, w3, w4, w5, w6, w7, w8⟩ := hX2
  obtain ⟨ar1, w2s⟩ := w2.size
  obtain ⟨k6a, k6b, k6o⟩ := k6.obj
  generalize hN9 : KX.iN (r, Y) = N9 at hl k6 k6o ⊢
  refine Ct.of (own := "CharterKiln") (nm := "append") (by decide +kernel) rfl rfl (L := [some (.ref o), some (.int (iZ c))]) rfl (Nat.le_of_ble_eq_true rfl) rfl ?_
  refine r_iload_n (pc := 0) dX1_append_0 rfl ?_
  refine r_bipush (pc := 1) dX1_append_1 (by decide) ?_
  refine r_bipush (pc := 3) dX1_append_3 (by decide) ?_
  refine r_callS (pc := 5) (kb' := 85) dX1_append_5 kX1_isBetween q1525 (t_X1_isBetween (lo := 32) (hi := 126) (by omega) (by omega) (by omega)) (Nat.le_refl _) (Nat.le_of_ble_eq_true rfl) rfl rfl (Nat.le_of_ble_eq_true rfl) (fun _ _ q => q.elim) (fun _ _ hq => ?_)
  refine go_jE hq ?_
  refine r_callS (pc := 8) (kb' := 78) dX1_append_8 kX1_check q1964 (t_X1_check ) (Nat.le_of_ble_eq_true rfl) (Nat.le_of_ble_eq_true rfl) rfl rfl (Nat.le_of_ble_eq_true rfl) (fun E h7 hx => x_out rfl ⟨Or.inl ⟨hx.1, if_pos hx.2.1⟩, hx.2.2⟩) (fun _ h hq => ?_)
  refine go_jN hq (fun hq2 => ?_)
  obtain ⟨e9, hpc⟩ := hq2
  replace e9 := e9.symm
  subst e9
  refine r_aload_n (pc := 11) dX1_append_11 rfl ?_
  refine gX1_26 (pc := 12) dX1_append_12 hb rfl ?_
  refine r_callV (pc := 15) (kb' := 78) dX1_append_15 kJ7_length q1324 (t_J7_length k6) k6o rfl (Nat.le_refl _) (Nat.le_of_ble_eq_true rfl) rfl rfl (Nat.le_of_ble_eq_true rfl) (fun _ _ q => q.elim) (fun _ _ hq => ?_)
  refine go_jE hq ?_
  refine r_bipush (pc := 18) dX1_append_18 (by decide) ?_
  refine r_icmp_ge (pc := 20) (tgt := 27) dX1_append_20 (by decide) (by omega) (by omega) (fun c20 => ?_) (fun c20 => ?_)
  · refine r_iconst (pc := 27) dX1_append_27 ?_
    refine go_cz (w := bZ ((N9 : Int) < 60)) (bZ_f (by first | assumption | omega)).symm ?_
    refine r_callS (pc := 28) (kb' := 71) dX1_append_28 kX1_checkState q2182 (t_X1_checkState (p := (N9 : Int) < 60)) (Nat.le_of_ble_eq_true rfl) (Nat.le_of_ble_eq_true rfl) rfl rfl (Nat.le_of_ble_eq_true rfl) (fun E h7 hx => x_out rfl ⟨Or.inr ⟨hx.1, (if_neg (fun q => q hpc)).trans (if_pos (by have := hx.2.1; omega))⟩, hx.2.2⟩) (fun _ h hq => ?_)
    refine go_jN hq (fun hq2 => ?_)
    obtain ⟨e9, hpl⟩ := hq2
    replace e9 := e9.symm
    subst e9
    refine r_aload_n (pc := 31) dX1_append_31 rfl ?_
    refine gX1_26 (pc := 32) dX1_append_32 hb rfl ?_
    refine r_iload_n (pc := 35) dX1_append_35 rfl ?_
    refine r_callV (pc := 36) (kb' := 0) dX1_append_36 kJ7_append_3 q1304 (t_J7_append_3 k6 (by decide) (ch := c) (by omega) (by omega)) k6o rfl (Nat.le_of_ble_eq_true rfl) (Nat.le_of_ble_eq_true rfl) rfl rfl (Nat.le_of_ble_eq_true rfl) (fun _ _ q => q.elim) (fun _ h hq => ?_)
    refine go_jP hq (fun hq2 => ?_)
    obtain ⟨hA, hf⟩ := hq2
    have hK2 := hK.setI hf hA
    obtain ⟨k1, k2, k3, k4, k5, k6, k7, k8, k9⟩ := id hK2
    have hb := k1
    obtain ⟨k6a, k6b, k6o⟩ := k6.obj
    refine r_pop (pc := 39) dX1_append_39 rfl ?_
    refine r_aload_n (pc := 40) dX1_append_40 rfl ?_
    refine gX1_26 (pc := 41) dX1_append_41 hb rfl ?_
    refine r_callV (pc := 44) (kb' := 0) dX1_append_44 kJ7_length q1324 (t_J7_length k6) k6o rfl (Nat.le_refl _) (Nat.le_of_ble_eq_true rfl) rfl rfl (Nat.le_of_ble_eq_true rfl) (fun _ _ q => q.elim) (fun _ _ hq => ?_)
    refine go_jE hq ?_
    refine go_cz (w := (N9 : Int) + 1) rfl ?_
    exact r_iret (pc := 47) dX1_append_47 rfl rfl ⟨rfl, (if_neg (fun q => q hpc)).trans (if_neg (by omega)), hK2.w, hf.wk p2_C⟩
  · refine r_iconst (pc := 23) dX1_append_23 ?_
    refine go_cz (w := bZ ((N9 : Int) < 60)) (bZ_t (by first | assumption | omega)).symm ?_
    refine r_goto (pc := 24) (tgt := 28) dX1_append_24 (by decide) ?_
    refine r_callS (pc := 28) (kb' := 71) dX1_append_28 kX1_checkState q2182 (t_X1_checkState (p := (N9 : Int) < 60)) (Nat.le_of_ble_eq_true rfl) (Nat.le_of_ble_eq_true rfl) rfl rfl (Nat.le_of_ble_eq_true rfl) (fun E h7 hx => x_out rfl ⟨Or.inr ⟨hx.1, (if_neg (fun q => q hpc)).trans (if_pos (by have := hx.2.1; omega))⟩, hx.2.2⟩) (fun _ h hq => ?_)
    refine go_jN hq (fun hq2 => ?_)
    obtain ⟨e9, hpl⟩ := hq2
    replace e9 := e9.symm
    subst e9
    refine r_aload_n (pc := 31) dX1_append_31 rfl ?_
    refine gX1_26 (pc := 32) dX1_append_32 hb rfl ?_
    refine r_iload_n (pc := 35) dX1_append_35 rfl ?_
    refine r_callV (pc := 36) (kb' := 0) dX1_append_36 kJ7_append_3 q1304 (t_J7_append_3 k6 (by decide) (ch := c) (by omega) (by omega)) k6o rfl (Nat.le_of_ble_eq_true rfl) (Nat.le_of_ble_eq_true rfl) rfl rfl (Nat.le_of_ble_eq_true rfl) (fun _ _ q => q.elim) (fun _ h hq => ?_)
    refine go_jP hq (fun hq2 => ?_)
    obtain ⟨hA, hf⟩ := hq2
    have hK2 := hK.setI hf hA
    obtain ⟨k1, k2, k3, k4, k5, k6, k7, k8, k9⟩ := id hK2
    have hb := k1
    obtain ⟨k6a, k6b, k6o⟩ := k6.obj
    refine r_pop (pc := 39) dX1_append_39 rfl ?_
    refine r_aload_n (pc := 40) dX1_append_40 rfl ?_
    refine gX1_26 (pc := 41) dX1_append_41 hb rfl ?_
    refine r_callV (pc := 44) (kb' := 0) dX1_append_44 kJ7_length q1324 (t_J7_length k6) k6o rfl (Nat.le_refl _) (Nat.le_of_ble_eq_true rfl) rfl rfl (Nat.le_of_ble_eq_true rfl) (fun _ _ q => q.elim) (fun _ _ hq => ?_)
    refine go_jE hq ?_
    refine go_cz (w := (N9 : Int) + 1) rfl ?_
    exact r_iret (pc := 47) dX1_append_47 rfl rfl ⟨rfl, (if_neg (fun q => q hpc)).trans (if_neg (by omega)), hK2.w, hf.wk p2_C⟩
