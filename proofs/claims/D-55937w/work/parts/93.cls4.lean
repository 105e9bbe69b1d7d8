set_option maxRecDepth 100000
/-! the class, part 4: queries -/
theorem fnd_all {p : Int → Prop} [DecidablePred p] {n : Nat} : fndZ p 0 n = -1 ↔ ∀ i : Nat, i < n → ¬ p i := by
  constructor
  · intro h i hi
    rcases fnd_r (p := p) n 0 (by omega) with ⟨h1, h2⟩ | ⟨h1, h2, h3, h4⟩
    · exact h2 i (by omega) (by omega)
    · omega
  · intro h
    rcases fnd_r (p := p) n 0 (by omega) with ⟨h1, h2⟩ | ⟨h1, h2, h3, h4⟩
    · exact h1
    · exact absurd h3 (by have := h (fndZ p 0 n).toNat (by omega); rwa [show (((fndZ p 0 n).toNat : Nat) : Int) = fndZ p 0 n by omega] at this)
/-- the least of the limits -/
def lsZ (r : Row) : Nat → Int
  | 0 => 99
  | n + 1 => if fA r n 4 < 0 then lsZ r n else if lsZ r n ≤ limZ r n + 15 * fA r n 4 then lsZ r n else limZ r n + 15 * fA r n 4
theorem ls_le {r : Row} : ∀ n, lsZ r n ≤ 99
  | 0 => Int.le_refl _
  | n + 1 => by
    have := ls_le (r := r) n
    show (if fA r n 4 < 0 then lsZ r n else if lsZ r n ≤ limZ r n + 15 * fA r n 4 then lsZ r n else limZ r n + 15 * fA r n 4) ≤ 99
    (repeat' split) <;> omega
theorem ls_safe {r : Row} {x : Int} (hI : RI r) (hx : 10 ≤ x ∧ x ≤ 99) : ∀ n : Nat, (n : Int) ≤ r 0 → ((∀ i : Nat, i < n → ¬ 0 < crZ r i x) ↔ x ≤ lsZ r n) := by
  intro n
  induction n with
  | zero => intro _; exact ⟨fun _ => by show x ≤ 99; omega, fun _ i hi => absurd hi (by omega)⟩
  | succ n ih =>
    intro hn
    have ih := ih (by omega)
    have ho := hI.2.1 n (by omega) (by omega)
    have hl := lim_in ho
    have ho2 := ho
    unfold artOk at ho2
    have e : (0 < crZ r n x) ↔ ¬ (fA r n 4 < 0 ∨ x ≤ limZ r n + 15 * fA r n 4) := by
      unfold crZ heatZ
      (repeat' split) <;> omega
    have e2 : (∀ i : Nat, i < n + 1 → ¬ 0 < crZ r i x) ↔ (∀ i : Nat, i < n → ¬ 0 < crZ r i x) ∧ ¬ 0 < crZ r n x := ⟨fun h => ⟨fun i hi => h i (by omega), h n (by omega)⟩, fun h => all_s h.1 h.2⟩
    rw [e2, ih, e]
    show _ ↔ x ≤ (if fA r n 4 < 0 then lsZ r n else if lsZ r n ≤ limZ r n + 15 * fA r n 4 then lsZ r n else limZ r n + 15 * fA r n 4)
    (repeat' split) <;> omega
theorem ls_ge {r : Row} (hI : RI r) : ∀ n : Nat, (n : Int) ≤ r 0 → 0 ≤ lsZ r n
  | 0, _ => by show (0 : Int) ≤ 99; omega
  | n + 1, hn => by
    have := ls_ge hI n (by omega)
    have ho := hI.2.1 n (by omega) (by omega)
    have hl := lim_in ho
    unfold artOk at ho
    show 0 ≤ (if fA r n 4 < 0 then lsZ r n else if lsZ r n ≤ limZ r n + 15 * fA r n 4 then lsZ r n else limZ r n + 15 * fA r n 4)
    (repeat' split) <;> omega
theorem sf_ls {r : Row} (hI : RI r) : sfZ r 90 = if lsZ r (r 0).toNat < 10 then -1 else lsZ r (r 0).toNat := by
  have b := hI.1
  have hs : ∀ x : Int, 10 ≤ x ∧ x ≤ 99 → (safeP r x ↔ x ≤ lsZ r (r 0).toNat) := fun x hx => fnd_all.trans (ls_safe hI hx (r 0).toNat (by omega))
  have h9 := ls_le (r := r) (r 0).toNat
  generalize lsZ r (r 0).toNat = L at hs h9
  have key : ∀ m : Nat, m ≤ 90 → sfZ r m = if m = 0 then -1 else if L < 10 then -1 else if L < 9 + m then L else 9 + m := by
    intro m
    induction m with
    | zero => intro _; rfl
    | succ m ih =>
      intro hm
      have ih := ih (by omega)
      show (if safeP r (10 + m) then (10 + m : Int) else sfZ r m) = _
      rw [ih]
      have := hs (10 + m) (by omega)
      by_cases q : safeP r (10 + m)
      · rw [if_pos q]
        have := this.mp q
        rw [if_neg (by omega), if_neg (by omega)]
        split <;> omega
      · rw [if_neg q]
        have : ¬ (10 + (m : Int) ≤ L) := fun w => q (this.mpr w)
        rw [if_neg (show ¬ m + 1 = 0 by omega)]
        (repeat' split) <;> omega
  rw [key 90 (by omega), if_neg (by omega)]
  (repeat' split) <;> omega
theorem kFir_0 {r : Row} {a : Int} (h : 0 ≤ a ∧ a ≤ r 0 - 1) (hf : ffZ r a ≠ -1) : kFir r a = 0 ∧ zFir r a = ffZ r a := by unfold kFir zFir; rw [if_neg (by omega), if_neg hf, if_neg (by omega), if_neg hf]; exact ⟨rfl, rfl⟩
theorem kHt_0 {x : Int} (h : 10 ≤ x ∧ x ≤ 99) : kHt x = 0 := if_pos h
theorem kHt_1 {x : Int} (h : ¬ (10 ≤ x ∧ x ≤ 99)) : kHt x = 1 := if_neg h
theorem kLaw_0 {r : Row} {p : Int} (h : 0 ≤ p ∧ p ≤ r 1 - 1) : kLaw r p = 0 := if_pos h
theorem kLaw_1 {r : Row} {p : Int} (h : ¬ (0 ≤ p ∧ p ≤ r 1 - 1)) : kLaw r p = 1 := if_neg h
theorem kAr_0 {r : Row} {a : Int} (h : 0 ≤ a ∧ a ≤ r 0 - 1) : kAr r a = 0 := if_pos h
theorem kAr_1 {r : Row} {a : Int} (h : ¬ (0 ≤ a ∧ a ≤ r 0 - 1)) : kAr r a = 1 := if_neg h
theorem can_lem {r : Row} {a : Int} (ho : artOk r a) (h : 0 ≤ a ∧ a ≤ r 0 - 1) : (0 ≤ fA r a 4 ∧ fA r a 3 = 1 ∧ fA r a 2 = 0) ↔ (refRatify r a = none ∧ kAr r a = 0) := by
  unfold artOk at ho
  have hkk := kAr_0 h
  constructor
  · intro ⟨h1, h2, h3⟩
    refine ⟨?_, hkk⟩
    unfold refRatify
    rw [if_neg (by omega), if_neg (by omega), if_neg (by omega), if_neg (by omega)]
  · intro ⟨h1, _⟩
    have := refRatify_n h1
    omega

theorem t_X1_shardOf {G : Gl} {h9 : Hp} {o s T : Nat} {v1 v2 v3 v4 v5 v6 v7 : Value} {r : Row} {al cl sl : Nat} {m1 m2 m3 : Int32} {n1 n2 E F : Nat → Nat} (hb9 : h9 o = some ((2, 0), ob 0 [.ref s, v1, v2, v3, v4, v5, v6, v7])) (hX9 : SWx G T s r al cl sl m1 m2 m3 n1 n2 E F h9) (hI : RI r) {x w : Int} (hx9 : InR x) (hw : InR w) : Ct G 7 14 yX1_shardOf (Cond.code yX1_shardOf cX1_shardOf 4 (some .int)) [.ref o, .int (iZ x), .int (iZ w)] h9 (qQ (zShd r x w) (kShd r x w) (Fr pQ h9)) (qX (kShd r x w) eIOB eIAE (Fr pQ h9)) := by
  have hF : Fr pQ h9 h9 := Fr.rf
  have hb := hb9
  have hX := hX9
  have b := hI.1
  have hX2 := hX
  obtain ⟨w1, w2, w3, w4, w5, w6, w7, w8⟩ := hX2
  obtain ⟨ar1, w2s⟩ := w2.size
  refine Ct.of (own := "CharterKiln") (nm := "shardOf") (by decide +kernel) rfl rfl (L := [some (.ref o), some (.int (iZ x)), some (.int (iZ w)), none]) rfl (Nat.le_of_ble_eq_true rfl) rfl ?_
  refine r_aload_n (pc := 0) dX1_shardOf_0 rfl ?_
  refine gX1_10 (pc := 1) dX1_shardOf_1 hb rfl ?_
  refine r_iload_n (pc := 4) dX1_shardOf_4 rfl ?_
  refine r_callV (pc := 5) (kb' := 14) dX1_shardOf_5 kX2_isShard q1893 (t_X2_isShard hX.w hI (by omega)) w1 rfl (Nat.le_refl _) (Nat.le_of_ble_eq_true rfl) rfl rfl (Nat.le_of_ble_eq_true rfl) (fun _ _ q => q.elim) (fun _ _ hq => ?_)
  refine go_jE hq ?_
  refine r_callS (pc := 8) (kb' := 7) dX1_shardOf_8 kX1_checkIndex q1956 (t_X1_checkIndex ) (Nat.le_of_ble_eq_true rfl) (Nat.le_of_ble_eq_true rfl) rfl rfl (Nat.le_of_ble_eq_true rfl) (fun E h7 hx => x_out rfl ⟨Or.inl ⟨hx.1, kShd_1 hx.2.1⟩, by rw [hx.2.2]; exact hF⟩) (fun _ h hq => ?_)
  refine go_jN hq (fun hq2 => ?_)
  obtain ⟨e9, hpx⟩ := hq2
  replace e9 := e9.symm
  subst e9
  refine r_iload_n (pc := 11) dX1_shardOf_11 rfl ?_
  refine r_iconst (pc := 12) dX1_shardOf_12 ?_
  refine r_iconst (pc := 13) dX1_shardOf_13 ?_
  refine r_callS (pc := 14) (kb' := 7) dX1_shardOf_14 kX1_isBetween q1525 (t_X1_isBetween (lo := 0) (by omega) (by omega) (by omega)) (Nat.le_refl _) (Nat.le_of_ble_eq_true rfl) rfl rfl (Nat.le_of_ble_eq_true rfl) (fun _ _ q => q.elim) (fun _ _ hq => ?_)
  refine go_jE hq ?_
  refine r_callS (pc := 17) (kb' := 0) dX1_shardOf_17 kX1_check q1964 (t_X1_check ) (Nat.le_of_ble_eq_true rfl) (Nat.le_of_ble_eq_true rfl) rfl rfl (Nat.le_of_ble_eq_true rfl) (fun E h7 hx => x_out rfl ⟨Or.inr ⟨hx.1, kShd_2 hpx hx.2.1⟩, by rw [hx.2.2]; exact hF⟩) (fun _ h hq => ?_)
  refine go_jN hq (fun hq2 => ?_)
  obtain ⟨e9, hpw⟩ := hq2
  replace e9 := e9.symm
  subst e9
  refine r_aload_n (pc := 20) dX1_shardOf_20 rfl ?_
  refine gX1_10 (pc := 21) dX1_shardOf_21 hb rfl ?_
  refine gX1_180 (pc := 24) dX1_shardOf_24 w1 rfl ?_
  refine r_iload_n (pc := 27) dX1_shardOf_27 rfl ?_
  refine go_cz (w := ((x.toNat : Nat) : Int)) (by omega) ?_
  refine r_callV (pc := 28) (kb' := 0) dX1_shardOf_28 kJ4_get q1897 (t_J4_get w4 (i := x.toNat) (by omega)) w4.2.1 rfl (Nat.le_refl _) (Nat.le_of_ble_eq_true rfl) rfl rfl (Nat.le_of_ble_eq_true rfl) (fun _ _ q => q.elim) (fun _ _ hq => ?_)
  refine go_jE hq ?_
  have hS6 := w6 x.toNat (by omega)
  rw [show ((x.toNat : Nat) : Int) = x by omega] at hS6
  have hso := hI.2.2.1 x (by omega) (by omega)
  have hso2 := hso
  unfold shOk at hso2
  refine r_cast (pc := 31) dX1_shardOf_31 q1282 hS6 rfl ?_
  refine r_astore_n (pc := 34) (L' := [_, _, _, _]) dX1_shardOf_34 rfl ?_
  refine r_iload_n (pc := 35) dX1_shardOf_35 rfl ?_
  by_cases w36_0 : w = 0
  · refine r_lookup (pc := 36) (off := 28) (tgt := 64) dX1_shardOf_36 (by decide) (by omega) (by rw [w36_0]; rfl) (by decide) ?_
    refine r_aload_n (pc := 64) dX1_shardOf_64 rfl ?_
    refine gX1_186 (pc := 65) dX1_shardOf_65 hS6 rfl ?_
    exact r_iret (pc := 68) dX1_shardOf_68 rfl rfl ⟨congrArg (fun q : Int => some (Value.int (iZ q))) (by unfold zShd; rw [if_pos (kShd_0 hpx hpw)]; first | (rw [w36_0]) | (rw [w36_1]) | (rw [show w = 2 by omega])), kShd_0 hpx hpw, hF⟩
  by_cases w36_1 : w = 1
  · refine r_lookup (pc := 36) (off := 33) (tgt := 69) dX1_shardOf_36 (by decide) (by omega) (by rw [w36_1]; rfl) (by decide) ?_
    refine r_aload_n (pc := 69) dX1_shardOf_69 rfl ?_
    refine gX1_227 (pc := 70) dX1_shardOf_70 hS6 rfl ?_
    exact r_iret (pc := 73) dX1_shardOf_73 rfl rfl ⟨congrArg (fun q : Int => some (Value.int (iZ q))) (by unfold zShd; rw [if_pos (kShd_0 hpx hpw)]; first | (rw [w36_0]) | (rw [w36_1]) | (rw [show w = 2 by omega])), kShd_0 hpx hpw, hF⟩
  refine r_lookup (pc := 36) (off := 38) (tgt := 74) dX1_shardOf_36 (by decide) (by omega) (by show Op.lookupswitch.offset [(0, 28), (1, 33)] 38 _ = _; rw [Op.lookupswitch.offset_cons, if_neg (by omega)]; rw [Op.lookupswitch.offset_cons, if_neg (by omega)]; rfl) (by decide) ?_
  refine r_aload_n (pc := 74) dX1_shardOf_74 rfl ?_
  refine gX1_230 (pc := 75) dX1_shardOf_75 hS6 rfl ?_
  exact r_iret (pc := 78) dX1_shardOf_78 rfl rfl ⟨congrArg (fun q : Int => some (Value.int (iZ q))) (by unfold zShd; rw [if_pos (kShd_0 hpx hpw)]; first | (rw [w36_0]) | (rw [w36_1]) | (rw [show w = 2 by omega])), kShd_0 hpx hpw, hF⟩
theorem t_X1_rawOn {G : Gl} {h9 : Hp} {o s T : Nat} {v1 v2 v3 v4 v5 v6 v7 : Value} {r : Row} {al cl sl : Nat} {m1 m2 m3 : Int32} {n1 n2 E F : Nat → Nat} (hb9 : h9 o = some ((2, 0), ob 0 [.ref s, v1, v2, v3, v4, v5, v6, v7])) (hX9 : SWx G T s r al cl sl m1 m2 m3 n1 n2 E F h9) (hI : RI r) {x : Int} (hx : InR x) : Ct G 3 5 yX1_rawOn (Cond.code yX1_rawOn cX1_rawOn 5 (some .int)) [.ref o, .int (iZ x)] h9 (jP (.int (iZ (rawSh r x))) (Fr pQ h9)) noX := by
  have hF : Fr pQ h9 h9 := Fr.rf
  have hb := hb9
  have hX := hX9
  have b := hI.1
  have hX2 := hX
  obtain ⟨w1, w2, w3, w4, w5, w6, w7, w8⟩ := hX2
  obtain ⟨ar1, w2s⟩ := w2.size
  have hp := PW.nil (h := h9)
  refine Ct.of (own := "CharterKiln") (nm := "rawOn") (by decide +kernel) rfl rfl (L := [some (.ref o), some (.int (iZ x)), none, none, none]) rfl (Nat.le_of_ble_eq_true rfl) rfl ?_
  refine r_iconst (pc := 0) dX1_rawOn_0 ?_
  refine r_istore_n (pc := 1) (L' := [_, _, _, _, _]) dX1_rawOn_1 rfl ?_
  refine r_aload_n (pc := 2) dX1_rawOn_2 rfl ?_
  refine gX1_10 (pc := 3) dX1_rawOn_3 hb rfl ?_
  refine gX1_95 (pc := 6) dX1_rawOn_6 w1 rfl ?_
  refine r_callV (pc := 9) (kb' := 0) dX1_rawOn_9 kJ2_iterator q463 (t_J2_iterator (3, 11) (by decide) w2) w2s rfl (Nat.le_of_ble_eq_true rfl) (Nat.le_of_ble_eq_true rfl) rfl rfl (Nat.le_of_ble_eq_true rfl) (fun _ _ q => q.elim) (fun _ h hq => ?_)
  refine go_jX hq (fun it hit => ?_)
  obtain ⟨hit, e9⟩ := hit
  subst e9
  refine go_pw (hp.new hit _) (fun h hp => ?_)
  refine r_astore_n (pc := 12) (L' := [_, _, _, _, _]) dX1_rawOn_12 rfl ?_
  have loop13 : ∀ (k13 : Nat) (k : Nat) (l : Int) (h : Hp), (k ≤ (r 0).toNat) → (PW [(it, (3, 11), ob 9 [.int (iZ k), .int (iZ l), .int m1, .ref al])] h9 h) → (r 0).toNat - k < k13 → Go G "CharterKiln" cX1_rawOn (5, some .int, "rawOn", []) 3 5 (jP (.int (iZ (rawSh r x))) (Fr pQ h9)) (noX) 0 h 13 [some (.ref o), some (.int (iZ x)), some (.int (iZ (sumZ (fun a => bZ (fA r a 4 = x ∧ fA r a 3 = 0)) k))), some (.ref it), none] [] := by
    intro k13
    induction k13 with
    | zero => intro k l h hk hp hk; omega
    | succ k13 ih13 =>
      intro k l h hk hp hk13
      have hF := hp.fr (P := pQ) ⟨Or.inl hit, trivial⟩
      have hX2 := hX.q hF
      obtain ⟨w1, w2, w3, w4, w5, w6, w7, w8⟩ := hX2
      obtain ⟨ar1, w2s⟩ := w2.size
      have hb := hF.get hb9 pQ_2
      refine r_aload_n (pc := 13) dX1_rawOn_13 rfl ?_
      refine r_callF (pc := 14) (kb' := 0) dX1_rawOn_14 0 rfl f0 q489 (t_J26_hasNext (hp.at 0 rfl) w2 (by omega)) (hp.at 0 rfl) rfl (Nat.le_refl _) (Nat.le_of_ble_eq_true rfl) rfl rfl (Nat.le_of_ble_eq_true rfl) (fun _ _ q => q.elim) (fun _ _ hq => ?_)
      refine go_jE hq ?_
      refine r_ifB_eq (pc := 19) (tgt := 61) dX1_rawOn_19 (by decide) (fun c19 => ?_) (fun c19 => ?_)
      · refine r_iload_n (pc := 61) dX1_rawOn_61 rfl ?_
        exact r_iret (pc := 62) dX1_rawOn_62 rfl rfl ⟨congrArg (fun q : Int => some (Value.int (iZ q))) (by show sumZ _ k = sumZ _ (r 0).toNat; rw [show k = (r 0).toNat by omega]), hF⟩
      · refine r_aload_n (pc := 22) dX1_rawOn_22 rfl ?_
        refine r_callF (pc := 23) (kb' := 0) dX1_rawOn_23 1 rfl f1 q529 (t_J26_next (hp.at 0 rfl) w2 (by omega) (by decide)) (hp.at 0 rfl) rfl (Nat.le_refl _) (Nat.le_of_ble_eq_true rfl) rfl rfl (Nat.le_of_ble_eq_true rfl) (fun _ _ q => q.elim) (fun _ h hq => ?_)
        refine go_jP hq (fun e9 => ?_)
        subst e9
        refine go_pw (hp.put 0 rfl) (fun h hp => ?_)
        have hF := hp.fr (P := pQ) ⟨Or.inl hit, trivial⟩
        have hX2 := hX.q hF
        obtain ⟨w1, w2, w3, w4, w5, w6, w7, w8⟩ := hX2
        obtain ⟨ar1, w2s⟩ := w2.size
        have ho := hI.2.1 ((k : Nat) : Int) (by omega) (by omega)
        have ho2 := ho
        unfold artOk at ho2
        have hb := hF.get hb9 pQ_2
        refine r_cast (pc := 28) dX1_rawOn_28 q1039 (w5 k (by omega)) rfl ?_
        refine r_astore (pc := 31) (L' := [_, _, _, _, _]) dX1_rawOn_31 rfl ?_
        refine r_iload_n (pc := 33) dX1_rawOn_33 rfl ?_
        refine r_aload (pc := 34) dX1_rawOn_34 rfl ?_
        refine gX1_167 (pc := 36) dX1_rawOn_36 (w5 k (by omega)) rfl ?_
        refine r_iload_n (pc := 39) dX1_rawOn_39 rfl ?_
        refine r_icmp_ne (pc := 40) (tgt := 55) dX1_rawOn_40 (by decide) (by omega) (by omega) (fun c40 => ?_) (fun c40 => ?_)
        · refine r_iconst (pc := 55) dX1_rawOn_55 ?_
          refine go_cz (w := bZ (fA r k 4 = x ∧ fA r k 3 = 0)) (bZ_f (by omega)).symm ?_
          refine r_iadd (pc := 56) dX1_rawOn_56 ?_
          refine go_cz (w := sumZ (fun a => bZ (fA r a 4 = x ∧ fA r a 3 = 0)) (k + 1)) rfl ?_
          refine r_istore_n (pc := 57) (L' := [_, _, _, _, _]) dX1_rawOn_57 rfl ?_
          refine r_goto (pc := 58) (tgt := 13) dX1_rawOn_58 (by decide) ?_
          refine goL (L' := [some (.ref o), some (.int (iZ x)), some (.int (iZ (sumZ (fun a => bZ (fA r a 4 = x ∧ fA r a 3 = 0)) (k + 1)))), some (.ref it), none]) ⟨rfl, rfl, rfl, rfl, trivial⟩ ?_
          exact ih13 (k + 1) k h (by omega) hp (by omega)
        · refine r_aload (pc := 43) dX1_rawOn_43 rfl ?_
          refine gX1_200 (pc := 45) dX1_rawOn_45 (w5 k (by omega)) rfl ?_
          refine r_if_ne (pc := 48) (tgt := 55) dX1_rawOn_48 (by decide) (by omega) (fun c48 => ?_) (fun c48 => ?_)
          · refine r_iconst (pc := 55) dX1_rawOn_55 ?_
            refine go_cz (w := bZ (fA r k 4 = x ∧ fA r k 3 = 0)) (bZ_f (by omega)).symm ?_
            refine r_iadd (pc := 56) dX1_rawOn_56 ?_
            refine go_cz (w := sumZ (fun a => bZ (fA r a 4 = x ∧ fA r a 3 = 0)) (k + 1)) rfl ?_
            refine r_istore_n (pc := 57) (L' := [_, _, _, _, _]) dX1_rawOn_57 rfl ?_
            refine r_goto (pc := 58) (tgt := 13) dX1_rawOn_58 (by decide) ?_
            refine goL (L' := [some (.ref o), some (.int (iZ x)), some (.int (iZ (sumZ (fun a => bZ (fA r a 4 = x ∧ fA r a 3 = 0)) (k + 1)))), some (.ref it), none]) ⟨rfl, rfl, rfl, rfl, trivial⟩ ?_
            exact ih13 (k + 1) k h (by omega) hp (by omega)
          · refine r_iconst (pc := 51) dX1_rawOn_51 ?_
            refine go_cz (w := bZ (fA r k 4 = x ∧ fA r k 3 = 0)) (bZ_t (by omega)).symm ?_
            refine r_goto (pc := 52) (tgt := 56) dX1_rawOn_52 (by decide) ?_
            refine r_iadd (pc := 56) dX1_rawOn_56 ?_
            refine go_cz (w := sumZ (fun a => bZ (fA r a 4 = x ∧ fA r a 3 = 0)) (k + 1)) rfl ?_
            refine r_istore_n (pc := 57) (L' := [_, _, _, _, _]) dX1_rawOn_57 rfl ?_
            refine r_goto (pc := 58) (tgt := 13) dX1_rawOn_58 (by decide) ?_
            refine goL (L' := [some (.ref o), some (.int (iZ x)), some (.int (iZ (sumZ (fun a => bZ (fA r a 4 = x ∧ fA r a 3 = 0)) (k + 1)))), some (.ref it), none]) ⟨rfl, rfl, rfl, rfl, trivial⟩ ?_
            exact ih13 (k + 1) k h (by omega) hp (by omega)
  exact loop13 _ 0 (-1) _ (by omega) hp (Nat.lt_succ_self _)
theorem t_X1_shelfOf {G : Gl} {h9 : Hp} {o s T : Nat} {v1 v2 v3 v4 v5 v6 v7 : Value} {r : Row} {al cl sl : Nat} {m1 m2 m3 : Int32} {n1 n2 E F : Nat → Nat} (hb9 : h9 o = some ((2, 0), ob 0 [.ref s, v1, v2, v3, v4, v5, v6, v7])) (hX9 : SWx G T s r al cl sl m1 m2 m3 n1 n2 E F h9) (hI : RI r) {x w : Int} (hx : InR x) (hw : InR w) : Ct G 8 20 yX1_shelfOf (Cond.code yX1_shelfOf cX1_shelfOf 3 (some .int)) [.ref o, .int (iZ x), .int (iZ w)] h9 (qQ (zShf r x w) (kShf x w) (Fr pQ h9)) (qX (kShf x w) eIOB eIAE (Fr pQ h9)) := by
  have hF : Fr pQ h9 h9 := Fr.rf
  have hb := hb9
  have hX := hX9
  have b := hI.1
  have hX2 := hX
  obtain ⟨w1, w2, w3, w4, w5, w6, w7, w8⟩ := hX2
  obtain ⟨ar1, w2s⟩ := w2.size
  refine Ct.of (own := "CharterKiln") (nm := "shelfOf") (by decide +kernel) rfl rfl (L := [some (.ref o), some (.int (iZ x)), some (.int (iZ w))]) rfl (Nat.le_of_ble_eq_true rfl) rfl ?_
  refine r_iload_n (pc := 0) dX1_shelfOf_0 rfl ?_
  refine r_callS (pc := 1) (kb' := 13) dX1_shelfOf_1 kX1_checkShelf q1986 (t_X1_checkShelf (by omega)) (Nat.le_of_ble_eq_true rfl) (Nat.le_of_ble_eq_true rfl) rfl rfl (Nat.le_of_ble_eq_true rfl) (fun E h7 hx => x_out rfl ⟨Or.inl ⟨hx.1, kShf_1 hx.2.1⟩, by rw [hx.2.2]; exact hF⟩) (fun _ h hq => ?_)
  refine go_jN hq (fun hq2 => ?_)
  obtain ⟨e9, hpx⟩ := hq2
  replace e9 := e9.symm
  subst e9
  refine r_iload_n (pc := 4) dX1_shelfOf_4 rfl ?_
  refine r_iconst (pc := 5) dX1_shelfOf_5 ?_
  refine r_iconst (pc := 6) dX1_shelfOf_6 ?_
  refine r_callS (pc := 7) (kb' := 13) dX1_shelfOf_7 kX1_isBetween q1525 (t_X1_isBetween (lo := 0) (hi := 3) (by omega) (by omega) (by omega)) (Nat.le_refl _) (Nat.le_of_ble_eq_true rfl) rfl rfl (Nat.le_of_ble_eq_true rfl) (fun _ _ q => q.elim) (fun _ _ hq => ?_)
  refine go_jE hq ?_
  refine r_callS (pc := 10) (kb' := 6) dX1_shelfOf_10 kX1_check q1964 (t_X1_check ) (Nat.le_of_ble_eq_true rfl) (Nat.le_of_ble_eq_true rfl) rfl rfl (Nat.le_of_ble_eq_true rfl) (fun E h7 hx => x_out rfl ⟨Or.inr ⟨hx.1, kShf_2 hpx hx.2.1⟩, by rw [hx.2.2]; exact hF⟩) (fun _ h hq => ?_)
  refine go_jN hq (fun hq2 => ?_)
  obtain ⟨e9, hpw⟩ := hq2
  replace e9 := e9.symm
  subst e9
  refine r_iload_n (pc := 13) dX1_shelfOf_13 rfl ?_
  by_cases w14_0 : w = 0
  · refine r_tableIn (pc := 14) (off := 26) (tgt := 40) dX1_shelfOf_14 (by omega) (by omega) (by omega) (by rw [w14_0]; rfl) (by decide) ?_
    refine r_aload_n (pc := 40) dX1_shelfOf_40 rfl ?_
    refine gX1_10 (pc := 41) dX1_shelfOf_41 hb rfl ?_
    refine r_iload_n (pc := 44) dX1_shelfOf_44 rfl ?_
    refine r_callV (pc := 45) (kb' := 0) dX1_shelfOf_45 kX2_many q1577 (t_X2_many hX.w hI (by omega)) w1 rfl (Nat.le_of_ble_eq_true rfl) (Nat.le_of_ble_eq_true rfl) rfl rfl (Nat.le_of_ble_eq_true rfl) (fun _ _ q => q.elim) (fun _ h hq => ?_)
    refine go_jP hq (fun hq2 => ?_)
    replace hF := hF.tr hq2
    have hb := hF.get hb9 pQ_2
    have hX := hX9.q hF
    have hX2 := hX
    obtain ⟨w1, w2, w3, w4, w5, w6, w7, w8⟩ := hX2
    obtain ⟨ar1, w2s⟩ := w2.size
    exact r_iret (pc := 48) dX1_shelfOf_48 rfl rfl ⟨congrArg (fun q : Int => some (Value.int (iZ q))) (by unfold zShf; rw [if_neg (by omega), if_pos (show w = 0 by omega)]), kShf_0 hpx hpw, hF⟩
  by_cases w14_1 : w = 1
  · refine r_tableIn (pc := 14) (off := 35) (tgt := 49) dX1_shelfOf_14 (by omega) (by omega) (by omega) (by rw [w14_1]; rfl) (by decide) ?_
    refine r_aload_n (pc := 49) dX1_shelfOf_49 rfl ?_
    refine r_iload_n (pc := 50) dX1_shelfOf_50 rfl ?_
    refine r_callV (pc := 51) (kb' := 1) dX1_shelfOf_51 kX1_rawOn q1989 (t_X1_rawOn hb hX hI (by omega)) hb rfl (Nat.le_of_ble_eq_true rfl) (Nat.le_of_ble_eq_true rfl) rfl rfl (Nat.le_of_ble_eq_true rfl) (fun _ _ q => q.elim) (fun _ h hq => ?_)
    refine go_jP hq (fun hq2 => ?_)
    replace hF := hF.tr hq2
    have hb := hF.get hb9 pQ_2
    have hX := hX9.q hF
    have hX2 := hX
    obtain ⟨w1, w2, w3, w4, w5, w6, w7, w8⟩ := hX2
    obtain ⟨ar1, w2s⟩ := w2.size
    exact r_iret (pc := 54) dX1_shelfOf_54 rfl rfl ⟨congrArg (fun q : Int => some (Value.int (iZ q))) (by unfold zShf; rw [if_neg (by omega), if_neg (show ¬ w = 0 by omega), if_pos (show w = 1 by omega)]), kShf_0 hpx hpw, hF⟩
  by_cases w14_2 : w = 2
  · refine r_tableIn (pc := 14) (off := 41) (tgt := 55) dX1_shelfOf_14 (by omega) (by omega) (by omega) (by rw [w14_2]; rfl) (by decide) ?_
    refine r_aload_n (pc := 55) dX1_shelfOf_55 rfl ?_
    refine gX1_10 (pc := 56) dX1_shelfOf_56 hb rfl ?_
    refine r_iload_n (pc := 59) dX1_shelfOf_59 rfl ?_
    refine r_callV (pc := 60) (kb' := 0) dX1_shelfOf_60 kX2_cracksOn q1993 (t_X2_cracksOn hX.w hI (by omega)) w1 rfl (Nat.le_of_ble_eq_true rfl) (Nat.le_of_ble_eq_true rfl) rfl rfl (Nat.le_of_ble_eq_true rfl) (fun _ _ q => q.elim) (fun _ h hq => ?_)
    refine go_jP hq (fun hq2 => ?_)
    replace hF := hF.tr hq2
    have hb := hF.get hb9 pQ_2
    have hX := hX9.q hF
    have hX2 := hX
    obtain ⟨w1, w2, w3, w4, w5, w6, w7, w8⟩ := hX2
    obtain ⟨ar1, w2s⟩ := w2.size
    exact r_iret (pc := 63) dX1_shelfOf_63 rfl rfl ⟨congrArg (fun q : Int => some (Value.int (iZ q))) (by unfold zShf; rw [if_neg (by omega), if_neg (show ¬ w = 0 by omega), if_neg (show ¬ w = 1 by omega), if_pos (show w = 2 by omega)]), kShf_0 hpx hpw, hF⟩
  refine r_tableOut (pc := 14) (tgt := 64) dX1_shelfOf_14 (by omega) (by omega) (by decide) ?_
  refine r_iconst (pc := 64) dX1_shelfOf_64 ?_
  refine r_aload_n (pc := 65) dX1_shelfOf_65 rfl ?_
  refine gX1_10 (pc := 66) dX1_shelfOf_66 hb rfl ?_
  refine r_iload_n (pc := 69) dX1_shelfOf_69 rfl ?_
  refine r_callV (pc := 70) (kb' := 0) dX1_shelfOf_70 kX2_many q1577 (t_X2_many hX.w hI (by omega)) w1 rfl (Nat.le_of_ble_eq_true rfl) (Nat.le_of_ble_eq_true rfl) rfl rfl (Nat.le_of_ble_eq_true rfl) (fun _ _ q => q.elim) (fun _ h hq => ?_)
  refine go_jP hq (fun hq2 => ?_)
  replace hF := hF.tr hq2
  have hb := hF.get hb9 pQ_2
  have hX := hX9.q hF
  have hX2 := hX
  obtain ⟨w1, w2, w3, w4, w5, w6, w7, w8⟩ := hX2
  obtain ⟨ar1, w2s⟩ := w2.size
  refine r_isub (pc := 73) dX1_shelfOf_73 ?_
  exact r_iret (pc := 74) dX1_shelfOf_74 rfl rfl ⟨congrArg (fun q : Int => some (Value.int (iZ q))) (by unfold zShf; rw [if_neg (by omega), if_neg (show ¬ w = 0 by omega), if_neg (show ¬ w = 1 by omega), if_neg (show ¬ w = 2 by omega), if_pos (show w = 3 by omega)]), kShf_0 hpx hpw, hF⟩
theorem t_X1_law {G : Gl} {h9 : Hp} {o s T : Nat} {v1 v2 v3 v4 v5 v6 v7 : Value} {r : Row} {al cl sl : Nat} {m1 m2 m3 : Int32} {n1 n2 E F : Nat → Nat} (hb9 : h9 o = some ((2, 0), ob 0 [.ref s, v1, v2, v3, v4, v5, v6, v7])) (hX9 : SWx G T s r al cl sl m1 m2 m3 n1 n2 E F h9) (hI : RI r) {x : Int} (hx9 : InR x) : Ct G 7 7 yX1_law (Cond.code yX1_law cX1_law 2 (some .int)) [.ref o, .int (iZ x)] h9 (qQ (zLaw r x) (kLaw r x) (Fr pQ h9)) (qX (kLaw r x) eNSE "" (Fr pQ h9)) := by
  have hF : Fr pQ h9 h9 := Fr.rf
  have hb := hb9
  have hX := hX9
  have b := hI.1
  have hX2 := hX
  obtain ⟨w1, w2, w3, w4, w5, w6, w7, w8⟩ := hX2
  obtain ⟨ar1, w2s⟩ := w2.size
  refine Ct.of (own := "CharterKiln") (nm := "law") (by decide +kernel) rfl rfl (L := [some (.ref o), some (.int (iZ x))]) rfl (Nat.le_of_ble_eq_true rfl) rfl ?_
  refine r_iload_n (pc := 0) dX1_law_0 rfl ?_
  refine r_iconst (pc := 1) dX1_law_1 ?_
  refine r_aload_n (pc := 2) dX1_law_2 rfl ?_
  refine gX1_10 (pc := 3) dX1_law_3 hb rfl ?_
  refine gX1_122 (pc := 6) dX1_law_6 w1 rfl ?_
  refine r_callV (pc := 9) (kb' := 7) dX1_law_9 kJ4_size q1773 (t_J4_size w3) w3.2.1 rfl (Nat.le_refl _) (Nat.le_of_ble_eq_true rfl) rfl rfl (Nat.le_of_ble_eq_true rfl) (fun _ _ q => q.elim) (fun _ _ hq => ?_)
  refine go_jE hq ?_
  refine go_cz (w := r 1) (by omega) ?_
  refine r_iconst (pc := 12) dX1_law_12 ?_
  refine r_isub (pc := 13) dX1_law_13 ?_
  refine r_callS (pc := 14) (kb' := 7) dX1_law_14 kX1_isBetween q1525 (t_X1_isBetween (lo := 0) (by omega) (by omega) (by omega)) (Nat.le_refl _) (Nat.le_of_ble_eq_true rfl) rfl rfl (Nat.le_of_ble_eq_true rfl) (fun _ _ q => q.elim) (fun _ _ hq => ?_)
  refine go_jE hq ?_
  refine r_callS (pc := 17) (kb' := 0) dX1_law_17 kX1_checkElement q2017 (t_X1_checkElement ) (Nat.le_of_ble_eq_true rfl) (Nat.le_of_ble_eq_true rfl) rfl rfl (Nat.le_of_ble_eq_true rfl) (fun E h7 hx => x_out rfl ⟨Or.inl ⟨hx.1, kLaw_1 hx.2.1⟩, by rw [hx.2.2]; exact hF⟩) (fun _ h hq => ?_)
  refine go_jN hq (fun hq2 => ?_)
  obtain ⟨e9, hpx⟩ := hq2
  replace e9 := e9.symm
  subst e9
  refine r_aload_n (pc := 20) dX1_law_20 rfl ?_
  refine gX1_10 (pc := 21) dX1_law_21 hb rfl ?_
  refine gX1_95 (pc := 24) dX1_law_24 w1 rfl ?_
  refine r_aload_n (pc := 27) dX1_law_27 rfl ?_
  refine gX1_10 (pc := 28) dX1_law_28 hb rfl ?_
  refine gX1_122 (pc := 31) dX1_law_31 w1 rfl ?_
  refine r_iload_n (pc := 34) dX1_law_34 rfl ?_
  refine go_cz (w := ((x.toNat : Nat) : Int)) (by omega) ?_
  refine r_callV (pc := 35) (kb' := 0) dX1_law_35 kJ4_get q1897 (t_J4_get w3 (i := x.toNat) (by omega)) w3.2.1 rfl (Nat.le_refl _) (Nat.le_of_ble_eq_true rfl) rfl rfl (Nat.le_of_ble_eq_true rfl) (fun _ _ q => q.elim) (fun _ _ hq => ?_)
  refine go_jE hq ?_
  have hl9 := hI.2.2.2.1 x (by omega) (by omega)
  have hA5 := w5 (r (12 + x)).toNat (by omega)
  refine go_cv (w := .ref (E (r (12 + x)).toNat)) (by rw [show ((x.toNat : Nat) : Int) = x by omega]) ?_
  refine r_callV (pc := 38) (kb' := 0) dX1_law_38 kJ2_indexOf q1330 (t_J2_indexOf w2 hA5) w2s rfl (Nat.le_refl _) (Nat.le_of_ble_eq_true rfl) rfl rfl (Nat.le_of_ble_eq_true rfl) (fun _ _ q => q.elim) (fun _ _ hq => ?_)
  refine go_jE hq ?_
  refine go_cz (w := r (12 + x)) ((fnd_inj (by omega) w7).trans (by omega)) ?_
  exact r_iret (pc := 41) dX1_law_41 rfl rfl ⟨congrArg (fun q : Int => some (Value.int (iZ q))) (by unfold zLaw; rw [if_pos hpx]), kLaw_0 hpx, hF⟩
theorem t_X1_canRatify {G : Gl} {h9 : Hp} {o s T : Nat} {v1 v2 v3 v4 v5 v6 v7 : Value} {r : Row} {al cl sl : Nat} {m1 m2 m3 : Int32} {n1 n2 E F : Nat → Nat} (hb9 : h9 o = some ((2, 0), ob 0 [.ref s, v1, v2, v3, v4, v5, v6, v7])) (hX9 : SWx G T s r al cl sl m1 m2 m3 n1 n2 E F h9) (hI : RI r) {a : Int} (ha : InR a) : Ct G 8 7 yX1_canRatify (Cond.code yX1_canRatify cX1_canRatify 2 (some .boolean)) [.ref o, .int (iZ a)] h9 (qQ (bZ (refRatify r a = none ∧ kAr r a = 0)) (kAr r a) (Fr pQ h9)) (qX (kAr r a) eIOB "" (Fr pQ h9)) := by
  have hF : Fr pQ h9 h9 := Fr.rf
  have hb := hb9
  have hX := hX9
  have b := hI.1
  have hX2 := hX
  obtain ⟨w1, w2, w3, w4, w5, w6, w7, w8⟩ := hX2
  obtain ⟨ar1, w2s⟩ := w2.size
  refine Ct.of (own := "CharterKiln") (nm := "canRatify") (by decide +kernel) rfl rfl (L := [some (.ref o), some (.int (iZ a))]) rfl (Nat.le_of_ble_eq_true rfl) rfl ?_
  refine r_aload_n (pc := 0) dX1_canRatify_0 rfl ?_
  refine r_iload_n (pc := 1) dX1_canRatify_1 rfl ?_
  refine r_callV (pc := 2) (kb' := 0) dX1_canRatify_2 kX1_checkArticle q1952 (t_X1_checkArticle hb hX hI (by omega)) hb rfl (Nat.le_of_ble_eq_true rfl) (Nat.le_of_ble_eq_true rfl) rfl rfl (Nat.le_of_ble_eq_true rfl) (fun E h7 hx => x_out rfl ⟨Or.inl ⟨hx.1, kAr_1 hx.2.1⟩, by rw [hx.2.2]; exact hF⟩) (fun _ h hq => ?_)
  refine go_jN hq (fun hq2 => ?_)
  obtain ⟨e9, hpa⟩ := hq2
  replace e9 := e9.symm
  subst e9
  refine r_aload_n (pc := 5) dX1_canRatify_5 rfl ?_
  refine r_iload_n (pc := 6) dX1_canRatify_6 rfl ?_
  refine r_callV (pc := 7) (kb' := 0) dX1_canRatify_7 kX1_articleAt q1749 (t_X1_articleAt hb hX hI (by omega)) hb rfl (Nat.le_refl _) (Nat.le_of_ble_eq_true rfl) rfl rfl (Nat.le_of_ble_eq_true rfl) (fun _ _ q => q.elim) (fun _ _ hq => ?_)
  refine go_jE hq ?_
  have ea : ((a.toNat : Nat) : Int) = a := by omega
  have ho := hI.2.1 a (by omega) (by omega)
  have ho2 := ho
  unfold artOk at ho2
  have hA5 := w5 a.toNat (by omega)
  rw [ea] at hA5
  refine r_callV (pc := 10) (kb' := 0) dX1_canRatify_10 kX5_canBeLaw q2029 (t_X5_canBeLaw hA5 (by omega) (by omega) (by omega)) hA5 rfl (Nat.le_refl _) (Nat.le_of_ble_eq_true rfl) rfl rfl (Nat.le_of_ble_eq_true rfl) (fun _ _ q => q.elim) (fun _ _ hq => ?_)
  refine go_jE hq ?_
  exact r_iret (pc := 13) dX1_canRatify_13 rfl (nB' (by first | (left; rfl) | (right; rfl) | exact bZ_01' _ | omega)) ⟨congrArg (fun q : Int => some (Value.int (iZ q))) (bZ_c (can_lem ho hpa)), kAr_0 hpa, hF⟩
theorem t_X1_heatAt {G : Gl} {h9 : Hp} {o s T : Nat} {v1 v2 v3 v4 v5 v6 v7 : Value} {r : Row} {al cl sl : Nat} {m1 m2 m3 : Int32} {n1 n2 E F : Nat → Nat} (hb9 : h9 o = some ((2, 0), ob 0 [.ref s, v1, v2, v3, v4, v5, v6, v7])) (hX9 : SWx G T s r al cl sl m1 m2 m3 n1 n2 E F h9) (hI : RI r) {x w : Int} (hx : InR x) (hw : InR w) : Ct G 8 14 yX1_heatAt (Cond.code yX1_heatAt cX1_heatAt 3 (some .int)) [.ref o, .int (iZ x), .int (iZ w)] h9 (qQ (zHeat x w) (kHeat x w) (Fr pQ h9)) (qX (kHeat x w) eIOB eIAE (Fr pQ h9)) := by
  have hF : Fr pQ h9 h9 := Fr.rf
  have hb := hb9
  have hX := hX9
  have b := hI.1
  have hX2 := hX
  obtain ⟨w1, w2, w3, w4, w5, w6, w7, w8⟩ := hX2
  obtain ⟨ar1, w2s⟩ := w2.size
  refine Ct.of (own := "CharterKiln") (nm := "heatAt") (by decide +kernel) rfl rfl (L := [some (.ref o), some (.int (iZ x)), some (.int (iZ w))]) rfl (Nat.le_of_ble_eq_true rfl) rfl ?_
  refine r_iload_n (pc := 0) dX1_heatAt_0 rfl ?_
  refine r_callS (pc := 1) (kb' := 7) dX1_heatAt_1 kX1_checkShelf q1986 (t_X1_checkShelf (by omega)) (Nat.le_of_ble_eq_true rfl) (Nat.le_of_ble_eq_true rfl) rfl rfl (Nat.le_of_ble_eq_true rfl) (fun E h7 hx => x_out rfl ⟨Or.inl ⟨hx.1, kHeat_1 hx.2.1⟩, by rw [hx.2.2]; exact hF⟩) (fun _ h hq => ?_)
  refine go_jN hq (fun hq2 => ?_)
  obtain ⟨e9, hpx⟩ := hq2
  replace e9 := e9.symm
  subst e9
  refine r_iload_n (pc := 4) dX1_heatAt_4 rfl ?_
  refine r_callS (pc := 5) (kb' := 0) dX1_heatAt_5 kX1_checkHeat q2040 (t_X1_checkHeat (by omega)) (Nat.le_of_ble_eq_true rfl) (Nat.le_of_ble_eq_true rfl) rfl rfl (Nat.le_of_ble_eq_true rfl) (fun E h7 hx => x_out rfl ⟨Or.inr ⟨hx.1, kHeat_2 hpx hx.2.1⟩, by rw [hx.2.2]; exact hF⟩) (fun _ h hq => ?_)
  refine go_jN hq (fun hq2 => ?_)
  obtain ⟨e9, hpw⟩ := hq2
  replace e9 := e9.symm
  subst e9
  refine r_iload_n (pc := 8) dX1_heatAt_8 rfl ?_
  refine r_iload_n (pc := 9) dX1_heatAt_9 rfl ?_
  refine r_callS (pc := 10) (kb' := 0) dX1_heatAt_10 kX1_onShelf q2043 (t_X1_onShelf (by omega) hpw) (Nat.le_refl _) (Nat.le_of_ble_eq_true rfl) rfl rfl (Nat.le_of_ble_eq_true rfl) (fun _ _ q => q.elim) (fun _ _ hq => ?_)
  refine go_jE hq ?_
  exact r_iret (pc := 13) dX1_heatAt_13 rfl rfl ⟨congrArg (fun q : Int => some (Value.int (iZ q))) (by unfold zHeat; rw [if_pos (kHeat_0 hpx hpw)]), kHeat_0 hpx hpw, hF⟩
theorem t_X1_cracksBy {G : Gl} {h9 : Hp} {o s T : Nat} {v1 v2 v3 v4 v5 v6 v7 : Value} {r : Row} {al cl sl : Nat} {m1 m2 m3 : Int32} {n1 n2 E F : Nat → Nat} (hb9 : h9 o = some ((2, 0), ob 0 [.ref s, v1, v2, v3, v4, v5, v6, v7])) (hX9 : SWx G T s r al cl sl m1 m2 m3 n1 n2 E F h9) (hI : RI r) {a w : Int} (ha : InR a) (hw : InR w) : Ct G 8 14 yX1_cracksBy (Cond.code yX1_cracksBy cX1_cracksBy 3 (some .int)) [.ref o, .int (iZ a), .int (iZ w)] h9 (qQ (zCrk r a w) (kCrk r a w) (Fr pQ h9)) (qX (kCrk r a w) eIOB eIAE (Fr pQ h9)) := by
  have hF : Fr pQ h9 h9 := Fr.rf
  have hb := hb9
  have hX := hX9
  have b := hI.1
  have hX2 := hX
  obtain ⟨w1, w2, w3, w4, w5, w6, w7, w8⟩ := hX2
  obtain ⟨ar1, w2s⟩ := w2.size
  refine Ct.of (own := "CharterKiln") (nm := "cracksBy") (by decide +kernel) rfl rfl (L := [some (.ref o), some (.int (iZ a)), some (.int (iZ w))]) rfl (Nat.le_of_ble_eq_true rfl) rfl ?_
  refine r_aload_n (pc := 0) dX1_cracksBy_0 rfl ?_
  refine r_iload_n (pc := 1) dX1_cracksBy_1 rfl ?_
  refine r_callV (pc := 2) (kb' := 7) dX1_cracksBy_2 kX1_checkArticle q1952 (t_X1_checkArticle hb hX hI (by omega)) hb rfl (Nat.le_of_ble_eq_true rfl) (Nat.le_of_ble_eq_true rfl) rfl rfl (Nat.le_of_ble_eq_true rfl) (fun E h7 hx => x_out rfl ⟨Or.inl ⟨hx.1, kCrk_1 hx.2.1⟩, by rw [hx.2.2]; exact hF⟩) (fun _ h hq => ?_)
  refine go_jN hq (fun hq2 => ?_)
  obtain ⟨e9, hpa⟩ := hq2
  replace e9 := e9.symm
  subst e9
  refine r_iload_n (pc := 5) dX1_cracksBy_5 rfl ?_
  refine r_callS (pc := 6) (kb' := 0) dX1_cracksBy_6 kX1_checkHeat q2040 (t_X1_checkHeat (by omega)) (Nat.le_of_ble_eq_true rfl) (Nat.le_of_ble_eq_true rfl) rfl rfl (Nat.le_of_ble_eq_true rfl) (fun E h7 hx => x_out rfl ⟨Or.inr ⟨hx.1, kCrk_2 hpa hx.2.1⟩, by rw [hx.2.2]; exact hF⟩) (fun _ h hq => ?_)
  refine go_jN hq (fun hq2 => ?_)
  obtain ⟨e9, hpw⟩ := hq2
  replace e9 := e9.symm
  subst e9
  refine r_aload_n (pc := 9) dX1_cracksBy_9 rfl ?_
  refine r_iload_n (pc := 10) dX1_cracksBy_10 rfl ?_
  refine r_callV (pc := 11) (kb' := 0) dX1_cracksBy_11 kX1_articleAt q1749 (t_X1_articleAt hb hX hI (by omega)) hb rfl (Nat.le_refl _) (Nat.le_of_ble_eq_true rfl) rfl rfl (Nat.le_of_ble_eq_true rfl) (fun _ _ q => q.elim) (fun _ _ hq => ?_)
  refine go_jE hq ?_
  have ea : ((a.toNat : Nat) : Int) = a := by omega
  have ho := hI.2.1 a (by omega) (by omega)
  have ho2 := ho
  unfold artOk at ho2
  have hA5 := w5 a.toNat (by omega)
  rw [ea] at hA5
  refine r_iload_n (pc := 14) dX1_cracksBy_14 rfl ?_
  refine r_callV (pc := 15) (kb' := 0) dX1_cracksBy_15 kX5_cracksBy q1164 (t_X5_cracksBy hA5 ho hpw) hA5 rfl (Nat.le_refl _) (Nat.le_of_ble_eq_true rfl) rfl rfl (Nat.le_of_ble_eq_true rfl) (fun _ _ q => q.elim) (fun _ _ hq => ?_)
  refine go_jE hq ?_
  exact r_iret (pc := 18) dX1_cracksBy_18 rfl rfl ⟨congrArg (fun q : Int => some (Value.int (iZ q))) (by unfold zCrk; rw [if_pos (kCrk_0 hpa hpw)]), kCrk_0 hpa hpw, hF⟩
theorem t_X1_cracksAgain {G : Gl} {h9 : Hp} {o s T : Nat} {v1 v2 v3 v4 v5 v6 v7 : Value} {r : Row} {al cl sl : Nat} {m1 m2 m3 : Int32} {n1 n2 E F : Nat → Nat} (hb9 : h9 o = some ((2, 0), ob 0 [.ref s, v1, v2, v3, v4, v5, v6, v7])) (hX9 : SWx G T s r al cl sl m1 m2 m3 n1 n2 E F h9) (hI : RI r) {a w : Int} (ha : InR a) (hw : InR w) : Ct G 8 14 yX1_cracksAgain (Cond.code yX1_cracksAgain cX1_cracksAgain 3 (some .int)) [.ref o, .int (iZ a), .int (iZ w)] h9 (qQ (zCrk r a w) (kCrk r a w) (Fr pQ h9)) (qX (kCrk r a w) eIOB eIAE (Fr pQ h9)) := by
  have hF : Fr pQ h9 h9 := Fr.rf
  have hb := hb9
  have hX := hX9
  have b := hI.1
  have hX2 := hX
  obtain ⟨w1, w2, w3, w4, w5, w6, w7, w8⟩ := hX2
  obtain ⟨ar1, w2s⟩ := w2.size
  refine Ct.of (own := "CharterKiln") (nm := "cracksAgain") (by decide +kernel) rfl rfl (L := [some (.ref o), some (.int (iZ a)), some (.int (iZ w))]) rfl (Nat.le_of_ble_eq_true rfl) rfl ?_
  refine r_aload_n (pc := 0) dX1_cracksAgain_0 rfl ?_
  refine r_iload_n (pc := 1) dX1_cracksAgain_1 rfl ?_
  refine r_callV (pc := 2) (kb' := 7) dX1_cracksAgain_2 kX1_checkArticle q1952 (t_X1_checkArticle hb hX hI (by omega)) hb rfl (Nat.le_of_ble_eq_true rfl) (Nat.le_of_ble_eq_true rfl) rfl rfl (Nat.le_of_ble_eq_true rfl) (fun E h7 hx => x_out rfl ⟨Or.inl ⟨hx.1, kCrk_1 hx.2.1⟩, by rw [hx.2.2]; exact hF⟩) (fun _ h hq => ?_)
  refine go_jN hq (fun hq2 => ?_)
  obtain ⟨e9, hpa⟩ := hq2
  replace e9 := e9.symm
  subst e9
  refine r_iload_n (pc := 5) dX1_cracksAgain_5 rfl ?_
  refine r_callS (pc := 6) (kb' := 0) dX1_cracksAgain_6 kX1_checkHeat q2040 (t_X1_checkHeat (by omega)) (Nat.le_of_ble_eq_true rfl) (Nat.le_of_ble_eq_true rfl) rfl rfl (Nat.le_of_ble_eq_true rfl) (fun E h7 hx => x_out rfl ⟨Or.inr ⟨hx.1, kCrk_2 hpa hx.2.1⟩, by rw [hx.2.2]; exact hF⟩) (fun _ h hq => ?_)
  refine go_jN hq (fun hq2 => ?_)
  obtain ⟨e9, hpw⟩ := hq2
  replace e9 := e9.symm
  subst e9
  refine r_aload_n (pc := 9) dX1_cracksAgain_9 rfl ?_
  refine r_iload_n (pc := 10) dX1_cracksAgain_10 rfl ?_
  refine r_callV (pc := 11) (kb' := 0) dX1_cracksAgain_11 kX1_articleAt q1749 (t_X1_articleAt hb hX hI (by omega)) hb rfl (Nat.le_refl _) (Nat.le_of_ble_eq_true rfl) rfl rfl (Nat.le_of_ble_eq_true rfl) (fun _ _ q => q.elim) (fun _ _ hq => ?_)
  refine go_jE hq ?_
  have ea : ((a.toNat : Nat) : Int) = a := by omega
  have ho := hI.2.1 a (by omega) (by omega)
  have ho2 := ho
  unfold artOk at ho2
  have hA5 := w5 a.toNat (by omega)
  rw [ea] at hA5
  refine r_iload_n (pc := 14) dX1_cracksAgain_14 rfl ?_
  refine r_callV (pc := 15) (kb' := 0) dX1_cracksAgain_15 kX5_cracksByDegrees q1186 (t_X5_cracksByDegrees hA5 ho hpw) hA5 rfl (Nat.le_refl _) (Nat.le_of_ble_eq_true rfl) rfl rfl (Nat.le_of_ble_eq_true rfl) (fun _ _ q => q.elim) (fun _ _ hq => ?_)
  refine go_jE hq ?_
  exact r_iret (pc := 18) dX1_cracksAgain_18 rfl rfl ⟨congrArg (fun q : Int => some (Value.int (iZ q))) (by unfold zCrk; rw [if_pos (kCrk_0 hpa hpw)]), kCrk_0 hpa hpw, hF⟩
theorem t_X1_bits {G : Gl} {h : Hp} {q n : Nat} {t : Tg} {p : Int → Prop} [DecidablePred p] (hB : BS t q (bs p n) h) (hn : n ≤ 12) : Ct G 4 0 yX1_bits (Cond.code yX1_bits cX1_bits 3 (some .int)) [.ref q] h (jE (.int (btW p n)) h) noX := by
  have hB0 := hB
  obtain ⟨bw, bf, bz, hB1, hB2⟩ := hB0
  refine Ct.of (own := "CharterKiln") (nm := "bits") (by decide +kernel) rfl rfl (L := [some (.ref q), none, none]) rfl (Nat.le_of_ble_eq_true rfl) rfl ?_
  refine r_iconst (pc := 0) dX1_bits_0 ?_
  refine r_istore_n (pc := 1) (L' := [_, _, _]) dX1_bits_1 rfl ?_
  refine r_aload_n (pc := 2) dX1_bits_2 rfl ?_
  refine r_iconst (pc := 3) dX1_bits_3 ?_
  refine r_callV (pc := 4) (kb' := 0) dX1_bits_4 kJ14_nextSetBit q2072 (t_J14_nextSetBit hB (k := 0) (by omega)) hB1 rfl (Nat.le_refl _) (Nat.le_of_ble_eq_true rfl) rfl rfl (Nat.le_of_ble_eq_true rfl) (fun _ _ q => q.elim) (fun _ _ hq => ?_)
  refine go_jE hq ?_
  refine r_istore_n (pc := 7) (L' := [_, _, _]) dX1_bits_7 rfl ?_
  have loop8 : ∀ (k8 : Nat) (j : Nat), (j ≤ n) → n - j < k8 → Go G "CharterKiln" cX1_bits (3, some .int, "bits", []) 4 0 (jE (.int (btW p n)) h) (noX) 0 h 8 [some (.ref q), some (.int (btW p j)), some (.int (iZ (nsB (bs p n) j)))] [] := by
    intro k8
    induction k8 with
    | zero => intro j hj hk; omega
    | succ k8 ih8 =>
      intro j hj hk8
      rcases bs_ns (p := p) (n := n) (j := j) hn (by omega) with ⟨e9, e8⟩ | ⟨k, e9, k1, k2, k3, k4⟩
      · rw [e9]
        refine r_iload_n (pc := 8) dX1_bits_8 rfl ?_
        refine r_if_lt (pc := 9) (tgt := 29) dX1_bits_9 (by decide) (by decide) (fun _ => ?_) (fun q => absurd (by decide) q)
        refine r_iload_n (pc := 29) dX1_bits_29 rfl ?_
        exact r_iret (pc := 30) dX1_bits_30 rfl rfl ⟨congrArg (fun q => some (Value.int q)) (btW_seg hj e8).symm, rfl⟩
      · rw [e9, ← btW_seg k1 k4]
        refine r_iload_n (pc := 8) dX1_bits_8 rfl ?_
        refine r_if_lt (pc := 9) (tgt := 29) dX1_bits_9 (by decide) (by omega) (fun c9 => absurd c9 (by omega)) (fun c9 => ?_)
        refine r_iload_n (pc := 12) dX1_bits_12 rfl ?_
        refine r_iconst (pc := 13) dX1_bits_13 ?_
        refine r_iload_n (pc := 14) dX1_bits_14 rfl ?_
        refine q_ishl (pc := 15) dX1_bits_15 ?_
        refine q_ior (pc := 16) dX1_bits_16 ?_
        refine go_cv (w := .int (btW p (k + 1))) (congrArg Value.int (by show _ = if p (k : Int) then btW p k ||| (iZ 1 <<< (iZ k &&& 31)) else btW p k; rw [if_pos k3])) ?_
        refine r_istore_n (pc := 17) (L' := [_, _, _]) dX1_bits_17 rfl ?_
        refine r_aload_n (pc := 18) dX1_bits_18 rfl ?_
        refine r_iload_n (pc := 19) dX1_bits_19 rfl ?_
        refine r_iconst (pc := 20) dX1_bits_20 ?_
        refine r_iadd (pc := 21) dX1_bits_21 ?_
        refine r_callV (pc := 22) (kb' := 0) dX1_bits_22 kJ14_nextSetBit q2072 (t_J14_nextSetBit hB (k := k + 1) (by omega)) hB1 rfl (Nat.le_refl _) (Nat.le_of_ble_eq_true rfl) rfl rfl (Nat.le_of_ble_eq_true rfl) (fun _ _ q => q.elim) (fun _ _ hq => ?_)
        refine go_jE hq ?_
        refine r_istore_n (pc := 25) (L' := [_, _, _]) dX1_bits_25 rfl ?_
        refine r_goto (pc := 26) (tgt := 8) dX1_bits_26 (by decide) ?_
        exact ih8 (k + 1) (by omega) (by omega)
  exact loop8 _ 0 (by omega) (Nat.lt_succ_self _)
theorem t_X1_wouldBurst {G : Gl} {h9 : Hp} {o s T : Nat} {v1 v2 v3 v4 v5 v6 v7 : Value} {r : Row} {al cl sl : Nat} {m1 m2 m3 : Int32} {n1 n2 E F : Nat → Nat} (hb9 : h9 o = some ((2, 0), ob 0 [.ref s, v1, v2, v3, v4, v5, v6, v7])) (hX9 : SWx G T s r al cl sl m1 m2 m3 n1 n2 E F h9) (hI : RI r) {x : Int} (hx : InR x) : Ct G 8 13 yX1_wouldBurst (Cond.code yX1_wouldBurst cX1_wouldBurst 4 (some .int)) [.ref o, .int (iZ x)] h9 (qQ (zBur r x) (kHt x) (Fr pQ h9)) (qX (kHt x) eIAE "" (Fr pQ h9)) := by
  have hF : Fr pQ h9 h9 := Fr.rf
  have hb := hb9
  have hX := hX9
  have b := hI.1
  have hX2 := hX
  obtain ⟨w1, w2, w3, w4, w5, w6, w7, w8⟩ := hX2
  obtain ⟨ar1, w2s⟩ := w2.size
  have hp := PW.nil (h := h9)
  refine Ct.of (own := "CharterKiln") (nm := "wouldBurst") (by decide +kernel) rfl rfl (L := [some (.ref o), some (.int (iZ x)), none, none]) rfl (Nat.le_of_ble_eq_true rfl) rfl ?_
  refine r_iload_n (pc := 0) dX1_wouldBurst_0 rfl ?_
  refine r_callS (pc := 1) (kb' := 6) dX1_wouldBurst_1 kX1_checkHeat q2040 (t_X1_checkHeat (by omega)) (Nat.le_of_ble_eq_true rfl) (Nat.le_of_ble_eq_true rfl) rfl rfl (Nat.le_of_ble_eq_true rfl) (fun E h7 hx => x_out rfl ⟨Or.inl ⟨hx.1, kHt_1 hx.2.1⟩, by rw [hx.2.2]; exact hF⟩) (fun _ h hq => ?_)
  refine go_jN hq (fun hq2 => ?_)
  obtain ⟨e9, hpx⟩ := hq2
  replace e9 := e9.symm
  subst e9
  refine r_new (pc := 4) (ci := 16) (T := TJ14) (N := 3) ((3, 10)) [.null, .int 0, .int 0] (kb' := 2) dX1_wouldBurst_4 rfl q2065 q1586 q124 (by intro j hj; revert j; decide +kernel) (Nat.le_of_ble_eq_true rfl) (fun w hw zw => ?_)
  refine go_pw (hp.new hw _) (fun h hp => ?_)
  have hwn := hw
  refine r_dup (pc := 7) dX1_wouldBurst_7 rfl ?_
  refine r_bipush (pc := 8) dX1_wouldBurst_8 (by decide) ?_
  refine r_callI (pc := 10) (kb' := 0) dX1_wouldBurst_10 kJ14_init q2066 (t_J14_init (n := 12) (hp.at 0 rfl) (by decide) (by omega)) (Nat.le_of_ble_eq_true rfl) (Nat.le_of_ble_eq_true rfl) rfl rfl (Nat.le_of_ble_eq_true rfl) (fun _ _ q => q.elim) (fun _ h hq => ?_)
  refine go_jN hq (fun hq2 => ?_)
  obtain ⟨hB, hF2⟩ := hq2
  have hF := (hp.fr (P := pQ) ⟨Or.inl hwn, trivial⟩).tr (hF2.wk (pQ_10 (by decide)))
  have hb := hF.get hb9 pQ_2
  have hX := hX9.q hF
  have hX2 := hX
  obtain ⟨w1, w2, w3, w4, w5, w6, w7, w8⟩ := hX2
  obtain ⟨ar1, w2s⟩ := w2.size
  refine r_astore_n (pc := 13) (L' := [_, _, _, _]) dX1_wouldBurst_13 rfl ?_
  refine r_iconst (pc := 14) dX1_wouldBurst_14 ?_
  refine r_istore_n (pc := 15) (L' := [_, _, _, _]) dX1_wouldBurst_15 rfl ?_
  have loop16 : ∀ (k16 : Nat) (k : Nat) (h : Hp), (k ≤ (r 0).toNat) → (BS (3, 10) w (bs (fun a => burP r a x) k) h) → (Fr pQ h9 h) → (r 0).toNat - k < k16 → Go G "CharterKiln" cX1_wouldBurst (4, some .int, "wouldBurst", []) 8 13 (qQ (zBur r x) (kHt x) (Fr pQ h9)) ((qX (kHt x) eIAE "" (Fr pQ h9))) 0 h 16 [some (.ref o), some (.int (iZ x)), some (.ref w), some (.int (iZ k))] [] := by
    intro k16
    induction k16 with
    | zero => intro k h hk hB hF hk; omega
    | succ k16 ih16 =>
      intro k h hk hB hF hk16
      have hb := hF.get hb9 pQ_2
      have hX := hX9.q hF
      have hX2 := hX
      obtain ⟨w1, w2, w3, w4, w5, w6, w7, w8⟩ := hX2
      obtain ⟨ar1, w2s⟩ := w2.size
      have hB0 := hB
      obtain ⟨bw, bf, bz, hB1, hB2⟩ := hB0
      refine r_iload_n (pc := 16) dX1_wouldBurst_16 rfl ?_
      refine r_aload_n (pc := 17) dX1_wouldBurst_17 rfl ?_
      refine gX1_10 (pc := 18) dX1_wouldBurst_18 hb rfl ?_
      refine gX1_95 (pc := 21) dX1_wouldBurst_21 w1 rfl ?_
      refine r_callV (pc := 24) (kb' := 0) dX1_wouldBurst_24 kJ2_size q1512 (t_J2_size w2s) w2s rfl (Nat.le_refl _) (Nat.le_of_ble_eq_true rfl) rfl rfl (Nat.le_of_ble_eq_true rfl) (fun _ _ q => q.elim) (fun _ _ hq => ?_)
      refine go_jE hq ?_
      refine go_cz (w := r 0) (by omega) ?_
      refine r_icmp_ge (pc := 27) (tgt := 50) dX1_wouldBurst_27 (by decide) (by omega) (by omega) (fun c27 => ?_) (fun c27 => ?_)
      · refine r_aload_n (pc := 50) dX1_wouldBurst_50 rfl ?_
        refine r_callS (pc := 51) (kb' := 0) dX1_wouldBurst_51 kX1_bits q2069 (t_X1_bits hB (by omega)) (Nat.le_refl _) (Nat.le_of_ble_eq_true rfl) rfl rfl (Nat.le_of_ble_eq_true rfl) (fun _ _ q => q.elim) (fun _ _ hq => ?_)
        refine go_jE hq ?_
        refine go_ci (z := btZ (fun a => burP r a x) (r 0)) (by rw [← btZ_e, show k = (r 0).toNat by omega]) ?_
        exact r_iret (pc := 54) dX1_wouldBurst_54 rfl rfl ⟨congrArg (fun q : Int => some (Value.int (iZ q))) (by unfold zBur; rw [if_pos (kHt_0 hpx)]), kHt_0 hpx, hF⟩
      · refine r_aload_n (pc := 30) dX1_wouldBurst_30 rfl ?_
        refine r_iload_n (pc := 31) dX1_wouldBurst_31 rfl ?_
        refine r_aload_n (pc := 32) dX1_wouldBurst_32 rfl ?_
        refine r_iload_n (pc := 33) dX1_wouldBurst_33 rfl ?_
        refine r_callV (pc := 34) (kb' := 0) dX1_wouldBurst_34 kX1_articleAt q1749 (t_X1_articleAt hb hX hI (by omega)) hb rfl (Nat.le_refl _) (Nat.le_of_ble_eq_true rfl) rfl rfl (Nat.le_of_ble_eq_true rfl) (fun _ _ q => q.elim) (fun _ _ hq => ?_)
        refine go_jE hq ?_
        refine go_cv (w := .ref (E k)) (by first | rfl | exact congrArg (fun q => Value.ref (E q)) (by omega)) ?_
        refine r_iload_n (pc := 37) dX1_wouldBurst_37 rfl ?_
        refine r_callV (pc := 38) (kb' := 0) dX1_wouldBurst_38 kX5_burstsBy q2067 (t_X5_burstsBy (w5 k (by omega)) (hI.2.1 k (by omega) (by omega)) hpx) (w5 k (by omega)) rfl (Nat.le_refl _) (Nat.le_of_ble_eq_true rfl) rfl rfl (Nat.le_of_ble_eq_true rfl) (fun _ _ q => q.elim) (fun _ _ hq => ?_)
        refine go_jE hq ?_
        refine r_callV (pc := 41) (kb' := 0) dX1_wouldBurst_41 kJ14_set q2068 (t_J14_set (p := (fun a => burP r a x) k) hB (by decide) (by omega) (bs_lt k)) hB1 rfl (Nat.le_refl _) (Nat.le_of_ble_eq_true rfl) rfl rfl (Nat.le_of_ble_eq_true rfl) (fun _ _ q => q.elim) (fun _ h hq => ?_)
        refine go_jN hq (fun hq2 => ?_)
        obtain ⟨hB, hF2⟩ := hq2
        replace hF := hF.tr (hF2.wk (pQ_10 (by decide)))
        have hb := hF.get hb9 pQ_2
        have hX := hX9.q hF
        have hX2 := hX
        obtain ⟨w1, w2, w3, w4, w5, w6, w7, w8⟩ := hX2
        obtain ⟨ar1, w2s⟩ := w2.size
        refine r_iinc (pc := 44) (L' := [_, _, _, _]) dX1_wouldBurst_44 rfl rfl ?_
        refine r_goto (pc := 47) (tgt := 16) dX1_wouldBurst_47 (by decide) ?_
        exact ih16 (k + 1) h (by omega) hB hF (by omega)
  exact loop16 _ 0 _ (by omega) hB hF (Nat.lt_succ_self _)
theorem t_X1_wouldFire {G : Gl} {h9 : Hp} {o s T : Nat} {v1 v2 v3 v4 v5 v6 v7 : Value} {r : Row} {al cl sl : Nat} {m1 m2 m3 : Int32} {n1 n2 E F : Nat → Nat} (hb9 : h9 o = some ((2, 0), ob 0 [.ref s, v1, v2, v3, v4, v5, v6, v7])) (hX9 : SWx G T s r al cl sl m1 m2 m3 n1 n2 E F h9) (hI : RI r) {x : Int} (hx : InR x) : Ct G 8 13 yX1_wouldFire (Cond.code yX1_wouldFire cX1_wouldFire 4 (some .int)) [.ref o, .int (iZ x)] h9 (qQ (zWfi r x) (kHt x) (Fr pQ h9)) (qX (kHt x) eIAE "" (Fr pQ h9)) := by
  have hF : Fr pQ h9 h9 := Fr.rf
  have hb := hb9
  have hX := hX9
  have b := hI.1
  have hX2 := hX
  obtain ⟨w1, w2, w3, w4, w5, w6, w7, w8⟩ := hX2
  obtain ⟨ar1, w2s⟩ := w2.size
  have hp := PW.nil (h := h9)
  refine Ct.of (own := "CharterKiln") (nm := "wouldFire") (by decide +kernel) rfl rfl (L := [some (.ref o), some (.int (iZ x)), none, none]) rfl (Nat.le_of_ble_eq_true rfl) rfl ?_
  refine r_iload_n (pc := 0) dX1_wouldFire_0 rfl ?_
  refine r_callS (pc := 1) (kb' := 6) dX1_wouldFire_1 kX1_checkHeat q2040 (t_X1_checkHeat (by omega)) (Nat.le_of_ble_eq_true rfl) (Nat.le_of_ble_eq_true rfl) rfl rfl (Nat.le_of_ble_eq_true rfl) (fun E h7 hx => x_out rfl ⟨Or.inl ⟨hx.1, kHt_1 hx.2.1⟩, by rw [hx.2.2]; exact hF⟩) (fun _ h hq => ?_)
  refine go_jN hq (fun hq2 => ?_)
  obtain ⟨e9, hpx⟩ := hq2
  replace e9 := e9.symm
  subst e9
  refine r_new (pc := 4) (ci := 16) (T := TJ14) (N := 3) ((3, 10)) [.null, .int 0, .int 0] (kb' := 2) dX1_wouldFire_4 rfl q2065 q1586 q124 (by intro j hj; revert j; decide +kernel) (Nat.le_of_ble_eq_true rfl) (fun w hw zw => ?_)
  refine go_pw (hp.new hw _) (fun h hp => ?_)
  have hwn := hw
  refine r_dup (pc := 7) dX1_wouldFire_7 rfl ?_
  refine r_bipush (pc := 8) dX1_wouldFire_8 (by decide) ?_
  refine r_callI (pc := 10) (kb' := 0) dX1_wouldFire_10 kJ14_init q2066 (t_J14_init (n := 12) (hp.at 0 rfl) (by decide) (by omega)) (Nat.le_of_ble_eq_true rfl) (Nat.le_of_ble_eq_true rfl) rfl rfl (Nat.le_of_ble_eq_true rfl) (fun _ _ q => q.elim) (fun _ h hq => ?_)
  refine go_jN hq (fun hq2 => ?_)
  obtain ⟨hB, hF2⟩ := hq2
  have hF := (hp.fr (P := pQ) ⟨Or.inl hwn, trivial⟩).tr (hF2.wk (pQ_10 (by decide)))
  have hb := hF.get hb9 pQ_2
  have hX := hX9.q hF
  have hX2 := hX
  obtain ⟨w1, w2, w3, w4, w5, w6, w7, w8⟩ := hX2
  obtain ⟨ar1, w2s⟩ := w2.size
  refine r_astore_n (pc := 13) (L' := [_, _, _, _]) dX1_wouldFire_13 rfl ?_
  refine r_iconst (pc := 14) dX1_wouldFire_14 ?_
  refine r_istore_n (pc := 15) (L' := [_, _, _, _]) dX1_wouldFire_15 rfl ?_
  have loop16 : ∀ (k16 : Nat) (k : Nat) (h : Hp), (k ≤ (r 0).toNat) → (BS (3, 10) w (bs (fun a => rfP r x a) k) h) → (Fr pQ h9 h) → (r 0).toNat - k < k16 → Go G "CharterKiln" cX1_wouldFire (4, some .int, "wouldFire", []) 8 13 (qQ (zWfi r x) (kHt x) (Fr pQ h9)) ((qX (kHt x) eIAE "" (Fr pQ h9))) 0 h 16 [some (.ref o), some (.int (iZ x)), some (.ref w), some (.int (iZ k))] [] := by
    intro k16
    induction k16 with
    | zero => intro k h hk hB hF hk; omega
    | succ k16 ih16 =>
      intro k h hk hB hF hk16
      have hb := hF.get hb9 pQ_2
      have hX := hX9.q hF
      have hX2 := hX
      obtain ⟨w1, w2, w3, w4, w5, w6, w7, w8⟩ := hX2
      obtain ⟨ar1, w2s⟩ := w2.size
      have hB0 := hB
      obtain ⟨bw, bf, bz, hB1, hB2⟩ := hB0
      refine r_iload_n (pc := 16) dX1_wouldFire_16 rfl ?_
      refine r_aload_n (pc := 17) dX1_wouldFire_17 rfl ?_
      refine gX1_10 (pc := 18) dX1_wouldFire_18 hb rfl ?_
      refine gX1_95 (pc := 21) dX1_wouldFire_21 w1 rfl ?_
      refine r_callV (pc := 24) (kb' := 0) dX1_wouldFire_24 kJ2_size q1512 (t_J2_size w2s) w2s rfl (Nat.le_refl _) (Nat.le_of_ble_eq_true rfl) rfl rfl (Nat.le_of_ble_eq_true rfl) (fun _ _ q => q.elim) (fun _ _ hq => ?_)
      refine go_jE hq ?_
      refine go_cz (w := r 0) (by omega) ?_
      refine r_icmp_ge (pc := 27) (tgt := 69) dX1_wouldFire_27 (by decide) (by omega) (by omega) (fun c27 => ?_) (fun c27 => ?_)
      · refine r_aload_n (pc := 69) dX1_wouldFire_69 rfl ?_
        refine r_callS (pc := 70) (kb' := 0) dX1_wouldFire_70 kX1_bits q2069 (t_X1_bits hB (by omega)) (Nat.le_refl _) (Nat.le_of_ble_eq_true rfl) rfl rfl (Nat.le_of_ble_eq_true rfl) (fun _ _ q => q.elim) (fun _ _ hq => ?_)
        refine go_jE hq ?_
        refine go_ci (z := btZ (fun a => rfP r x a) (r 0)) (by rw [← btZ_e, show k = (r 0).toNat by omega]) ?_
        exact r_iret (pc := 73) dX1_wouldFire_73 rfl rfl ⟨congrArg (fun q : Int => some (Value.int (iZ q))) (by unfold zWfi; rw [if_pos (kHt_0 hpx)]), kHt_0 hpx, hF⟩
      · refine r_aload_n (pc := 30) dX1_wouldFire_30 rfl ?_
        refine r_iload_n (pc := 31) dX1_wouldFire_31 rfl ?_
        refine r_aload_n (pc := 32) dX1_wouldFire_32 rfl ?_
        refine r_iload_n (pc := 33) dX1_wouldFire_33 rfl ?_
        refine r_callV (pc := 34) (kb' := 0) dX1_wouldFire_34 kX1_articleAt q1749 (t_X1_articleAt hb hX hI (by omega)) hb rfl (Nat.le_refl _) (Nat.le_of_ble_eq_true rfl) rfl rfl (Nat.le_of_ble_eq_true rfl) (fun _ _ q => q.elim) (fun _ _ hq => ?_)
        refine go_jE hq ?_
        refine go_cv (w := .ref (E k)) (by first | rfl | exact congrArg (fun q => Value.ref (E q)) (by omega)) ?_
        have ho := hI.2.1 ((k : Nat) : Int) (by omega) (by omega)
        have ho2 := ho
        unfold artOk at ho2
        refine gX1_200 (pc := 37) dX1_wouldFire_37 (w5 k (by omega)) rfl ?_
        refine r_if_ne (pc := 40) (tgt := 59) dX1_wouldFire_40 (by decide) (by omega) (fun c40 => ?_) (fun c40 => ?_)
        · refine r_iconst (pc := 59) dX1_wouldFire_59 ?_
          refine go_cz (w := bZ (rfP r x k)) (bZ_f (fun q => by first | (exact absurd q.2 (by assumption)) | omega)).symm ?_
          refine r_callV (pc := 60) (kb' := 0) dX1_wouldFire_60 kJ14_set q2068 (t_J14_set (p := (fun a => rfP r x a) k) hB (by decide) (by omega) (bs_lt k)) hB1 rfl (Nat.le_refl _) (Nat.le_of_ble_eq_true rfl) rfl rfl (Nat.le_of_ble_eq_true rfl) (fun _ _ q => q.elim) (fun _ h hq => ?_)
          refine go_jN hq (fun hq2 => ?_)
          obtain ⟨hB, hF2⟩ := hq2
          replace hF := hF.tr (hF2.wk (pQ_10 (by decide)))
          have hb := hF.get hb9 pQ_2
          have hX := hX9.q hF
          have hX2 := hX
          obtain ⟨w1, w2, w3, w4, w5, w6, w7, w8⟩ := hX2
          obtain ⟨ar1, w2s⟩ := w2.size
          refine r_iinc (pc := 63) (L' := [_, _, _, _]) dX1_wouldFire_63 rfl rfl ?_
          refine r_goto (pc := 66) (tgt := 16) dX1_wouldFire_66 (by decide) ?_
          exact ih16 (k + 1) h (by omega) hB hF (by omega)
        · refine r_aload_n (pc := 43) dX1_wouldFire_43 rfl ?_
          refine r_iload_n (pc := 44) dX1_wouldFire_44 rfl ?_
          refine r_callV (pc := 45) (kb' := 0) dX1_wouldFire_45 kX1_articleAt q1749 (t_X1_articleAt hb hX hI (by omega)) hb rfl (Nat.le_refl _) (Nat.le_of_ble_eq_true rfl) rfl rfl (Nat.le_of_ble_eq_true rfl) (fun _ _ q => q.elim) (fun _ _ hq => ?_)
          refine go_jE hq ?_
          refine go_cv (w := .ref (E k)) (by first | rfl | exact congrArg (fun q => Value.ref (E q)) (by omega)) ?_
          have ho := hI.2.1 ((k : Nat) : Int) (by omega) (by omega)
          have ho2 := ho
          unfold artOk at ho2
          refine r_iload_n (pc := 48) dX1_wouldFire_48 rfl ?_
          refine r_callV (pc := 49) (kb' := 0) dX1_wouldFire_49 kX5_isFiredBy q2080 (t_X5_isFiredBy (w5 k (by omega)) (by omega) (by omega) hpx) (w5 k (by omega)) rfl (Nat.le_refl _) (Nat.le_of_ble_eq_true rfl) rfl rfl (Nat.le_of_ble_eq_true rfl) (fun _ _ q => q.elim) (fun _ _ hq => ?_)
          refine go_jE hq ?_
          refine r_ifB_eq (pc := 52) (tgt := 59) dX1_wouldFire_52 (by decide) (fun c52 => ?_) (fun c52 => ?_)
          · refine r_iconst (pc := 59) dX1_wouldFire_59 ?_
            refine go_cz (w := bZ (rfP r x k)) (bZ_f (fun q => by first | (exact absurd q.2 (by assumption)) | omega)).symm ?_
            refine r_callV (pc := 60) (kb' := 0) dX1_wouldFire_60 kJ14_set q2068 (t_J14_set (p := (fun a => rfP r x a) k) hB (by decide) (by omega) (bs_lt k)) hB1 rfl (Nat.le_refl _) (Nat.le_of_ble_eq_true rfl) rfl rfl (Nat.le_of_ble_eq_true rfl) (fun _ _ q => q.elim) (fun _ h hq => ?_)
            refine go_jN hq (fun hq2 => ?_)
            obtain ⟨hB, hF2⟩ := hq2
            replace hF := hF.tr (hF2.wk (pQ_10 (by decide)))
            have hb := hF.get hb9 pQ_2
            have hX := hX9.q hF
            have hX2 := hX
            obtain ⟨w1, w2, w3, w4, w5, w6, w7, w8⟩ := hX2
            obtain ⟨ar1, w2s⟩ := w2.size
            refine r_iinc (pc := 63) (L' := [_, _, _, _]) dX1_wouldFire_63 rfl rfl ?_
            refine r_goto (pc := 66) (tgt := 16) dX1_wouldFire_66 (by decide) ?_
            exact ih16 (k + 1) h (by omega) hB hF (by omega)
          · refine r_iconst (pc := 55) dX1_wouldFire_55 ?_
            refine go_cz (w := bZ (rfP r x k)) (bZ_t ⟨by omega, by first | assumption | exact Classical.not_not.mp (by assumption)⟩).symm ?_
            refine r_goto (pc := 56) (tgt := 60) dX1_wouldFire_56 (by decide) ?_
            refine r_callV (pc := 60) (kb' := 0) dX1_wouldFire_60 kJ14_set q2068 (t_J14_set (p := (fun a => rfP r x a) k) hB (by decide) (by omega) (bs_lt k)) hB1 rfl (Nat.le_refl _) (Nat.le_of_ble_eq_true rfl) rfl rfl (Nat.le_of_ble_eq_true rfl) (fun _ _ q => q.elim) (fun _ h hq => ?_)
            refine go_jN hq (fun hq2 => ?_)
            obtain ⟨hB, hF2⟩ := hq2
            replace hF := hF.tr (hF2.wk (pQ_10 (by decide)))
            have hb := hF.get hb9 pQ_2
            have hX := hX9.q hF
            have hX2 := hX
            obtain ⟨w1, w2, w3, w4, w5, w6, w7, w8⟩ := hX2
            obtain ⟨ar1, w2s⟩ := w2.size
            refine r_iinc (pc := 63) (L' := [_, _, _, _]) dX1_wouldFire_63 rfl rfl ?_
            refine r_goto (pc := 66) (tgt := 16) dX1_wouldFire_66 (by decide) ?_
            exact ih16 (k + 1) h (by omega) hB hF (by omega)
  exact loop16 _ 0 _ (by omega) hB hF (Nat.lt_succ_self _)
theorem t_X1_cracksNothing {G : Gl} {h9 : Hp} {o s T : Nat} {v1 v2 v3 v4 v5 v6 v7 : Value} {r : Row} {al cl sl : Nat} {m1 m2 m3 : Int32} {n1 n2 E F : Nat → Nat} (hb9 : h9 o = some ((2, 0), ob 0 [.ref s, v1, v2, v3, v4, v5, v6, v7])) (hX9 : SWx G T s r al cl sl m1 m2 m3 n1 n2 E F h9) (hI : RI r) {x : Int} (hx : 10 ≤ x ∧ x ≤ 99) : Ct G 5 5 yX1_cracksNothing (Cond.code yX1_cracksNothing cX1_cracksNothing 4 (some .boolean)) [.ref o, .int (iZ x)] h9 (jP (.int (iZ (bZ (safeP r x)))) (Fr pQ h9)) noX := by
  have hF : Fr pQ h9 h9 := Fr.rf
  have hb := hb9
  have hX := hX9
  have b := hI.1
  have hX2 := hX
  obtain ⟨w1, w2, w3, w4, w5, w6, w7, w8⟩ := hX2
  obtain ⟨ar1, w2s⟩ := w2.size
  have hp := PW.nil (h := h9)
  refine Ct.of (own := "CharterKiln") (nm := "cracksNothing") (by decide +kernel) rfl rfl (L := [some (.ref o), some (.int (iZ x)), none, none]) rfl (Nat.le_of_ble_eq_true rfl) rfl ?_
  refine r_aload_n (pc := 0) dX1_cracksNothing_0 rfl ?_
  refine gX1_10 (pc := 1) dX1_cracksNothing_1 hb rfl ?_
  refine gX1_95 (pc := 4) dX1_cracksNothing_4 w1 rfl ?_
  refine r_callV (pc := 7) (kb' := 0) dX1_cracksNothing_7 kJ2_iterator q463 (t_J2_iterator (3, 11) (by decide) w2) w2s rfl (Nat.le_of_ble_eq_true rfl) (Nat.le_of_ble_eq_true rfl) rfl rfl (Nat.le_of_ble_eq_true rfl) (fun _ _ q => q.elim) (fun _ h hq => ?_)
  refine go_jX hq (fun it hit => ?_)
  obtain ⟨hit, e9⟩ := hit
  subst e9
  refine go_pw (hp.new hit _) (fun h hp => ?_)
  refine r_astore_n (pc := 10) (L' := [_, _, _, _]) dX1_cracksNothing_10 rfl ?_
  have loop11 : ∀ (k11 : Nat) (k : Nat) (l : Int) (h : Hp), (k ≤ (r 0).toNat) → (PW [(it, (3, 11), ob 9 [.int (iZ k), .int (iZ l), .int m1, .ref al])] h9 h) → (∀ i : Nat, i < k → ¬ 0 < crZ r i x) → (r 0).toNat - k < k11 → Go G "CharterKiln" cX1_cracksNothing (4, some .boolean, "cracksNothing", []) 5 5 (jP (.int (iZ (bZ (safeP r x)))) (Fr pQ h9)) (noX) 0 h 11 [some (.ref o), some (.int (iZ x)), some (.ref it), none] [] := by
    intro k11
    induction k11 with
    | zero => intro k l h hk hp hz hk; omega
    | succ k11 ih11 =>
      intro k l h hk hp hz hk11
      have hF := hp.fr (P := pQ) ⟨Or.inl hit, trivial⟩
      have hX2 := hX.q hF
      obtain ⟨w1, w2, w3, w4, w5, w6, w7, w8⟩ := hX2
      obtain ⟨ar1, w2s⟩ := w2.size
      have hb := hF.get hb9 pQ_2
      refine r_aload_n (pc := 11) dX1_cracksNothing_11 rfl ?_
      refine r_callF (pc := 12) (kb' := 0) dX1_cracksNothing_12 0 rfl f0 q489 (t_J26_hasNext (hp.at 0 rfl) w2 (by omega)) (hp.at 0 rfl) rfl (Nat.le_refl _) (Nat.le_of_ble_eq_true rfl) rfl rfl (Nat.le_of_ble_eq_true rfl) (fun _ _ q => q.elim) (fun _ _ hq => ?_)
      refine go_jE hq ?_
      refine r_ifB_eq (pc := 17) (tgt := 43) dX1_cracksNothing_17 (by decide) (fun c17 => ?_) (fun c17 => ?_)
      · refine r_iconst (pc := 43) dX1_cracksNothing_43 ?_
        exact r_iret (pc := 44) dX1_cracksNothing_44 rfl (nB' (by first | (left; rfl) | (right; rfl) | exact bZ_01' _ | omega)) ⟨by rw [bZ_t (fnd_all.mpr (fun i hi => hz i (by omega)))], hF⟩
      · refine r_aload_n (pc := 20) dX1_cracksNothing_20 rfl ?_
        refine r_callF (pc := 21) (kb' := 0) dX1_cracksNothing_21 1 rfl f1 q529 (t_J26_next (hp.at 0 rfl) w2 (by omega) (by decide)) (hp.at 0 rfl) rfl (Nat.le_refl _) (Nat.le_of_ble_eq_true rfl) rfl rfl (Nat.le_of_ble_eq_true rfl) (fun _ _ q => q.elim) (fun _ h hq => ?_)
        refine go_jP hq (fun e9 => ?_)
        subst e9
        refine go_pw (hp.put 0 rfl) (fun h hp => ?_)
        have hF := hp.fr (P := pQ) ⟨Or.inl hit, trivial⟩
        have hX2 := hX.q hF
        obtain ⟨w1, w2, w3, w4, w5, w6, w7, w8⟩ := hX2
        obtain ⟨ar1, w2s⟩ := w2.size
        have ho := hI.2.1 ((k : Nat) : Int) (by omega) (by omega)
        have ho2 := ho
        unfold artOk at ho2
        have hb := hF.get hb9 pQ_2
        refine r_cast (pc := 26) dX1_cracksNothing_26 q1039 (w5 k (by omega)) rfl ?_
        refine r_astore_n (pc := 29) (L' := [_, _, _, _]) dX1_cracksNothing_29 rfl ?_
        refine r_aload_n (pc := 30) dX1_cracksNothing_30 rfl ?_
        refine r_iload_n (pc := 31) dX1_cracksNothing_31 rfl ?_
        refine r_callV (pc := 32) (kb' := 0) dX1_cracksNothing_32 kX5_cracksBy q1164 (t_X5_cracksBy (w5 k (by omega)) ho hx) (w5 k (by omega)) rfl (Nat.le_refl _) (Nat.le_of_ble_eq_true rfl) rfl rfl (Nat.le_of_ble_eq_true rfl) (fun _ _ q => q.elim) (fun _ _ hq => ?_)
        refine go_jE hq ?_
        have hcr := cr_in ho hx
        refine r_if_le (pc := 35) (tgt := 40) dX1_cracksNothing_35 (by decide) (by omega) (fun c35 => ?_) (fun c35 => ?_)
        · refine r_goto (pc := 40) (tgt := 11) dX1_cracksNothing_40 (by decide) ?_
          refine goL (L' := [some (.ref o), some (.int (iZ x)), some (.ref it), none]) ⟨rfl, rfl, rfl, trivial⟩ ?_
          exact ih11 (k + 1) k h (by omega) hp (all_s hz (by omega)) (by omega)
        · refine r_iconst (pc := 38) dX1_cracksNothing_38 ?_
          exact r_iret (pc := 39) dX1_cracksNothing_39 rfl (nB' (by first | (left; rfl) | (right; rfl) | exact bZ_01' _ | omega)) ⟨by rw [bZ_f (fun q => fnd_all.mp q k (by omega) (by omega))], hF⟩
  exact loop11 _ 0 (-1) _ (by omega) hp (fun i hi => absurd hi (by omega)) (Nat.lt_succ_self _)
theorem t_X1_safeByTrying {G : Gl} {h9 : Hp} {o s T : Nat} {v1 v2 v3 v4 v5 v6 v7 : Value} {r : Row} {al cl sl : Nat} {m1 m2 m3 : Int32} {n1 n2 E F : Nat → Nat} (hb9 : h9 o = some ((2, 0), ob 0 [.ref s, v1, v2, v3, v4, v5, v6, v7])) (hX9 : SWx G T s r al cl sl m1 m2 m3 n1 n2 E F h9) (hI : RI r)  : Ct G 6 455 yX1_safeByTrying (Cond.code yX1_safeByTrying cX1_safeByTrying 2 (some .int)) [.ref o] h9 (jP (.int (iZ (sfZ r 90))) (Fr pQ h9)) noX := by
  have hF : Fr pQ h9 h9 := Fr.rf
  have hb := hb9
  have hX := hX9
  have b := hI.1
  have hX2 := hX
  obtain ⟨w1, w2, w3, w4, w5, w6, w7, w8⟩ := hX2
  obtain ⟨ar1, w2s⟩ := w2.size
  refine Ct.of (own := "CharterKiln") (nm := "safeByTrying") (by decide +kernel) rfl rfl (L := [some (.ref o), none]) rfl (Nat.le_of_ble_eq_true rfl) rfl ?_
  refine r_bipush (pc := 0) dX1_safeByTrying_0 (by decide) ?_
  refine r_istore_n (pc := 2) (L' := [_, _]) dX1_safeByTrying_2 rfl ?_
  have loop3 : ∀ (k3 : Nat) (z : Int) (h : Hp), (9 ≤ z ∧ z ≤ 99) → (sfZ r 90 = sfZ r (z - 9).toNat) → (Fr pQ h9 h) → (z - 9).toNat < k3 → Go G "CharterKiln" cX1_safeByTrying (2, some .int, "safeByTrying", []) 6 455 (jP (.int (iZ (sfZ r 90))) (Fr pQ h9)) (noX) (5 * (z - 9).toNat) h 3 [some (.ref o), some (.int (iZ z))] [] := by
    intro k3
    induction k3 with
    | zero => intro z h hz hs hF hk; omega
    | succ k3 ih3 =>
      intro z h hz hs hF hk3
      have hb := hF.get hb9 pQ_2
      have hX := hX9.q hF
      have hX2 := hX
      obtain ⟨w1, w2, w3, w4, w5, w6, w7, w8⟩ := hX2
      obtain ⟨ar1, w2s⟩ := w2.size
      refine r_iload_n (pc := 3) dX1_safeByTrying_3 rfl ?_
      refine r_bipush (pc := 4) dX1_safeByTrying_4 (by decide) ?_
      refine r_icmp_lt (pc := 6) (tgt := 25) dX1_safeByTrying_6 (by decide) (by omega) (by omega) (fun c6 => ?_) (fun c6 => ?_)
      · refine r_iconst (pc := 25) dX1_safeByTrying_25 ?_
        exact r_iret (pc := 26) dX1_safeByTrying_26 rfl rfl ⟨congrArg (fun q : Int => some (Value.int (iZ q))) (by rw [hs, sf_e (by omega)]), hF⟩
      · refine r_aload_n (pc := 9) dX1_safeByTrying_9 rfl ?_
        refine r_iload_n (pc := 10) dX1_safeByTrying_10 rfl ?_
        refine r_callV (pc := 11) (kb' := 5 * (z - 9).toNat - 5) dX1_safeByTrying_11 kX1_cracksNothing q1198 (t_X1_cracksNothing hb hX hI (by omega)) hb rfl (by omega) (Nat.le_of_ble_eq_true rfl) rfl rfl (Nat.le_of_ble_eq_true rfl) (fun _ _ q => q.elim) (fun _ h hq => ?_)
        refine go_jP hq (fun hq2 => ?_)
        replace hF := hF.tr hq2
        have hb := hF.get hb9 pQ_2
        have hX := hX9.q hF
        have hX2 := hX
        obtain ⟨w1, w2, w3, w4, w5, w6, w7, w8⟩ := hX2
        obtain ⟨ar1, w2s⟩ := w2.size
        refine r_ifB_eq (pc := 14) (tgt := 19) dX1_safeByTrying_14 (by decide) (fun c14 => ?_) (fun c14 => ?_)
        · refine r_iinc (pc := 19) (L' := [_, _]) dX1_safeByTrying_19 rfl rfl ?_
          refine r_goto (pc := 22) (tgt := 3) dX1_safeByTrying_22 (by decide) ?_
          refine go_kb (kb' := 5 * (z + (-1) - 9).toNat) (by omega) ?_
          exact ih3 (z + (-1)) h (by omega) (by rw [hs, sf_s (by omega), if_neg (by assumption)]) hF (by omega)
        · refine r_iload_n (pc := 17) dX1_safeByTrying_17 rfl ?_
          exact r_iret (pc := 18) dX1_safeByTrying_18 rfl rfl ⟨congrArg (fun q : Int => some (Value.int (iZ q))) (by rw [hs, sf_s (by omega), if_pos (by first | assumption | exact Classical.not_not.mp (by assumption))]), hF⟩
  refine go_kb (kb' := 5 * ((99 : Int) - 9).toNat) (by omega) ?_
  exact loop3 _ 99 h9 (by omega) rfl hF (Nat.lt_succ_self _)
theorem t_X1_safeByLimits {G : Gl} {h9 : Hp} {o s T : Nat} {v1 v2 v3 v4 v5 v6 v7 : Value} {r : Row} {al cl sl : Nat} {m1 m2 m3 : Int32} {n1 n2 E F : Nat → Nat} (hb9 : h9 o = some ((2, 0), ob 0 [.ref s, v1, v2, v3, v4, v5, v6, v7])) (hX9 : SWx G T s r al cl sl m1 m2 m3 n1 n2 E F h9) (hI : RI r)  : Ct G 3 5 yX1_safeByLimits (Cond.code yX1_safeByLimits cX1_safeByLimits 4 (some .int)) [.ref o] h9 (jP (.int (iZ (sfZ r 90))) (Fr pQ h9)) noX := by
  have hF : Fr pQ h9 h9 := Fr.rf
  have hb := hb9
  have hX := hX9
  have b := hI.1
  have hX2 := hX
  obtain ⟨w1, w2, w3, w4, w5, w6, w7, w8⟩ := hX2
  obtain ⟨ar1, w2s⟩ := w2.size
  have hp := PW.nil (h := h9)
  refine Ct.of (own := "CharterKiln") (nm := "safeByLimits") (by decide +kernel) rfl rfl (L := [some (.ref o), none, none, none]) rfl (Nat.le_of_ble_eq_true rfl) rfl ?_
  refine r_bipush (pc := 0) dX1_safeByLimits_0 (by decide) ?_
  refine r_istore_n (pc := 2) (L' := [_, _, _, _]) dX1_safeByLimits_2 rfl ?_
  refine r_aload_n (pc := 3) dX1_safeByLimits_3 rfl ?_
  refine gX1_10 (pc := 4) dX1_safeByLimits_4 hb rfl ?_
  refine gX1_95 (pc := 7) dX1_safeByLimits_7 w1 rfl ?_
  refine r_callV (pc := 10) (kb' := 0) dX1_safeByLimits_10 kJ2_iterator q463 (t_J2_iterator (3, 11) (by decide) w2) w2s rfl (Nat.le_of_ble_eq_true rfl) (Nat.le_of_ble_eq_true rfl) rfl rfl (Nat.le_of_ble_eq_true rfl) (fun _ _ q => q.elim) (fun _ h hq => ?_)
  refine go_jX hq (fun it hit => ?_)
  obtain ⟨hit, e9⟩ := hit
  subst e9
  refine go_pw (hp.new hit _) (fun h hp => ?_)
  refine r_astore_n (pc := 13) (L' := [_, _, _, _]) dX1_safeByLimits_13 rfl ?_
  have loop14 : ∀ (k14 : Nat) (k : Nat) (l : Int) (h : Hp), (k ≤ (r 0).toNat) → (PW [(it, (3, 11), ob 9 [.int (iZ k), .int (iZ l), .int m1, .ref al])] h9 h) → (r 0).toNat - k < k14 → Go G "CharterKiln" cX1_safeByLimits (4, some .int, "safeByLimits", []) 3 5 (jP (.int (iZ (sfZ r 90))) (Fr pQ h9)) (noX) 0 h 14 [some (.ref o), some (.int (iZ (lsZ r k))), some (.ref it), none] [] := by
    intro k14
    induction k14 with
    | zero => intro k l h hk hp hk; omega
    | succ k14 ih14 =>
      intro k l h hk hp hk14
      have hF := hp.fr (P := pQ) ⟨Or.inl hit, trivial⟩
      have hX2 := hX.q hF
      obtain ⟨w1, w2, w3, w4, w5, w6, w7, w8⟩ := hX2
      obtain ⟨ar1, w2s⟩ := w2.size
      have hb := hF.get hb9 pQ_2
      have hls := ls_le (r := r) k
      have hls2 := ls_ge hI k (by omega)
      refine r_aload_n (pc := 14) dX1_safeByLimits_14 rfl ?_
      refine r_callF (pc := 15) (kb' := 0) dX1_safeByLimits_15 0 rfl f0 q489 (t_J26_hasNext (hp.at 0 rfl) w2 (by omega)) (hp.at 0 rfl) rfl (Nat.le_refl _) (Nat.le_of_ble_eq_true rfl) rfl rfl (Nat.le_of_ble_eq_true rfl) (fun _ _ q => q.elim) (fun _ _ hq => ?_)
      refine go_jE hq ?_
      refine r_ifB_eq (pc := 20) (tgt := 64) dX1_safeByLimits_20 (by decide) (fun c20 => ?_) (fun c20 => ?_)
      · refine r_iload_n (pc := 64) dX1_safeByLimits_64 rfl ?_
        refine r_bipush (pc := 65) dX1_safeByLimits_65 (by decide) ?_
        refine r_icmp_ge (pc := 67) (tgt := 74) dX1_safeByLimits_67 (by decide) (by omega) (by omega) (fun c67 => ?_) (fun c67 => ?_)
        · refine r_iload_n (pc := 74) dX1_safeByLimits_74 rfl ?_
          exact r_iret (pc := 75) dX1_safeByLimits_75 rfl rfl ⟨congrArg (fun q : Int => some (Value.int (iZ q))) (by rw [sf_ls hI, ← show k = (r 0).toNat by omega]; rw [if_neg (by omega)]), hF⟩
        · refine r_iconst (pc := 70) dX1_safeByLimits_70 ?_
          refine r_goto (pc := 71) (tgt := 75) dX1_safeByLimits_71 (by decide) ?_
          exact r_iret (pc := 75) dX1_safeByLimits_75 rfl rfl ⟨congrArg (fun q : Int => some (Value.int (iZ q))) (by rw [sf_ls hI, ← show k = (r 0).toNat by omega]; rw [if_pos (by omega)]), hF⟩
      · refine r_aload_n (pc := 23) dX1_safeByLimits_23 rfl ?_
        refine r_callF (pc := 24) (kb' := 0) dX1_safeByLimits_24 1 rfl f1 q529 (t_J26_next (hp.at 0 rfl) w2 (by omega) (by decide)) (hp.at 0 rfl) rfl (Nat.le_refl _) (Nat.le_of_ble_eq_true rfl) rfl rfl (Nat.le_of_ble_eq_true rfl) (fun _ _ q => q.elim) (fun _ h hq => ?_)
        refine go_jP hq (fun e9 => ?_)
        subst e9
        refine go_pw (hp.put 0 rfl) (fun h hp => ?_)
        have hF := hp.fr (P := pQ) ⟨Or.inl hit, trivial⟩
        have hX2 := hX.q hF
        obtain ⟨w1, w2, w3, w4, w5, w6, w7, w8⟩ := hX2
        obtain ⟨ar1, w2s⟩ := w2.size
        have ho := hI.2.1 ((k : Nat) : Int) (by omega) (by omega)
        have ho2 := ho
        unfold artOk at ho2
        have hb := hF.get hb9 pQ_2
        refine r_cast (pc := 29) dX1_safeByLimits_29 q1039 (w5 k (by omega)) rfl ?_
        refine r_astore_n (pc := 32) (L' := [_, _, _, _]) dX1_safeByLimits_32 rfl ?_
        refine r_aload_n (pc := 33) dX1_safeByLimits_33 rfl ?_
        refine r_callV (pc := 34) (kb' := 0) dX1_safeByLimits_34 kX5_isLaw q1206 (t_X5_isLaw (w5 k (by omega)) (by omega)) (w5 k (by omega)) rfl (Nat.le_refl _) (Nat.le_of_ble_eq_true rfl) rfl rfl (Nat.le_of_ble_eq_true rfl) (fun _ _ q => q.elim) (fun _ _ hq => ?_)
        refine go_jE hq ?_
        refine r_ifB_eq (pc := 37) (tgt := 44) dX1_safeByLimits_37 (by decide) (fun c37 => ?_) (fun c37 => ?_)
        · refine r_iload_n (pc := 44) dX1_safeByLimits_44 rfl ?_
          refine r_aload_n (pc := 45) dX1_safeByLimits_45 rfl ?_
          refine r_callV (pc := 46) (kb' := 0) dX1_safeByLimits_46 kX5_limit q1207 (t_X5_limit (w5 k (by omega)) ho) (w5 k (by omega)) rfl (Nat.le_refl _) (Nat.le_of_ble_eq_true rfl) rfl rfl (Nat.le_of_ble_eq_true rfl) (fun _ _ q => q.elim) (fun _ _ hq => ?_)
          refine go_jE hq ?_
          have hlm := lim_in ho
          refine r_bipush (pc := 49) dX1_safeByLimits_49 (by decide) ?_
          refine r_aload_n (pc := 51) dX1_safeByLimits_51 rfl ?_
          refine gX1_167 (pc := 52) dX1_safeByLimits_52 (w5 k (by omega)) rfl ?_
          refine r_imul (pc := 55) dX1_safeByLimits_55 ?_
          refine r_iadd (pc := 56) dX1_safeByLimits_56 ?_
          refine r_callS (pc := 57) (kb' := 0) dX1_safeByLimits_57 kJ19_min q1208 (t_J19_min (by omega) (by omega)) (Nat.le_refl _) (Nat.le_of_ble_eq_true rfl) rfl rfl (Nat.le_of_ble_eq_true rfl) (fun _ _ q => q.elim) (fun _ _ hq => ?_)
          refine go_jE hq ?_
          refine go_cz (w := lsZ r (k + 1)) (by show _ = (if fA r k 4 < 0 then lsZ r k else if lsZ r k ≤ limZ r k + 15 * fA r k 4 then lsZ r k else limZ r k + 15 * fA r k 4); rw [if_neg (show ¬ fA r k 4 < 0 by omega)]) ?_
          refine r_istore_n (pc := 60) (L' := [_, _, _, _]) dX1_safeByLimits_60 rfl ?_
          refine r_goto (pc := 61) (tgt := 14) dX1_safeByLimits_61 (by decide) ?_
          refine goL (L' := [some (.ref o), some (.int (iZ (lsZ r (k + 1)))), some (.ref it), none]) ⟨rfl, rfl, rfl, trivial⟩ ?_
          exact ih14 (k + 1) k h (by omega) hp (by omega)
        · refine r_iload_n (pc := 40) dX1_safeByLimits_40 rfl ?_
          refine go_cz (w := lsZ r (k + 1)) (by show _ = (if fA r k 4 < 0 then lsZ r k else _); rw [if_pos (by omega)]) ?_
          refine r_goto (pc := 41) (tgt := 60) dX1_safeByLimits_41 (by decide) ?_
          refine r_istore_n (pc := 60) (L' := [_, _, _, _]) dX1_safeByLimits_60 rfl ?_
          refine r_goto (pc := 61) (tgt := 14) dX1_safeByLimits_61 (by decide) ?_
          refine goL (L' := [some (.ref o), some (.int (iZ (lsZ r (k + 1)))), some (.ref it), none]) ⟨rfl, rfl, rfl, trivial⟩ ?_
          exact ih14 (k + 1) k h (by omega) hp (by omega)
  exact loop14 _ 0 (-1) _ (by omega) hp (Nat.lt_succ_self _)
theorem t_X1_safeHeat {G : Gl} {h9 : Hp} {o s T : Nat} {v1 v2 v3 v4 v5 v6 v7 : Value} {r : Row} {al cl sl : Nat} {m1 m2 m3 : Int32} {n1 n2 E F : Nat → Nat} (hb9 : h9 o = some ((2, 0), ob 0 [.ref s, v1, v2, v3, v4, v5, v6, v7])) (hX9 : SWx G T s r al cl sl m1 m2 m3 n1 n2 E F h9) (hI : RI r)  : Ct G 7 462 yX1_safeHeat (Cond.code yX1_safeHeat cX1_safeHeat 2 (some .int)) [.ref o] h9 (qQ (zSaf r) (kSaf r) (Fr pQ h9)) (qX (kSaf r) eNSE "" (Fr pQ h9)) := by
  have hF : Fr pQ h9 h9 := Fr.rf
  have hb := hb9
  have hX := hX9
  have b := hI.1
  have hX2 := hX
  obtain ⟨w1, w2, w3, w4, w5, w6, w7, w8⟩ := hX2
  obtain ⟨ar1, w2s⟩ := w2.size
  have hsi := sf_in (r := r) 90
  refine Ct.of (own := "CharterKiln") (nm := "safeHeat") (by decide +kernel) rfl rfl (L := [some (.ref o), none]) rfl (Nat.le_of_ble_eq_true rfl) rfl ?_
  refine r_aload_n (pc := 0) dX1_safeHeat_0 rfl ?_
  refine r_callV (pc := 1) (kb' := 7) dX1_safeHeat_1 kX1_safeByTrying q1194 (t_X1_safeByTrying hb hX hI) hb rfl (Nat.le_of_ble_eq_true rfl) (Nat.le_of_ble_eq_true rfl) rfl rfl (Nat.le_of_ble_eq_true rfl) (fun _ _ q => q.elim) (fun _ h hq => ?_)
  refine go_jP hq (fun hq2 => ?_)
  replace hF := hF.tr hq2
  have hb := hF.get hb9 pQ_2
  have hX := hX9.q hF
  have hX2 := hX
  obtain ⟨w1, w2, w3, w4, w5, w6, w7, w8⟩ := hX2
  obtain ⟨ar1, w2s⟩ := w2.size
  refine r_istore_n (pc := 4) (L' := [_, _]) dX1_safeHeat_4 rfl ?_
  refine r_iload_n (pc := 5) dX1_safeHeat_5 rfl ?_
  refine r_iconst (pc := 6) dX1_safeHeat_6 ?_
  refine r_icmp_eq (pc := 7) (tgt := 14) dX1_safeHeat_7 (by decide) (by omega) (by omega) (fun c7 => ?_) (fun c7 => ?_)
  · refine r_iconst (pc := 14) dX1_safeHeat_14 ?_
    refine go_cz (w := bZ (sfZ r 90 ≠ -1)) (bZ_f (by omega)).symm ?_
    refine r_callS (pc := 15) (kb' := 0) dX1_safeHeat_15 kX1_checkElement q2017 (t_X1_checkElement (p := sfZ r 90 ≠ -1)) (Nat.le_of_ble_eq_true rfl) (Nat.le_of_ble_eq_true rfl) rfl rfl (Nat.le_of_ble_eq_true rfl) (fun E h7 hx => x_out rfl ⟨Or.inl ⟨hx.1, by unfold kSaf; rw [if_pos (Classical.not_not.mp hx.2.1)]⟩, by rw [hx.2.2]; exact hF⟩) (fun _ h hq => ?_)
    refine go_jN hq (fun hq2 => ?_)
    obtain ⟨e9, hpx⟩ := hq2
    replace e9 := e9.symm
    subst e9
    refine r_iload_n (pc := 18) dX1_safeHeat_18 rfl ?_
    exact r_iret (pc := 19) dX1_safeHeat_19 rfl rfl ⟨congrArg (fun q : Int => some (Value.int (iZ q))) (by unfold zSaf; rw [if_neg hpx]), by unfold kSaf; rw [if_neg hpx], hF⟩
  · refine r_iconst (pc := 10) dX1_safeHeat_10 ?_
    refine go_cz (w := bZ (sfZ r 90 ≠ -1)) (bZ_t (by omega)).symm ?_
    refine r_goto (pc := 11) (tgt := 15) dX1_safeHeat_11 (by decide) ?_
    refine r_callS (pc := 15) (kb' := 0) dX1_safeHeat_15 kX1_checkElement q2017 (t_X1_checkElement (p := sfZ r 90 ≠ -1)) (Nat.le_of_ble_eq_true rfl) (Nat.le_of_ble_eq_true rfl) rfl rfl (Nat.le_of_ble_eq_true rfl) (fun E h7 hx => x_out rfl ⟨Or.inl ⟨hx.1, by unfold kSaf; rw [if_pos (Classical.not_not.mp hx.2.1)]⟩, by rw [hx.2.2]; exact hF⟩) (fun _ h hq => ?_)
    refine go_jN hq (fun hq2 => ?_)
    obtain ⟨e9, hpx⟩ := hq2
    replace e9 := e9.symm
    subst e9
    refine r_iload_n (pc := 18) dX1_safeHeat_18 rfl ?_
    exact r_iret (pc := 19) dX1_safeHeat_19 rfl rfl ⟨congrArg (fun q : Int => some (Value.int (iZ q))) (by unfold zSaf; rw [if_neg hpx]), by unfold kSaf; rw [if_neg hpx], hF⟩
theorem t_X1_safeAgain {G : Gl} {h9 : Hp} {o s T : Nat} {v1 v2 v3 v4 v5 v6 v7 : Value} {r : Row} {al cl sl : Nat} {m1 m2 m3 : Int32} {n1 n2 E F : Nat → Nat} (hb9 : h9 o = some ((2, 0), ob 0 [.ref s, v1, v2, v3, v4, v5, v6, v7])) (hX9 : SWx G T s r al cl sl m1 m2 m3 n1 n2 E F h9) (hI : RI r)  : Ct G 7 12 yX1_safeAgain (Cond.code yX1_safeAgain cX1_safeAgain 2 (some .int)) [.ref o] h9 (qQ (zSaf r) (kSaf r) (Fr pQ h9)) (qX (kSaf r) eNSE "" (Fr pQ h9)) := by
  have hF : Fr pQ h9 h9 := Fr.rf
  have hb := hb9
  have hX := hX9
  have b := hI.1
  have hX2 := hX
  obtain ⟨w1, w2, w3, w4, w5, w6, w7, w8⟩ := hX2
  obtain ⟨ar1, w2s⟩ := w2.size
  have hsi := sf_in (r := r) 90
  refine Ct.of (own := "CharterKiln") (nm := "safeAgain") (by decide +kernel) rfl rfl (L := [some (.ref o), none]) rfl (Nat.le_of_ble_eq_true rfl) rfl ?_
  refine r_aload_n (pc := 0) dX1_safeAgain_0 rfl ?_
  refine r_callV (pc := 1) (kb' := 7) dX1_safeAgain_1 kX1_safeByLimits q1202 (t_X1_safeByLimits hb hX hI) hb rfl (Nat.le_of_ble_eq_true rfl) (Nat.le_of_ble_eq_true rfl) rfl rfl (Nat.le_of_ble_eq_true rfl) (fun _ _ q => q.elim) (fun _ h hq => ?_)
  refine go_jP hq (fun hq2 => ?_)
  replace hF := hF.tr hq2
  have hb := hF.get hb9 pQ_2
  have hX := hX9.q hF
  have hX2 := hX
  obtain ⟨w1, w2, w3, w4, w5, w6, w7, w8⟩ := hX2
  obtain ⟨ar1, w2s⟩ := w2.size
  refine r_istore_n (pc := 4) (L' := [_, _]) dX1_safeAgain_4 rfl ?_
  refine r_iload_n (pc := 5) dX1_safeAgain_5 rfl ?_
  refine r_iconst (pc := 6) dX1_safeAgain_6 ?_
  refine r_icmp_eq (pc := 7) (tgt := 14) dX1_safeAgain_7 (by decide) (by omega) (by omega) (fun c7 => ?_) (fun c7 => ?_)
  · refine r_iconst (pc := 14) dX1_safeAgain_14 ?_
    refine go_cz (w := bZ (sfZ r 90 ≠ -1)) (bZ_f (by omega)).symm ?_
    refine r_callS (pc := 15) (kb' := 0) dX1_safeAgain_15 kX1_checkElement q2017 (t_X1_checkElement (p := sfZ r 90 ≠ -1)) (Nat.le_of_ble_eq_true rfl) (Nat.le_of_ble_eq_true rfl) rfl rfl (Nat.le_of_ble_eq_true rfl) (fun E h7 hx => x_out rfl ⟨Or.inl ⟨hx.1, by unfold kSaf; rw [if_pos (Classical.not_not.mp hx.2.1)]⟩, by rw [hx.2.2]; exact hF⟩) (fun _ h hq => ?_)
    refine go_jN hq (fun hq2 => ?_)
    obtain ⟨e9, hpx⟩ := hq2
    replace e9 := e9.symm
    subst e9
    refine r_iload_n (pc := 18) dX1_safeAgain_18 rfl ?_
    exact r_iret (pc := 19) dX1_safeAgain_19 rfl rfl ⟨congrArg (fun q : Int => some (Value.int (iZ q))) (by unfold zSaf; rw [if_neg hpx]), by unfold kSaf; rw [if_neg hpx], hF⟩
  · refine r_iconst (pc := 10) dX1_safeAgain_10 ?_
    refine go_cz (w := bZ (sfZ r 90 ≠ -1)) (bZ_t (by omega)).symm ?_
    refine r_goto (pc := 11) (tgt := 15) dX1_safeAgain_11 (by decide) ?_
    refine r_callS (pc := 15) (kb' := 0) dX1_safeAgain_15 kX1_checkElement q2017 (t_X1_checkElement (p := sfZ r 90 ≠ -1)) (Nat.le_of_ble_eq_true rfl) (Nat.le_of_ble_eq_true rfl) rfl rfl (Nat.le_of_ble_eq_true rfl) (fun E h7 hx => x_out rfl ⟨Or.inl ⟨hx.1, by unfold kSaf; rw [if_pos (Classical.not_not.mp hx.2.1)]⟩, by rw [hx.2.2]; exact hF⟩) (fun _ h hq => ?_)
    refine go_jN hq (fun hq2 => ?_)
    obtain ⟨e9, hpx⟩ := hq2
    replace e9 := e9.symm
    subst e9
    refine r_iload_n (pc := 18) dX1_safeAgain_18 rfl ?_
    exact r_iret (pc := 19) dX1_safeAgain_19 rfl rfl ⟨congrArg (fun q : Int => some (Value.int (iZ q))) (by unfold zSaf; rw [if_neg hpx]), by unfold kSaf; rw [if_neg hpx], hF⟩
theorem t_X1_firingHeat {G : Gl} {h9 : Hp} {o s T : Nat} {v1 v2 v3 v4 v5 v6 v7 : Value} {r : Row} {al cl sl : Nat} {m1 m2 m3 : Int32} {n1 n2 E F : Nat → Nat} (hb9 : h9 o = some ((2, 0), ob 0 [.ref s, v1, v2, v3, v4, v5, v6, v7])) (hX9 : SWx G T s r al cl sl m1 m2 m3 n1 n2 E F h9) (hI : RI r) {a : Int} (ha : InR a) : Ct G 8 14 yX1_firingHeat (Cond.code yX1_firingHeat cX1_firingHeat 3 (some .int)) [.ref o, .int (iZ a)] h9 (qQ (zFir r a) (kFir r a) (Fr pQ h9)) (qX (kFir r a) eIOB eNSE (Fr pQ h9)) := by
  have hF : Fr pQ h9 h9 := Fr.rf
  have hb := hb9
  have hX := hX9
  have b := hI.1
  have hX2 := hX
  obtain ⟨w1, w2, w3, w4, w5, w6, w7, w8⟩ := hX2
  obtain ⟨ar1, w2s⟩ := w2.size
  refine Ct.of (own := "CharterKiln") (nm := "firingHeat") (by decide +kernel) rfl rfl (L := [some (.ref o), some (.int (iZ a)), none]) rfl (Nat.le_of_ble_eq_true rfl) rfl ?_
  refine r_aload_n (pc := 0) dX1_firingHeat_0 rfl ?_
  refine r_iload_n (pc := 1) dX1_firingHeat_1 rfl ?_
  refine r_callV (pc := 2) (kb' := 7) dX1_firingHeat_2 kX1_checkArticle q1952 (t_X1_checkArticle hb hX hI (by omega)) hb rfl (Nat.le_of_ble_eq_true rfl) (Nat.le_of_ble_eq_true rfl) rfl rfl (Nat.le_of_ble_eq_true rfl) (fun E h7 hx => x_out rfl ⟨Or.inl ⟨hx.1, by unfold kFir; rw [if_pos hx.2.1]⟩, by rw [hx.2.2]; exact hF⟩) (fun _ h hq => ?_)
  refine go_jN hq (fun hq2 => ?_)
  obtain ⟨e9, hpa⟩ := hq2
  replace e9 := e9.symm
  subst e9
  refine r_bipush (pc := 5) dX1_firingHeat_5 (by decide) ?_
  refine r_istore_n (pc := 7) (L' := [_, _, _]) dX1_firingHeat_7 rfl ?_
  have loop8 : ∀ (k8 : Nat) (z : Int), (10 ≤ z ∧ z ≤ 100) → (ffZ r a = fndZ (fun x => firP r a x) z (100 - z).toNat) → (100 - z).toNat < k8 → Go G "CharterKiln" cX1_firingHeat (3, some .int, "firingHeat", []) 8 14 (qQ (zFir r a) (kFir r a) (Fr pQ h9)) ((qX (kFir r a) eIOB eNSE (Fr pQ h9))) 7 h9 8 [some (.ref o), some (.int (iZ a)), some (.int (iZ z))] [] := by
    intro k8
    induction k8 with
    | zero => intro z hz hs hk; omega
    | succ k8 ih8 =>
      intro z hz hs hk8
      refine r_iload_n (pc := 8) dX1_firingHeat_8 rfl ?_
      refine r_bipush (pc := 9) dX1_firingHeat_9 (by decide) ?_
      refine r_icmp_gt (pc := 11) (tgt := 34) dX1_firingHeat_11 (by decide) (by omega) (by omega) (fun c11 => ?_) (fun c11 => ?_)
      · exact r_thr (pc := 34) dX1_firingHeat_34 dX1_firingHeat_37 dX1_firingHeat_38 dX1_firingHeat_41 ftNSE q2020 q138 (atNSE (wokA q2021 rfl)) rfl rfl (by decide) (Nat.le_of_ble_eq_true rfl) (Nat.le_of_ble_eq_true rfl) (Nat.le_of_ble_eq_true rfl) ⟨Or.inr ⟨rfl, by unfold kFir; rw [if_neg (by omega), if_pos (by rw [hs, fnd_e (by omega)])]⟩, hF⟩
      · refine r_aload_n (pc := 14) dX1_firingHeat_14 rfl ?_
        refine r_iload_n (pc := 15) dX1_firingHeat_15 rfl ?_
        refine r_callV (pc := 16) (kb' := 7) dX1_firingHeat_16 kX1_articleAt q1749 (t_X1_articleAt hb hX hI (by omega)) hb rfl (Nat.le_refl _) (Nat.le_of_ble_eq_true rfl) rfl rfl (Nat.le_of_ble_eq_true rfl) (fun _ _ q => q.elim) (fun _ _ hq => ?_)
        refine go_jE hq ?_
        have ea : ((a.toNat : Nat) : Int) = a := by omega
        have ho := hI.2.1 a (by omega) (by omega)
        have ho2 := ho
        unfold artOk at ho2
        have hA5 := w5 a.toNat (by omega)
        rw [ea] at hA5
        refine r_iload_n (pc := 19) dX1_firingHeat_19 rfl ?_
        refine r_callV (pc := 20) (kb' := 7) dX1_firingHeat_20 kX5_isFiredBy q2080 (t_X5_isFiredBy hA5 (by omega) (by omega) (by omega)) hA5 rfl (Nat.le_refl _) (Nat.le_of_ble_eq_true rfl) rfl rfl (Nat.le_of_ble_eq_true rfl) (fun _ _ q => q.elim) (fun _ _ hq => ?_)
        refine go_jE hq ?_
        refine r_ifB_eq (pc := 23) (tgt := 28) dX1_firingHeat_23 (by decide) (fun c23 => ?_) (fun c23 => ?_)
        · refine r_iinc (pc := 28) (L' := [_, _, _]) dX1_firingHeat_28 rfl rfl ?_
          refine r_goto (pc := 31) (tgt := 8) dX1_firingHeat_31 (by decide) ?_
          exact ih8 (z + 1) (by omega) (by rw [hs, fnd_s (by omega), if_neg (by assumption)]) (by omega)
        · have hfz : ffZ r a = z := by rw [hs, fnd_s (by omega), if_pos (by first | assumption | exact Classical.not_not.mp (by assumption))]
          refine r_iload_n (pc := 26) dX1_firingHeat_26 rfl ?_
          exact r_iret (pc := 27) dX1_firingHeat_27 rfl rfl ⟨congrArg (fun q : Int => some (Value.int (iZ q))) (by rw [(kFir_0 hpa (hfz ▸ (by omega))).2, hfz]), (kFir_0 hpa (hfz ▸ (by omega))).1, hF⟩
  exact loop8 _ 10 (by omega) rfl (Nat.lt_succ_self _)
