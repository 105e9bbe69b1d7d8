set_option maxRecDepth 100000
/-! the class, part 11: fields of a state, of its articles and shards -/
section PUT
variable {G : Gl} {T s : Nat} {r : Row} {al cl sl : Nat} {m1 m2 m3 : Int32} {n1 n2 E F : Nat → Nat} {h h9 : Hp}
variable {own : String} {cc : ByteArray} {Y : Mt} {d mc : Nat} {Qr : Option Value → Hp → Prop} {Qx : String → Hp → Prop} {kb : Nat} {pc : Nat} {L : List (Option Value)} {st : List Value}
theorem SWx.put (hX : SWx G T s r al cl sl m1 m2 m3 n1 n2 E F h) (hT : T ≠ 0) {k : Nat} {z : Int} (hk : 3 ≤ k ∧ k ≤ 9) : SWx G T s (uR r k (nz z)) al cl sl m1 m2 m3 n1 n2 E F (up h s ((T, 0), ob 1 ([.ref al, .ref cl, .ref sl, .int (iZ (r 3)), .int (iZ (r 4)), .int (iZ (r 5)), .int (iZ (r 6)), .int (iZ (r 7)), .int (iZ (r 8)), .int (iZ (r 9))].set k (.int (iZ z))))) := by
  refine hX.sc hT ?_ (fun j hj => if_neg (by omega))
  have hs : ∀ j : Int, iZ (uR r k (nz z) j) = if j = k then iZ z else iZ (r j) := fun j => by
    unfold uR
    by_cases e : j = k
    · rw [if_pos e, if_pos e, iZ_nz]
    · rw [if_neg e, if_neg e]
  rw [hs 3, hs 4, hs 5, hs 6, hs 7, hs 8, hs 9]
  rcases (show k = 3 ∨ k = 4 ∨ k = 5 ∨ k = 6 ∨ k = 7 ∨ k = 8 ∨ k = 9 by omega) with e | e | e | e | e | e | e <;> subst e <;> rfl
theorem gp_put {k : Nat} {z : Int} (hX : SWx G T s r al cl sl m1 m2 m3 n1 n2 E F h) (hF : Fr (pTQ T) h9 h) (hT : T ≠ 0) (hk : 3 ≤ k ∧ k ≤ 9) (kk : ∀ h', SWx G T s (uR r k (nz z)) al cl sl m1 m2 m3 n1 n2 E F h' → Fr (pTQ T) h9 h' → Fr (fun x => x = (T, 0)) h h' → Go G own cc Y d mc Qr Qx kb h' pc L st) : Go G own cc Y d mc Qr Qx kb (up h s ((T, 0), ob 1 ([.ref al, .ref cl, .ref sl, .int (iZ (r 3)), .int (iZ (r 4)), .int (iZ (r 5)), .int (iZ (r 6)), .int (iZ (r 7)), .int (iZ (r 8)), .int (iZ (r 9))].set k (.int (iZ z))))) pc L st :=
  kk _ (hX.put hT hk) (hF.tr (Fr.upd hX.1 (Or.inl rfl))) (Fr.upd hX.1 rfl)
theorem gp_art {a : Int} {w : Nat} {z z' : Int} (hX : SWx G T s r al cl sl m1 m2 m3 n1 n2 E F h) (hF : Fr (pTQ T) h9 h) (ha : 0 ≤ a ∧ a < r 0) (b : r 0 ≤ 12 ∧ r 1 ≤ 12 ∧ r 2 ≤ 8) (hw : w < 6) (hz : iZ z' = iZ z) (kk : ∀ h', SWx G T s (uA r a w z') al cl sl m1 m2 m3 n1 n2 E F h' → Fr (pTQ T) h9 h' → Fr (fun x => x = (T, 4)) h h' → Go G own cc Y d mc Qr Qx kb h' pc L st) : Go G own cc Y d mc Qr Qx kb (up h (E a.toNat) ((T, 4), ob 4 ([.int (iZ (fA r a 0)), .int (iZ (fA r a 1)), .int (iZ (fA r a 2)), .int (iZ (fA r a 3)), .int (iZ (fA r a 4)), .int (iZ (fA r a 5))].set w (.int (iZ z))))) pc L st := by
  have hc := hX.2.2.2.2.1 a.toNat (by omega)
  refine kk _ (hX.art ha b ?_ (fun j hj => if_neg (by omega))) (hF.tr (Fr.upd hc (Or.inl rfl))) (Fr.upd hc rfl)
  have hs : ∀ j : Int, iZ (fA (uA r a w z') a j) = if j = w then iZ z else iZ (fA r a j) := fun j => by
    show iZ (if 56 + 6 * a + j = 56 + 6 * a + w then z' else r (56 + 6 * a + j)) = _
    by_cases e : j = w
    · rw [if_pos (by omega), if_pos e, hz]
    · rw [if_neg (by omega), if_neg e]; rfl
  show _ = up h (E a.toNat) ((T, 4), ob 4 [_, _, _, _, _, _])
  rw [hs 0, hs 1, hs 2, hs 3, hs 4, hs 5]
  rcases (show w = 0 ∨ w = 1 ∨ w = 2 ∨ w = 3 ∨ w = 4 ∨ w = 5 by omega) with e | e | e | e | e | e <;> subst e <;> rfl
theorem gp_use {a : Int} {z z' : Int} (hX : SWx G T s r al cl sl m1 m2 m3 n1 n2 E F h) (hF : Fr (pTQ T) h9 h) (ha : 0 ≤ a ∧ a < r 2) (b : r 0 ≤ 12 ∧ r 1 ≤ 12 ∧ r 2 ≤ 8) (hz : iZ z' = iZ z) (kk : ∀ h', SWx G T s (uR r (26 + 3 * a + 1) z') al cl sl m1 m2 m3 n1 n2 E F h' → Fr (pTQ T) h9 h' → Fr (fun x => x = (T, 5)) h h' → Go G own cc Y d mc Qr Qx kb h' pc L st) : Go G own cc Y d mc Qr Qx kb (up h (F a.toNat) ((T, 5), ob 5 ([.int (iZ (fS r a 0)), .int (iZ (fS r a 2)), .int (iZ (fS r a 1))].set 2 (.int (iZ z))))) pc L st := by
  have hc := hX.2.2.2.2.2.1 a.toNat (by omega)
  refine kk _ (hX.shd ha b ?_ (fun j hj => if_neg (by omega))) (hF.tr (Fr.upd hc (Or.inl rfl))) (Fr.upd hc rfl)
  have h0 : fS (uR r (26 + 3 * a + 1) z') a 0 = fS r a 0 := if_neg (by omega)
  have h2 : fS (uR r (26 + 3 * a + 1) z') a 2 = fS r a 2 := if_neg (by omega)
  have h1 : fS (uR r (26 + 3 * a + 1) z') a 1 = z' := if_pos rfl
  show _ = up h (F a.toNat) ((T, 5), ob 5 [_, _, _])
  rw [h0, h1, h2, hz]
  rfl
end PUT
theorem uR_s {r : Row} {i z : Int} : uR r i z i = z := if_pos rfl
theorem uR_o {r : Row} {i z j : Int} (h : j ≠ i) : uR r i z j = r j := if_neg h

def raR1 (r : Row) (a : Int) : Row := fun j => if j = 1 then r 1 + 1 else if j = 12 + r 1 then a else uA r a (4 : Nat) (-1) j
theorem ra_fin {r : Row} {a : Int} (hI : RI r) (ha : 0 ≤ a ∧ a < r 0) {j : Int} : raR r a j = uR (raR1 r a) (8 : Nat) (nz (raR1 r a 8 + 1)) j := by
  have b := hI.1
  have e8 : raR1 r a 8 = r 8 := by unfold raR1 uA uR; rw [if_neg (by omega), if_neg (by omega), if_neg (by omega)]
  rw [e8]
  unfold raR uR raR1 uA uR
  by_cases h1 : j = 1
  · rw [if_pos h1, if_neg (by omega), if_pos h1]
  · by_cases h8 : j = 8
    · rw [if_neg h1, if_pos h8, if_pos (by omega)]
    · rw [if_neg h1, if_neg h8, if_neg (show ¬ j = ((8 : Nat) : Int) by omega), if_neg h1]
      by_cases hl : j = 12 + r 1
      · rw [if_pos hl, if_pos hl]
      · rw [if_neg hl, if_neg hl]; rfl
theorem t_X2_ratifies {G : Gl} {h9 : Hp} {s T : Nat} {r : Row} {al cl sl : Nat} {m1 m2 m3 : Int32} {n1 n2 E F : Nat → Nat} (hX9 : SWx G T s r al cl sl m1 m2 m3 n1 n2 E F h9) (hI : RI r) (hT : T ≠ 0) {a : Int} (ha : 0 ≤ a ∧ a < r 0) (hr1 : r 1 < 12) : Ct G 4 4 yX2_ratifies (Cond.code yX2_ratifies cX2_ratifies 2 (none)) [.ref s, .ref (E a.toNat)] h9 (jN (fun h' => (SW G T s (raR r a) h' ∧ Fr (pTQ T) h9 h'))) noX := by
  have hF : Fr (pTQ T) h9 h9 := Fr.rf
  have hX := hX9
  have b := hI.1
  have hX2 := hX
  obtain ⟨w1, w2, w3, w4, w5, w6, w7, w8⟩ := hX2
  obtain ⟨ar1, w2s⟩ := w2.size
  have hA5 := w5 a.toNat (by omega)
  rw [show ((a.toNat : Nat) : Int) = a by omega] at hA5
  have e1 : uA r a (4 : Nat) (-1) 1 = r 1 := uR_o (by omega)
  have e2 : uA r a (4 : Nat) (-1) 2 = r 2 := uR_o (by omega)
  refine Ct.of (own := "CharterKiln$State") (nm := "ratifies") (by decide +kernel) rfl rfl (L := [some (.ref s), some (.ref (E a.toNat))]) rfl (Nat.le_of_ble_eq_true rfl) rfl ?_
  refine r_aload_n (pc := 0) dX2_ratifies_0 rfl ?_
  refine r_iconst (pc := 1) dX2_ratifies_1 ?_
  refine pX2_107 (pc := 2) dX2_ratifies_2 hA5 (tnz (by decide)).symm (Nat.le_of_ble_eq_true rfl) ?_
  refine gp_art (a := a) (w := 4) (z' := (-1)) hX hF (by omega) (by omega) (by decide) (rfl) (fun h hX hF hF2 => ?_)
  have hX2 := hX
  obtain ⟨w1, w2, w3, w4, w5, w6, w7, w8⟩ := hX2
  obtain ⟨ar1, w2s⟩ := w2.size
  refine r_aload_n (pc := 5) dX2_ratifies_5 rfl ?_
  refine gX2_21 (pc := 6) dX2_ratifies_6 w1 rfl ?_
  refine r_aload_n (pc := 9) dX2_ratifies_9 rfl ?_
  refine r_callV (pc := 10) (kb' := 0) dX2_ratifies_10 kJ4_addLast q1458 (t_J4_addLast w3 (o := E a.toNat) (tnz (by decide)).symm (by rw [e1]; omega)) w3.2.1 rfl (Nat.le_of_ble_eq_true rfl) (Nat.le_of_ble_eq_true rfl) rfl rfl (Nat.le_of_ble_eq_true rfl) (fun _ _ q => q.elim) (fun _ h hq => ?_)
  refine go_jN hq (fun hq2 => ?_)
  obtain ⟨qn, hqn, hA2, hF3⟩ := hq2
  replace hF := hF.tr (hF3.wk pTQ_t)
  replace hX := hX.addL (r' := raR1 r a) (a := a) (by rw [e1]; omega) hA2 hF3 (by rw [e1]; rfl) (by rw [e1]; unfold raR1; rw [if_neg (by omega), if_pos rfl]) (by rw [e1, e2]; omega) (fun j h1 h2 => by rw [e1] at h2; unfold raR1; rw [if_neg h1, if_neg h2])
  have hX2 := hX
  obtain ⟨w1, w2, w3, w4, w5, w6, w7, w8⟩ := hX2
  obtain ⟨ar1, w2s⟩ := w2.size
  refine r_aload_n (pc := 13) dX2_ratifies_13 rfl ?_
  refine r_dup (pc := 14) dX2_ratifies_14 rfl ?_
  refine gX2_87 (pc := 15) dX2_ratifies_15 w1 rfl ?_
  refine r_iconst (pc := 18) dX2_ratifies_18 ?_
  refine r_iadd (pc := 19) dX2_ratifies_19 ?_
  refine pX2_87 (pc := 20) dX2_ratifies_20 w1 (fun e => hT (congrArg Prod.fst e)) (Nat.le_of_ble_eq_true rfl) ?_
  refine gp_put hX hF hT (by decide) (fun h hX hF hF2 => ?_)
  have hX2 := hX
  obtain ⟨w1, w2, w3, w4, w5, w6, w7, w8⟩ := hX2
  obtain ⟨ar1, w2s⟩ := w2.size
  exact r_vret (pc := 23) dX2_ratifies_23 rfl ⟨rfl, (hX.cg (r' := raR r a) (fun j hj => ra_fin hI ha)).w, hF⟩
theorem sc1_fin {r : Row} (hI : RI r) (h8 : r 2 = 8) {j : Int} : sc1 r j = uR (sg0 r 0) (7 : Nat) (nz (sg0 r 0 7 + 1)) j := by
  rw [show sc1 r = sgR r 0 from if_pos h8]
  show _ = if j = 7 then nz (r 7 + 1) else sg0 r 0 j
  by_cases e : j = 7
  · rw [if_pos e, e]; rfl
  · rw [if_neg e]; unfold sg0; rw [if_neg e]
theorem sc_cell {r : Row} {c : Int} (hI : RI r) : sC (scR r c) (sc1 r 2) = ob 5 [.int (iZ c), .int (iZ (r 3)), .int (iZ 3)] := by
  have b := (RI_sc1 hI).1.1
  have h0 : fS (scR r c) (sc1 r 2) 0 = c := by unfold fS scR; rw [if_neg (by omega), if_pos (by omega)]
  have h1 : fS (scR r c) (sc1 r 2) 1 = 3 := by unfold fS scR; rw [if_neg (by omega), if_neg (by omega), if_pos (by omega)]
  have h2 : fS (scR r c) (sc1 r 2) 2 = r 3 := by
    unfold fS scR
    rw [if_neg (by omega), if_neg (by omega), if_neg (by omega), if_pos (by omega)]
    exact sc1_o hI (by omega) (by omega) (by omega)
  show ob 5 [_, _, _] = _
  rw [h0, h1, h2]
theorem t_X2_comesShard {G : Gl} {h9 : Hp} {s T : Nat} {r : Row} {al cl sl : Nat} {m1 m2 m3 : Int32} {n1 n2 E F : Nat → Nat} (hX9 : SWx G T s r al cl sl m1 m2 m3 n1 n2 E F h9) (hI : RI r) (hT : T ≠ 0) {q : Nat} {c : Int} (hq9 : h9 q = some ((T, 5), ob 5 [.int (iZ c), .int (iZ (r 3)), .int (iZ 3)])) (hne : ∀ i : Nat, i < (r 2).toNat → F i ≠ q) : Ct G 4 4 yX2_comesShard (Cond.code yX2_comesShard cX2_comesShard 2 (none)) [.ref s, .ref q] h9 (jN (fun h' => (∃ m3' n2' F', SWx G T s (scR r c) al cl sl m1 m2 m3' n1 n2' E F' h') ∧ Fr (fun t => t.1 = T) h9 h')) noX := by
  have hF : Fr (pTQ T) h9 h9 := Fr.rf
  have hX := hX9
  have b := hI.1
  have hX2 := hX
  obtain ⟨w1, w2, w3, w4, w5, w6, w7, w8⟩ := hX2
  obtain ⟨ar1, w2s⟩ := w2.size
  have hG : Fr (fun t => t.1 = T) h9 h9 := Fr.rf
  have bs1 := (RI_sc1 hI).2
  have bs2 := (RI_sc1 hI).1.1
  refine Ct.of (own := "CharterKiln$State") (nm := "comesShard") (by decide +kernel) rfl rfl (L := [some (.ref s), some (.ref q)]) rfl (Nat.le_of_ble_eq_true rfl) rfl ?_
  refine r_aload_n (pc := 0) dX2_comesShard_0 rfl ?_
  refine gX2_25 (pc := 1) dX2_comesShard_1 w1 rfl ?_
  refine r_callV (pc := 4) (kb' := 4) dX2_comesShard_4 kJ4_size q1866 (t_J4_size w4) w4.2.1 rfl (Nat.le_refl _) (Nat.le_of_ble_eq_true rfl) rfl rfl (Nat.le_of_ble_eq_true rfl) (fun _ _ q => q.elim) (fun _ _ hq => ?_)
  refine go_jE hq ?_
  refine go_cz (w := r 2) (by omega) ?_
  refine r_bipush (pc := 7) dX2_comesShard_7 (by decide) ?_
  refine r_icmp_ne (pc := 9) (tgt := 30) dX2_comesShard_9 (by decide) (by omega) (by omega) (fun c9 => ?_) (fun c9 => ?_)
  · have e9 : sc1 r = r := if_neg (by omega)
    have hne2 : ∀ i : Nat, i < (sc1 r 2).toNat → F i ≠ q := by rw [e9]; exact hne
    rw [← e9] at hX
    have hX2 := hX
    obtain ⟨w1, w2, w3, w4, w5, w6, w7, w8⟩ := hX2
    obtain ⟨ar1, w2s⟩ := w2.size
    refine r_aload_n (pc := 30) dX2_comesShard_30 rfl ?_
    refine gX2_25 (pc := 31) dX2_comesShard_31 w1 rfl ?_
    refine r_aload_n (pc := 34) dX2_comesShard_34 rfl ?_
    refine r_callV (pc := 35) (kb' := 0) dX2_comesShard_35 kJ4_addLast q1458 (t_J4_addLast w4 (o := q) (tnz (by decide)).symm (by omega)) w4.2.1 rfl (Nat.le_of_ble_eq_true rfl) (Nat.le_of_ble_eq_true rfl) rfl rfl (Nat.le_of_ble_eq_true rfl) (fun _ _ q => q.elim) (fun _ h hq => ?_)
    refine go_jN hq (fun hq2 => ?_)
    obtain ⟨qn, hqn, hA2, hF3⟩ := hq2
    replace hG := hG.tr (hF3.wk (by rintro _ rfl; rfl))
    replace hX := hX.addS (r' := scR r c) (by omega) hA2 hF3 (by rw [sc_cell hI]; exact hq9) hne2 sc_2 (by omega) (fun j h1 h2 => by unfold scR; rw [if_neg h1, if_neg (by omega), if_neg (by omega), if_neg (by omega)])
    exact r_vret (pc := 38) dX2_comesShard_38 rfl ⟨rfl, ⟨_, _, _, hX⟩, hG⟩
  · refine r_aload_n (pc := 12) dX2_comesShard_12 rfl ?_
    refine gX2_25 (pc := 13) dX2_comesShard_13 w1 rfl ?_
    refine r_callV (pc := 16) (kb' := 4) dX2_comesShard_16 kJ4_removeFirst q1867 (t_J4_removeFirst w4 (by omega) (tnz (by decide)).symm) w4.2.1 rfl (Nat.le_refl _) (Nat.le_of_ble_eq_true rfl) rfl rfl (Nat.le_of_ble_eq_true rfl) (fun _ _ q => q.elim) (fun _ h hq => ?_)
    refine go_jP hq (fun hq2 => ?_)
    obtain ⟨hA2, hF3⟩ := hq2
    replace hF := hF.tr (hF3.wk pTQ_t)
    replace hG := hG.tr (hF3.wk (by rintro _ rfl; rfl))
    replace hq9 := hF3.get hq9 (tne (by decide))
    replace hX := hX.remS (t := 0) (by omega) (by omega) hA2 (hF3.wk (fun _ q => Or.inl q))
    have hX2 := hX
    obtain ⟨w1, w2, w3, w4, w5, w6, w7, w8⟩ := hX2
    obtain ⟨ar1, w2s⟩ := w2.size
    refine r_pop (pc := 19) dX2_comesShard_19 rfl ?_
    refine r_aload_n (pc := 20) dX2_comesShard_20 rfl ?_
    refine r_dup (pc := 21) dX2_comesShard_21 rfl ?_
    refine gX2_84 (pc := 22) dX2_comesShard_22 w1 rfl ?_
    refine r_iconst (pc := 25) dX2_comesShard_25 ?_
    refine r_iadd (pc := 26) dX2_comesShard_26 ?_
    refine pX2_84 (pc := 27) dX2_comesShard_27 w1 (fun e => hT (congrArg Prod.fst e)) (Nat.le_of_ble_eq_true rfl) ?_
    refine gp_put (k := 7) hX (h9 := h9) hF hT (by decide) (fun h hX hF hF2 => ?_)
    replace hG := hG.tr (hF2.wk (by rintro _ rfl; rfl))
    replace hq9 := hF2.get hq9 (tne (by decide))
    have hX2 := hX
    obtain ⟨w1, w2, w3, w4, w5, w6, w7, w8⟩ := hX2
    obtain ⟨ar1, w2s⟩ := w2.size
    have hne2 : ∀ i : Nat, i < (sc1 r 2).toNat → rmF1 F (0 : Int).toNat i ≠ q := fun i hi => by
      have e2 : sc1 r 2 = r 2 - 1 := by rw [show sc1 r = sgR r 0 from if_pos (by omega)]; exact sg_2
      rw [rm_ge (by show 0 ≤ i; omega)]
      exact hne (i + 1) (by omega)
    replace hX := hX.cg (r' := sc1 r) (fun j hj => sc1_fin hI (by omega))
    have hX2 := hX
    obtain ⟨w1, w2, w3, w4, w5, w6, w7, w8⟩ := hX2
    obtain ⟨ar1, w2s⟩ := w2.size
    refine r_aload_n (pc := 30) dX2_comesShard_30 rfl ?_
    refine gX2_25 (pc := 31) dX2_comesShard_31 w1 rfl ?_
    refine r_aload_n (pc := 34) dX2_comesShard_34 rfl ?_
    refine r_callV (pc := 35) (kb' := 0) dX2_comesShard_35 kJ4_addLast q1458 (t_J4_addLast w4 (o := q) (tnz (by decide)).symm (by omega)) w4.2.1 rfl (Nat.le_of_ble_eq_true rfl) (Nat.le_of_ble_eq_true rfl) rfl rfl (Nat.le_of_ble_eq_true rfl) (fun _ _ q => q.elim) (fun _ h hq => ?_)
    refine go_jN hq (fun hq2 => ?_)
    obtain ⟨qn, hqn, hA2, hF3⟩ := hq2
    replace hG := hG.tr (hF3.wk (by rintro _ rfl; rfl))
    replace hX := hX.addS (r' := scR r c) (by omega) hA2 hF3 (by rw [sc_cell hI]; exact hq9) hne2 sc_2 (by omega) (fun j h1 h2 => by unfold scR; rw [if_neg h1, if_neg (by omega), if_neg (by omega), if_neg (by omega)])
    exact r_vret (pc := 38) dX2_comesShard_38 rfl ⟨rfl, ⟨_, _, _, hX⟩, hG⟩
