set_option maxRecDepth 100000
theorem f2 : Cond.selects "java/util/ArrayList$Itr" ⟨"java/util/Iterator", "remove", "()V"⟩ yJ26_remove ∈ lw_all ∧ Cond.instanceMethod yJ26_remove ∈ lw_all ∧ Cond.initialized yJ26_remove.cls ∈ lw_all ∧ Cond.codeWith yJ26_remove cJ26_remove 2 (none) [(19, 55, 58, 51)] ∈ lw_all ∧ hdOk ⟨"java/util/Iterator", "remove", "()V"⟩ 0 ∧ 2 ≤ 21 := ⟨q1831, q1833, q137, q1835, ⟨by decide, by decide, by decide +kernel⟩, by decide⟩
/-! the class, part 14: a session -/
theorem sc1_cg {f g : Row} (h : ∀ i, i = 2 ∨ i = 3 ∨ i = 7 ∨ (26 ≤ i ∧ i < 56) → f i = g i) {j : Int} (hj : j = 2 ∨ j = 3 ∨ j = 7 ∨ (26 ≤ j ∧ j < 50)) : sc1 f j = sc1 g j := by
  unfold sc1
  rw [h 2 (by omega)]
  by_cases h8 : g 2 = 8
  · rw [if_pos h8, if_pos h8]
    unfold sgR
    rw [h 2 (by omega), h 7 (by omega), h j (by omega)]
    (repeat' split) <;> first | rfl | exact h _ (by omega)
  · rw [if_neg h8, if_neg h8]; exact h j (by omega)
theorem sc_go {r : Row} {a c j : Int} (hI : RI r) (ha : 0 ≤ a ∧ a < r 0) (hG : RI (goR r a)) : goR (scR r c) a j = scR (goR r a) c j := by
  have b := hI.1
  have o1 : ∀ i, (i < 26 ∨ 50 ≤ i) → i ≠ 2 → i ≠ 7 → scR r c i = r i := fun i hi h2 h7 => sc_o hI hi h2 h7
  have o2 : ∀ i, (i < 26 ∨ 50 ≤ i) → i ≠ 2 → i ≠ 7 → scR (goR r a) c i = goR r a i := fun i hi h2 h7 => sc_o hG hi h2 h7
  have g : ∀ (f : Row) (i : Int), f 0 = r 0 → f 1 = r 1 → i ≠ 0 → (i < 12 ∨ (24 ≤ i ∧ i < 56)) → goR f a i = f i := fun f i f0 f1 i0 hi => by
    unfold goR
    rw [f0, f1, if_neg i0, if_neg (by omega), if_neg (by omega), if_neg (by omega)]
  by_cases hj : j = 2 ∨ j = 7 ∨ (26 ≤ j ∧ j < 50)
  · rw [g (scR r c) j (o1 0 (by omega) (by omega) (by omega)) (o1 1 (by omega) (by omega) (by omega)) (by omega) (by omega)]
    have hc : ∀ i, i = 2 ∨ i = 3 ∨ i = 7 ∨ (26 ≤ i ∧ i < 56) → r i = goR r a i := fun i hi => (g r i rfl rfl (by omega) (by omega)).symm
    unfold scR
    rw [sc1_cg hc (j := 2) (by omega), sc1_cg hc (j := 3) (by omega), sc1_cg hc (j := j) (by omega)]
  · rw [o2 j (by omega) (by omega) (by omega)]
    unfold goR
    rw [o1 0 (by omega) (by omega) (by omega), o1 1 (by omega) (by omega) (by omega), o1 j (by omega) (by omega) (by omega)]
    by_cases h6 : 50 ≤ j
    · rw [o1 (j + 6) (by omega) (by omega) (by omega)]
    · by_cases h0 : j = 0
      · rw [if_pos h0, if_pos h0]
      · rw [if_neg h0, if_neg h0]
        (repeat' split) <;> first | rfl | omega
/-- in a session, but that it is counted -/
def in0 (r : Row) (a x : Int) : Row := fun j => if j = 56 + 6 * a + 1 then (if firP r a x ∧ 0 < fA r a 1 then fA r a 1 - 1 else fA r a 1) else if j = 56 + 6 * a + 2 then fA r a 2 + crZ r a x else if j = 56 + 6 * a + 3 then (if firP r a x then 1 else fA r a 3) else r j
theorem in0_C {r : Row} {a x : Int} : aC (in0 r a x) a = iC r a x := by
  have e0 : fA (in0 r a x) a 0 = fA r a 0 := by unfold fA in0; rw [if_neg (by omega), if_neg (by omega), if_neg (by omega)]
  have e1 : fA (in0 r a x) a 1 = if firP r a x ∧ 0 < fA r a 1 then fA r a 1 - 1 else fA r a 1 := if_pos rfl
  have e2 : fA (in0 r a x) a 2 = fA r a 2 + crZ r a x := by show in0 r a x (56 + 6 * a + 2) = _; unfold in0; rw [if_neg (by omega), if_pos rfl]
  have e3 : fA (in0 r a x) a 3 = if firP r a x then 1 else fA r a 3 := by show in0 r a x (56 + 6 * a + 3) = _; unfold in0; rw [if_neg (by omega), if_neg (by omega), if_pos rfl]
  have e4 : fA (in0 r a x) a 4 = fA r a 4 := by show in0 r a x (56 + 6 * a + 4) = r (56 + 6 * a + 4); unfold in0; rw [if_neg (by omega), if_neg (by omega), if_neg (by omega)]
  have e5 : fA (in0 r a x) a 5 = fA r a 5 := by show in0 r a x (56 + 6 * a + 5) = r (56 + 6 * a + 5); unfold in0; rw [if_neg (by omega), if_neg (by omega), if_neg (by omega)]
  show ob 4 [_, _, _, _, _, _] = _
  rw [e0, e1, e2, e3, e4, e5]
theorem in0_o {r : Row} {a x j : Int} (h : j < 56 + 6 * a ∨ 56 + 6 * a + 6 ≤ j) : in0 r a x j = r j := by unfold in0; rw [if_neg (by omega), if_neg (by omega), if_neg (by omega)]
theorem in0_5 {r : Row} {a x : Int} : fA (in0 r a x) a 5 = fA r a 5 := by show in0 r a x (56 + 6 * a + 5) = r (56 + 6 * a + 5); unfold in0; rw [if_neg (by omega), if_neg (by omega), if_neg (by omega)]
theorem in0_R {r : Row} {a x j : Int} : inR r a x j = uA (in0 r a x) a (5 : Nat) (nz (fA (in0 r a x) a 5 + 1)) j := by
  rw [in0_5]
  unfold uA uR
  by_cases h : j = 56 + 6 * a + 5
  · rw [if_pos (by omega)]; unfold inR; rw [if_neg (by omega), if_neg (by omega), if_neg (by omega), if_pos h]
  · rw [if_neg (by omega)]
    unfold inR in0
    rw [if_neg (show ¬ j = 56 + 6 * a + 5 from h)]
theorem fi_fin {r ρ : Row} {x n : Int} (hb : buZ x (r 0).toNat r 0 0 = (ρ, n)) {j : Int} : fiR r x j = uR (uR ρ (3 : Nat) (nz (ρ 3 + 1))) (4 : Nat) (nz (uR ρ (3 : Nat) (nz (ρ 3 + 1)) 4 + n)) j := by
  unfold fiR
  rw [hb, uR_o (r := ρ) (j := 4) (by decide)]
  show (if j = 3 then nz (ρ 3 + 1) else if j = 4 then nz (ρ 4 + n) else ρ j) = _
  unfold uR
  by_cases h3 : j = 3
  · rw [if_pos h3, if_neg (by omega), if_pos (by omega)]
  · by_cases h4 : j = 4
    · rw [if_neg h3, if_pos h4, if_pos (by omega)]
    · rw [if_neg h3, if_neg h4, if_neg (by omega), if_neg (by omega)]

theorem SWx.upq {G : Gl} {T s : Nat} {r : Row} {al cl sl : Nat} {m1 m2 m3 : Int32} {n1 n2 E F : Nat → Nat} {h : Hp} (hX : SWx G T s r al cl sl m1 m2 m3 n1 n2 E F h) {q : Nat} {o o' : Cl} (hq : h q = some ((T, 5), o)) (hne : ∀ i : Nat, i < (r 2).toNat → F i ≠ q) : SWx G T s r al cl sl m1 m2 m3 n1 n2 E F (up h q ((T, 5), o')) := by
  obtain ⟨w1, w2, w3, w4, w5, w6, w7, w8⟩ := hX
  have hf : Fr (fun x => x = (T, 5)) h (up h q ((T, 5), o')) := Fr.upd hq rfl
  exact ⟨hf.get w1 (tne (by decide)), w2.fr hf (tne (by decide)) (tnz (by decide)), w3.fr hf (tne (by decide)), w4.fr hf (tne (by decide)), fun i hi => hf.get (w5 i hi) (tne (by decide)), fun i hi => (up_n (hne i hi)).trans (w6 i hi), w7, w8⟩
theorem t_X2_fires {G : Gl} {h9 : Hp} {s T : Nat} {r : Row} {al cl sl : Nat} {m1 m2 m3 : Int32} {n1 n2 E F : Nat → Nat} (hX9 : SWx G T s r al cl sl m1 m2 m3 n1 n2 E F h9) (hI : RI r) (hT : T ≠ 0) (hT3 : 3 ≠ T) {x : Int} (hx : 10 ≤ x ∧ x ≤ 99) : Ct G 6 101 yX2_fires (Cond.code yX2_fires cX2_fires 5 (some .int)) [.ref s, .int (iZ x)] h9 (jP (.int (iZ (buZ x (r 0).toNat r 0 0).2)) (fun h' => (SW G T s (fiR r x) h' ∧ Fr (pTQ T) h9 h'))) noX := by
  have hF : Fr (pTQ T) h9 h9 := Fr.rf
  have hX := hX9
  have b := hI.1
  have hX2 := hX
  obtain ⟨w1, w2, w3, w4, w5, w6, w7, w8⟩ := hX2
  obtain ⟨ar1, w2s⟩ := w2.size
  refine Ct.of (own := "CharterKiln$State") (nm := "fires") (by decide +kernel) rfl rfl (L := [some (.ref s), some (.int (iZ x)), none, none, none]) rfl (Nat.le_of_ble_eq_true rfl) rfl ?_
  refine r_iconst (pc := 0) dX2_fires_0 ?_
  refine r_istore_n (pc := 1) (L' := [_, _, _, _, _]) dX2_fires_1 rfl ?_
  refine r_aload_n (pc := 2) dX2_fires_2 rfl ?_
  refine gX2_12 (pc := 3) dX2_fires_3 w1 rfl ?_
  refine r_callV (pc := 6) (kb' := 96) dX2_fires_6 kJ2_iterator q1382 (t_J2_iterator (3, 11) (by decide) w2) w2s rfl (Nat.le_of_ble_eq_true rfl) (Nat.le_of_ble_eq_true rfl) rfl rfl (Nat.le_of_ble_eq_true rfl) (fun _ _ q => q.elim) (fun _ h hq => ?_)
  refine go_jX hq (fun it hx2 => ?_)
  obtain ⟨hxn, e9⟩ := hx2
  subst e9
  replace hF := hF.tr (Fr.nw (x := ((3, 11), ob 9 [.int (iZ 0), .int (iZ (-1)), .int m1, .ref al])) hxn)
  replace hX := hX.fr (P := pN) (Fr.nw (x := ((3, 11), ob 9 [.int (iZ 0), .int (iZ (-1)), .int m1, .ref al])) hxn) (fun _ _ q => q) (fun q => q)
  have hit2 := up_s (h := h9) (a := it) (x := ((3, 11), ob 9 [.int (iZ 0), .int (iZ (-1)), .int m1, .ref al]))
  generalize up h9 it ((3, 11), ob 9 [.int (iZ 0), .int (iZ (-1)), .int m1, .ref al]) = h at hF hX hit2 ⊢
  have hX2 := hX
  obtain ⟨w1, w2, w3, w4, w5, w6, w7, w8⟩ := hX2
  obtain ⟨ar1, w2s⟩ := w2.size
  refine r_astore_n (pc := 9) (L' := [_, _, _, _, _]) dX2_fires_9 rfl ?_
  have loop10 : ∀ (k10 : Nat) (k : Nat) (l : Int) (n : Int) (ρ : Row) (m1 m3 : Int32) (n2 E F : Nat → Nat) (h : Hp), (k ≤ (ρ 0).toNat) → (Fr (pTQ T) h9 h) → (SWx G T s (ρ) al cl sl m1 m2 m3 n1 n2 E F h) → (h it = some ((3, 11), ob 9 [.int (iZ k), .int (iZ l), .int m1, .ref al])) → (RI ρ) → (buZ x (r 0).toNat r 0 0 = buZ x (ρ 0 - k).toNat ρ k n) → (ρ 0).toNat - k < k10 → Go G "CharterKiln$State" cX2_fires (5, some .int, "fires", []) 6 101 (jP (.int (iZ (buZ x (r 0).toNat r 0 0).2)) (fun h' => (SW G T s (fiR r x) h' ∧ Fr (pTQ T) h9 h'))) (noX) (8 * ((ρ 0).toNat - k)) h 10 [some (.ref s), some (.int (iZ x)), some (.int (iZ n)), some (.ref it), none] [] := by
    intro k10
    induction k10 with
    | zero => intro k l n ρ m1 m3 n2 E F h hk hF hX hit2 hIr hb hk; omega
    | succ k10 ih10 =>
      intro k l n ρ m1 m3 n2 E F h hk hF hX hit2 hIr hb hk10
      have hX2 := hX
      obtain ⟨w1, w2, w3, w4, w5, w6, w7, w8⟩ := hX2
      obtain ⟨ar1, w2s⟩ := w2.size
      have br := hIr.1
      refine r_aload_n (pc := 10) dX2_fires_10 rfl ?_
      refine r_callF (pc := 11) (kb' := 8 * ((ρ 0).toNat - k)) dX2_fires_11 0 rfl f0 q1384 (t_J26_hasNext hit2 w2 (by omega)) hit2 rfl (Nat.le_refl _) (Nat.le_of_ble_eq_true rfl) rfl rfl (Nat.le_of_ble_eq_true rfl) (fun _ _ q => q.elim) (fun _ _ hq => ?_)
      refine go_jE hq ?_
      refine r_ifB_eq (pc := 16) (tgt := 99) dX2_fires_16 (by decide) (fun c16 => ?_) (fun c16 => ?_)
      · have hfin : buZ x (r 0).toNat r 0 0 = (ρ, n) := hb.trans (by rw [show (ρ 0 - (k : Int)).toNat = 0 by omega]; rfl)
        refine r_aload_n (pc := 99) dX2_fires_99 rfl ?_
        refine r_dup (pc := 100) dX2_fires_100 rfl ?_
        refine gX2_71 (pc := 101) dX2_fires_101 w1 rfl ?_
        refine r_iconst (pc := 104) dX2_fires_104 ?_
        refine r_iadd (pc := 105) dX2_fires_105 ?_
        refine pX2_71 (pc := 106) dX2_fires_106 w1 (fun e => hT (congrArg Prod.fst e)) (Nat.le_of_ble_eq_true rfl) ?_
        refine gp_put (k := 3) hX (h9 := h9) hF hT (by decide) (fun h hX hF hF2 => ?_)
        have hX2 := hX
        obtain ⟨w1, w2, w3, w4, w5, w6, w7, w8⟩ := hX2
        obtain ⟨ar1, w2s⟩ := w2.size
        refine r_aload_n (pc := 109) dX2_fires_109 rfl ?_
        refine r_dup (pc := 110) dX2_fires_110 rfl ?_
        refine gX2_75 (pc := 111) dX2_fires_111 w1 rfl ?_
        refine r_iload_n (pc := 114) dX2_fires_114 rfl ?_
        refine r_iadd (pc := 115) dX2_fires_115 ?_
        refine pX2_75 (pc := 116) dX2_fires_116 w1 (fun e => hT (congrArg Prod.fst e)) (Nat.le_of_ble_eq_true rfl) ?_
        refine gp_put (k := 4) hX (h9 := h9) hF hT (by decide) (fun h hX hF hF2 => ?_)
        refine r_iload_n (pc := 119) dX2_fires_119 rfl ?_
        exact r_iret (pc := 120) dX2_fires_120 rfl rfl ⟨by rw [hfin], (hX.cg (r' := fiR r x) (fun j hj => fi_fin hfin)).w, hF⟩
      · refine r_aload_n (pc := 19) dX2_fires_19 rfl ?_
        refine r_callF (pc := 20) (kb' := 8 * ((ρ 0).toNat - k)) dX2_fires_20 1 rfl f1 q1386 (t_J26_next hit2 w2 (by omega) (by decide)) hit2 rfl (Nat.le_refl _) (Nat.le_of_ble_eq_true rfl) rfl rfl (Nat.le_of_ble_eq_true rfl) (fun _ _ q => q.elim) (fun _ h hq => ?_)
        refine go_jP hq (fun e9 => ?_)
        subst e9
        replace hF := hF.tr (Fr.upd (o' := ob 9 [.int (iZ (k + 1)), .int (iZ k), .int m1, .ref al]) hit2 (Or.inr ⟨rfl, by decide⟩))
        replace hX := hX.fr (P := fun t => t = (3, 11)) (Fr.upd (o' := ob 9 [.int (iZ (k + 1)), .int (iZ k), .int m1, .ref al]) hit2 rfl) (fun k hk q => absurd (congrArg Prod.snd q) (by show ¬ k = 11; omega)) (by decide)
        replace hit2 := up_s (h := h) (a := it) (x := ((3, 11), ob 9 [.int (iZ (k + 1)), .int (iZ k), .int m1, .ref al]))
        generalize up h it ((3, 11), ob 9 [.int (iZ (k + 1)), .int (iZ k), .int m1, .ref al]) = h at hF hX hit2 ⊢
        have hX2 := hX
        obtain ⟨w1, w2, w3, w4, w5, w6, w7, w8⟩ := hX2
        obtain ⟨ar1, w2s⟩ := w2.size
        have hA5 := w5 k (by omega)
        have ho := hIr.2.1 ((k : Nat) : Int) (by omega) (by omega)
        have ho2 := ho
        unfold artOk at ho2
        refine r_cast (pc := 25) dX2_fires_25 q1387 hA5 rfl ?_
        refine r_astore (pc := 28) (L' := [_, _, _, _, _]) dX2_fires_28 rfl ?_
        refine r_aload (pc := 30) dX2_fires_30 rfl ?_
        refine r_iload_n (pc := 32) dX2_fires_32 rfl ?_
        refine r_callV (pc := 33) (kb' := 8 * ((ρ 0).toNat - k)) dX2_fires_33 kX5_burstsBy q1778 (t_X5_burstsBy hA5 ho hx) hA5 rfl (Nat.le_refl _) (Nat.le_of_ble_eq_true rfl) rfl rfl (Nat.le_of_ble_eq_true rfl) (fun _ _ q => q.elim) (fun _ _ hq => ?_)
        refine go_jE hq ?_
        refine r_ifB_eq (pc := 36) (tgt := 71) dX2_fires_36 (by decide) (fun c36 => ?_) (fun c36 => ?_)
        · refine r_aload (pc := 71) dX2_fires_71 rfl ?_
          refine r_callV (pc := 73) (kb' := 8 * ((ρ 0).toNat - k)) dX2_fires_73 kX5_isLaw q1877 (t_X5_isLaw hA5 (by omega)) hA5 rfl (Nat.le_refl _) (Nat.le_of_ble_eq_true rfl) rfl rfl (Nat.le_of_ble_eq_true rfl) (fun _ _ q => q.elim) (fun _ _ hq => ?_)
          refine go_jE hq ?_
          refine r_ifB_ne (pc := 76) (tgt := 96) dX2_fires_76 (by decide) (fun c76 => ?_) (fun c76 => ?_)
          · refine r_goto (pc := 96) (tgt := 10) dX2_fires_96 (by decide) ?_
            refine goL (L' := [some (.ref s), some (.int (iZ x)), some (.int (iZ n)), some (.ref it), none]) ⟨rfl, rfl, rfl, rfl, trivial⟩ ?_
            refine go_kb (kb' := 8 * ((ρ 0).toNat - (k + 1))) (by omega) ?_
            exact ih10 (k + 1) k n _ _ _ _ _ _ h (by omega) hF hX hit2 hIr (hb.trans (buZ_1 (by omega) (by first | assumption | exact Classical.not_not.mp (by assumption)))) (by omega)
          · refine r_aload (pc := 79) dX2_fires_79 rfl ?_
            refine r_iload_n (pc := 81) dX2_fires_81 rfl ?_
            refine r_callV (pc := 82) (kb' := 8 * ((ρ 0).toNat - k)) dX2_fires_82 kX5_isIn q1878 (t_X5_isIn hA5 ho hx (tnz (by decide)).symm) hA5 rfl (Nat.le_refl _) (Nat.le_of_ble_eq_true rfl) rfl rfl (Nat.le_of_ble_eq_true rfl) (fun _ _ q => q.elim) (fun _ h hq => ?_)
            refine go_jN hq (fun e9 => ?_)
            have hnl : ¬ fA ρ k 4 < 0 := by assumption
            have hnb : ¬ burP ρ k x := by assumption
            subst e9
            replace hF := hF.tr (Fr.upd (o' := iC ρ k x) hA5 (Or.inl rfl))
            replace hit2 := (Fr.upd (P := fun t => t = (T, 4)) (o' := iC ρ k x) hA5 rfl).get hit2 (fun q => absurd (congrArg Prod.snd q) (by show ¬ (11 : Nat) = 4; decide))
            replace hX := hX.art (a := (k : Int)) (r' := in0 ρ k x) (h' := up h (E k) ((T, 4), iC ρ k x)) (by omega) (by omega) (by rw [in0_C]; rfl) (fun j hj => in0_o hj)
            generalize up h (E k) ((T, 4), iC ρ k x) = h at hF hX hit2 ⊢
            have i0 : in0 ρ k x 0 = ρ 0 := in0_o (by omega)
            have i1 : in0 ρ k x 1 = ρ 1 := in0_o (by omega)
            have i2 : in0 ρ k x 2 = ρ 2 := in0_o (by omega)
            have hX2 := hX
            obtain ⟨w1, w2, w3, w4, w5, w6, w7, w8⟩ := hX2
            obtain ⟨ar1, w2s⟩ := w2.size
            have hA5 := w5 k (by rw [i0]; omega)
            refine r_aload (pc := 85) dX2_fires_85 rfl ?_
            refine r_dup (pc := 87) dX2_fires_87 rfl ?_
            refine gX2_154 (pc := 88) dX2_fires_88 hA5 rfl ?_
            refine r_iconst (pc := 91) dX2_fires_91 ?_
            refine r_iadd (pc := 92) dX2_fires_92 ?_
            refine pX2_154 (pc := 93) dX2_fires_93 hA5 (tnz (by decide)).symm (Nat.le_of_ble_eq_true rfl) ?_
            refine gp_art (a := (k : Int)) (w := 5) (z' := nz (fA (in0 ρ k x) k 5 + 1)) hX hF (by rw [i0]; omega) (by rw [i0, i1, i2]; omega) (by decide) (iZ_nz _) (fun h hX hF hF2 => ?_)
            replace hit2 := hF2.get hit2 (fun q => absurd (congrArg Prod.snd q) (by show ¬ (11 : Nat) = 4; decide))
            replace hX := hX.cg (r' := inR ρ k x) (fun j hj => in0_R)
            have hI2 := RI_in hIr (a := (k : Int)) (by omega) (by omega) (by omega) hnb hx
            have z0 : inR ρ k x 0 = ρ 0 := in_0 (by omega)
            refine r_goto (pc := 96) (tgt := 10) dX2_fires_96 (by decide) ?_
            refine goL (L' := [some (.ref s), some (.int (iZ x)), some (.int (iZ n)), some (.ref it), none]) ⟨rfl, rfl, rfl, rfl, trivial⟩ ?_
            refine go_kb (kb' := 8 * ((inR ρ k x 0).toNat - (k + 1))) (by rw [z0]; omega) ?_
            exact ih10 (k + 1) k n _ _ _ _ _ _ h (by rw [z0]; omega) hF hX hit2 hI2 (hb.trans (buZ_3 (by omega) (by omega) hnl hnb)) (by omega)
        · refine r_aload_n (pc := 39) dX2_fires_39 rfl ?_
          refine r_callFH (pc := 40) (kb' := 8 * ((ρ 0).toNat - k)) dX2_fires_40 2 rfl f2 q1784 (t_J26_remove (c := k + 1) (l := k) hit2 w2 (by omega) (by decide) (tnz (by decide)).symm (fun q => absurd (congrArg Prod.snd q) (by show ¬ (11 : Nat) = 1; decide)) (fun i hi => ⟨_, _, _, w5 i hi⟩)) hit2 rfl (Nat.le_refl _) (Nat.le_of_ble_eq_true rfl) rfl rfl (Nat.le_of_ble_eq_true rfl) (fun _ _ q => q.elim) (fun _ h hq => ?_)
          refine go_jN hq (fun hq2 => ?_)
          obtain ⟨hA2, hit3, hF3⟩ := hq2
          have hnl : ¬ fA ρ k 4 < 0 := fun q => by
            have e : crZ ρ k x = 0 := if_pos q
            have := ho2
            omega
          have hbu : burP ρ k x := by first | assumption | exact Classical.not_not.mp (by assumption)
          have hrl : ∀ j, 0 ≤ j → j < ρ 1 → (0 ≤ ρ (12 + j) ∧ ρ (12 + j) < ρ 0) ∧ ρ (12 + j) ≠ (k : Int) := fun j j0 j1 => by
            have q := hIr.2.2.2.1 j j0 j1
            exact ⟨⟨q.1, q.2.1⟩, fun e => by rw [e] at q; omega⟩
          replace hF := hF.tr (hF3.wk (by rintro _ (rfl | rfl); exact Or.inl rfl; exact Or.inr ⟨rfl, by decide⟩))
          replace hA5 := hF3.get hA5 (fun q => by rcases q with q | q; exact absurd (congrArg Prod.snd q) (by show ¬ (4 : Nat) = 1; decide); exact absurd (congrArg Prod.snd q) (by show ¬ (4 : Nat) = 11; decide))
          replace hX := hX.remA (a := (k : Int)) (by omega) (by omega) hA2 (hF3.wk (by rintro _ (rfl | rfl); exact Or.inl rfl; exact Or.inr (by decide))) hrl
          have hG := RI_go hIr (a := (k : Int)) (by omega) (by omega) (by omega)
          have g0 : goR ρ k 0 = ρ 0 - 1 := go_0
          replace hit2 := hit3
          have hX2 := hX
          obtain ⟨w1, w2, w3, w4, w5, w6, w7, w8⟩ := hX2
          obtain ⟨ar1, w2s⟩ := w2.size
          refine r_aload_n (pc := 45) dX2_fires_45 rfl ?_
          refine r_new (pc := 46) (ci := 5) (T := TX6) (N := 3) ((T, 5)) [.int 0, .int 0, .int 0] (kb' := 8 * ((ρ 0).toNat - k) - 4) dX2_fires_46 rfl q1487 q1493 q146 (by intro j hj; revert j; decide +kernel) (by omega) (fun qq hqq zqq => ?_)
          have hqe : ∀ i : Nat, i < (goR ρ k 2).toNat → F i ≠ qq := fun i hi => ne_nw (w6 i hi) hqq
          replace hF := hF.tr (Fr.nw (x := ((T, 5), ob 5 [.int 0, .int 0, .int 0])) hqq)
          replace hX := hX.fr (P := pN) (Fr.nw (x := ((T, 5), ob 5 [.int 0, .int 0, .int 0])) hqq) (fun _ _ q => q) (fun q => q)
          replace hit2 := (Fr.nw (P := pN) (x := ((T, 5), ob 5 [.int 0, .int 0, .int 0])) hqq).get hit2 (fun q => q)
          replace hA5 := (Fr.nw (P := pN) (x := ((T, 5), ob 5 [.int 0, .int 0, .int 0])) hqq).get hA5 (fun q => q)
          have hq5 := up_s (h := h) (a := qq) (x := ((T, 5), ob 5 [.int 0, .int 0, .int 0]))
          generalize up h qq ((T, 5), ob 5 [.int 0, .int 0, .int 0]) = h at hF hX hit2 hA5 hq5 ⊢
          have hX2 := hX
          obtain ⟨w1, w2, w3, w4, w5, w6, w7, w8⟩ := hX2
          obtain ⟨ar1, w2s⟩ := w2.size
          refine r_dup (pc := 49) dX2_fires_49 rfl ?_
          refine r_aload (pc := 50) dX2_fires_50 rfl ?_
          refine gX2_138 (pc := 52) dX2_fires_52 hA5 rfl ?_
          refine r_aload_n (pc := 55) dX2_fires_55 rfl ?_
          refine gX2_71 (pc := 56) dX2_fires_56 w1 rfl ?_
          refine r_callI (pc := 59) (kb' := 8 * ((ρ 0).toNat - k) - 4) dX2_fires_59 kX6_init q1861 (t_X6_init hq5 (tnz (by decide)).symm) (Nat.le_refl _) (Nat.le_of_ble_eq_true rfl) rfl rfl (Nat.le_of_ble_eq_true rfl) (fun _ _ q => q.elim) (fun _ h hq => ?_)
          refine go_jN hq (fun e9 => ?_)
          subst e9
          replace hF := hF.tr (Fr.upd (o' := ob 5 [.int (iZ (fA ρ k 0)), .int (iZ (goR ρ k 3)), .int (iZ 3)]) hq5 (Or.inl rfl))
          replace hit2 := (Fr.upd (o' := ob 5 [.int (iZ (fA ρ k 0)), .int (iZ (goR ρ k 3)), .int (iZ 3)]) hq5 (P := fun t => t = (T, 5)) rfl).get hit2 (fun q => absurd (congrArg Prod.snd q) (by show ¬ (11 : Nat) = 5; decide))
          replace hX := hX.upq hq5 (o' := ob 5 [.int (iZ (fA ρ k 0)), .int (iZ (goR ρ k 3)), .int (iZ 3)]) hqe
          replace hq5 := up_s (h := h) (a := qq) (x := ((T, 5), ob 5 [.int (iZ (fA ρ k 0)), .int (iZ (goR ρ k 3)), .int (iZ 3)]))
          generalize up h qq ((T, 5), ob 5 [.int (iZ (fA ρ k 0)), .int (iZ (goR ρ k 3)), .int (iZ 3)]) = h at hF hX hit2 hq5 ⊢
          have hX2 := hX
          obtain ⟨w1, w2, w3, w4, w5, w6, w7, w8⟩ := hX2
          obtain ⟨ar1, w2s⟩ := w2.size
          refine r_callV (pc := 62) (kb' := 8 * ((ρ 0).toNat - k) - 4 - 4) dX2_fires_62 kX2_comesShard q1862 (t_X2_comesShard hX hG hT hq5 hqe) w1 rfl (by omega) (Nat.le_of_ble_eq_true rfl) rfl rfl (Nat.le_of_ble_eq_true rfl) (fun _ _ q => q.elim) (fun _ h hq => ?_)
          refine go_jN hq (fun hq2 => ?_)
          obtain ⟨⟨m3', n2', F', hX⟩, hF3⟩ := hq2
          replace hF := hF.tr (hF3.wk (fun _ q => Or.inl q))
          replace hit2 := hF3.get hit2 hT3
          replace hX := hX.cg (r' := goR (scR ρ (fA ρ k 0)) k) (fun j hj => sc_go hIr (by omega) hG)
          have z0 : goR (scR ρ (fA ρ k 0)) k 0 = ρ 0 - 1 := by rw [go_0, sc_0 hIr]
          have hIs := RI_sc hIr (c := fA ρ k 0) (by omega)
          have hI2 : RI (goR (scR ρ (fA ρ k 0)) k) := RI_go hIs (by omega) (by rw [sc_0 hIr]; omega) (by rw [sc_A hIr (by omega) (by omega)]; omega)
          refine r_iinc (pc := 65) (L' := [_, _, _, _, _]) dX2_fires_65 rfl rfl ?_
          refine r_goto (pc := 68) (tgt := 96) dX2_fires_68 (by decide) ?_
          refine r_goto (pc := 96) (tgt := 10) dX2_fires_96 (by decide) ?_
          refine goL (L' := [some (.ref s), some (.int (iZ x)), some (.int (iZ (n + 1))), some (.ref it), none]) ⟨rfl, rfl, rfl, rfl, trivial⟩ ?_
          refine go_kb (kb' := 8 * ((goR (scR ρ (fA ρ k 0)) k 0).toNat - k)) (by rw [z0]; omega) ?_
          exact ih10 k (-1) (n + 1) _ _ _ _ _ _ h (by rw [z0]; omega) hF hX hit2 hI2 (hb.trans (buZ_2 hIr (by omega) (by omega) hnl hbu)) (by omega)
  refine go_kb (kb' := 8 * ((r 0).toNat - 0)) (by omega) ?_
  exact loop10 _ 0 (-1) 0 r _ _ _ _ _ h (by omega) hF hX hit2 hI (by rw [Int.natCast_zero, Int.sub_zero]) (Nat.lt_succ_self _)
