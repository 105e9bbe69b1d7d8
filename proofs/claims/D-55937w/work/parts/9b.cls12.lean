set_option maxRecDepth 100000
theorem f5 : Cond.selects "java/util/LinkedList$ListItr" ⟨"java/util/Iterator", "remove", "()V"⟩ yJ31_remove ∈ lw_all ∧ Cond.instanceMethod yJ31_remove ∈ lw_all ∧ Cond.initialized yJ31_remove.cls ∈ lw_all ∧ Cond.code yJ31_remove cJ31_remove 2 (none) ∈ lw_all ∧ hdOk ⟨"java/util/Iterator", "remove", "()V"⟩ 0 ∧ 2 ≤ 21 := ⟨q1853, q1855, q144, q1857, ⟨by decide, by decide, by decide +kernel⟩, by decide⟩
/-! the class, part 12: a law goes; a shard is cited -/
theorem uA_lo {r : Row} {a z j : Int} {w : Nat} (ha : 0 ≤ a) (hj : j < 56) : uA r a w z j = r j := if_neg (by omega)
/-- behind the article's own change of a repeal -/
def re2 (r : Row) (a y : Int) : Row := uA (uA r a (4 : Nat) y) a (3 : Nat) 0
theorem re2_o {r : Row} {a y j : Int} (h4 : j ≠ 56 + 6 * a + 4) (h3 : j ≠ 56 + 6 * a + 3) : re2 r a y j = r j := by
  unfold re2 uA uR
  rw [if_neg (by omega), if_neg (by omega)]
def re3 (r : Row) (a y : Int) : Row := fun j => if j = 1 then r 1 - 1 else if 12 + plOf r a ≤ j ∧ j < 12 + (r 1 - 1) then r (j + 1) else if j = 12 + (r 1 - 1) then 0 else re2 r a y j
theorem re3_k {r : Row} {a y k : Int} (ha : 0 ≤ a) (h12 : r 1 ≤ 12) (h0 : 0 ≤ k) (hk : k < r 1 - 1) (hp : 0 ≤ plOf r a) : re3 r a y (12 + k) = re2 r a y (12 + (if k < plOf r a then k else k + 1)) := by
  unfold re3
  rw [if_neg (by omega)]
  by_cases h : k < plOf r a
  · rw [if_pos h, if_neg (by omega), if_neg (by omega)]
  · rw [if_neg h, if_pos (by omega), re2_o (by omega) (by omega)]
    congr 1
    omega
theorem re_fin {r : Row} {a y : Int} (ha : 0 ≤ a) (h12 : 1 ≤ r 1 ∧ r 1 ≤ 12) (hp : 0 ≤ plOf r a ∧ plOf r a < r 1) {j : Int} : reR r a y j = uR (re3 r a y) (9 : Nat) (nz (re3 r a y 9 + 1)) j := by
  have e9 : re3 r a y 9 = r 9 := by unfold re3; rw [if_neg (by omega), if_neg (by omega), if_neg (by omega)]; exact re2_o (by omega) (by omega)
  rw [e9]
  unfold reR uR
  by_cases h9 : j = 9
  · rw [if_neg (by omega), if_pos h9, if_pos (by omega)]
  · rw [if_neg h9, if_neg (show ¬ j = ((9 : Nat) : Int) by omega)]
    unfold re3
    by_cases h1 : j = 1
    · rw [if_pos h1, if_pos h1]
    · rw [if_neg h1, if_neg h1]
      by_cases h4 : j = 56 + 6 * a + 4
      · rw [if_pos h4, if_neg (by omega), if_neg (by omega)]
        unfold re2 uA uR
        rw [if_neg (by omega), if_pos (by omega)]
      · by_cases h3 : j = 56 + 6 * a + 3
        · rw [if_neg h4, if_pos h3, if_neg (by omega), if_neg (by omega)]
          unfold re2 uA uR
          rw [if_pos (by omega)]
        · rw [if_neg h4, if_neg h3, re2_o h4 h3]
theorem r3_no {r : Row} {a y k : Int} (hI : RI r) (ha : 0 ≤ a ∧ a < r 0) (hl : fA r a 4 < 0) (h0 : 0 ≤ k) (hk : k < r 1 - 1) : re3 r a y (12 + k) ≠ a ∧ 0 ≤ re3 r a y (12 + k) ∧ re3 r a y (12 + k) < r 0 := by
  have b := hI.1
  have p := pl_law hI ha hl
  rw [re3_k ha.1 (by omega) h0 hk p.1, re2_o (by split <;> omega) (by split <;> omega)]
  have q := hI.2.2.2.1 (if k < plOf r a then k else k + 1) (by split <;> omega) (by split <;> omega)
  refine ⟨fun e => ?_, q.1, q.2.1⟩
  have := hI.2.2.2.2.1 (if k < plOf r a then k else k + 1) (plOf r a) (by split <;> omega) (by split <;> omega) p.1 p.2.1 (e.trans p.2.2.symm)
  split at this <;> omega

theorem t_X2_repeals {G : Gl} {h9 : Hp} {s T : Nat} {r : Row} {al cl sl : Nat} {m1 m2 m3 : Int32} {n1 n2 E F : Nat → Nat} (hX9 : SWx G T s r al cl sl m1 m2 m3 n1 n2 E F h9) (hI : RI r) (hT : T ≠ 0) {a y : Int} (ha : 0 ≤ a ∧ a < r 0) (hl : fA r a 4 < 0) : Ct G 6 6 yX2_repeals (Cond.code yX2_repeals cX2_repeals 4 (none)) [.ref s, .ref (E a.toNat), .int (iZ y)] h9 (jN (fun h' => (SW G T s (reR r a y) h' ∧ Fr (pTQ T) h9 h'))) noX := by
  have hF : Fr (pTQ T) h9 h9 := Fr.rf
  have hX := hX9
  have b := hI.1
  have hX2 := hX
  obtain ⟨w1, w2, w3, w4, w5, w6, w7, w8⟩ := hX2
  obtain ⟨ar1, w2s⟩ := w2.size
  have hA5 := w5 a.toNat (by omega)
  rw [show ((a.toNat : Nat) : Int) = a by omega] at hA5
  have pl := pl_law hI ha hl
  refine Ct.of (own := "CharterKiln$State") (nm := "repeals") (by decide +kernel) rfl rfl (L := [some (.ref s), some (.ref (E a.toNat)), some (.int (iZ y)), none]) rfl (Nat.le_of_ble_eq_true rfl) rfl ?_
  refine r_aload_n (pc := 0) dX2_repeals_0 rfl ?_
  refine r_iload_n (pc := 1) dX2_repeals_1 rfl ?_
  refine pX2_107 (pc := 2) dX2_repeals_2 hA5 (tnz (by decide)).symm (Nat.le_of_ble_eq_true rfl) ?_
  refine gp_art (a := a) (w := 4) (z' := y) hX hF (by omega) (by omega) (by decide) rfl (fun h hX hF hF2 => ?_)
  have u0 : uA r a (4 : Nat) y 0 = r 0 := uA_lo ha.1 (by omega)
  have u1 : uA r a (4 : Nat) y 1 = r 1 := uA_lo ha.1 (by omega)
  have u2 : uA r a (4 : Nat) y 2 = r 2 := uA_lo ha.1 (by omega)
  have hX2 := hX
  obtain ⟨w1, w2, w3, w4, w5, w6, w7, w8⟩ := hX2
  obtain ⟨ar1, w2s⟩ := w2.size
  have hA5 := w5 a.toNat (by rw [u0]; omega)
  rw [show ((a.toNat : Nat) : Int) = a by omega] at hA5
  refine r_aload_n (pc := 5) dX2_repeals_5 rfl ?_
  refine r_iconst (pc := 6) dX2_repeals_6 ?_
  refine pX2_162 (pc := 7) dX2_repeals_7 (iZ01' (by first | (left; rfl) | (right; rfl) | exact bZ_01' _ | omega)) hA5 (tnz (by decide)).symm (Nat.le_of_ble_eq_true rfl) ?_
  refine gp_art (a := a) (w := 3) (z' := 0) hX hF (by rw [u0]; omega) (by rw [u0, u1, u2]; omega) (by decide) rfl (fun h hX hF hF2 => ?_)
  rw [show uA (uA r a (4 : Nat) y) a (3 : Nat) 0 = re2 r a y from rfl] at hX
  have v0 : re2 r a y 0 = r 0 := re2_o (by omega) (by omega)
  have v1 : re2 r a y 1 = r 1 := re2_o (by omega) (by omega)
  have v2 : re2 r a y 2 = r 2 := re2_o (by omega) (by omega)
  have hX2 := hX
  obtain ⟨w1, w2, w3, w4, w5, w6, w7, w8⟩ := hX2
  obtain ⟨ar1, w2s⟩ := w2.size
  refine r_aload_n (pc := 10) dX2_repeals_10 rfl ?_
  refine gX2_21 (pc := 11) dX2_repeals_11 w1 rfl ?_
  refine r_callG (pc := 14) (kb' := 0) dX2_repeals_14 cuX2_53_10 (t_J3_iterator (3, 12) (by decide) w3) w3.2.1 rfl (Nat.le_of_ble_eq_true rfl) (Nat.le_of_ble_eq_true rfl) rfl rfl (Nat.le_of_ble_eq_true rfl) (fun _ _ q => q.elim) (fun _ h hq => ?_)
  refine go_jX hq (fun it hx2 => ?_)
  obtain ⟨hxn, e9⟩ := hx2
  subst e9
  replace hF := hF.tr (Fr.nw (x := ((3, 12), ob 11 [.null, rfN (0 < (re2 r a y 1).toNat) (n1 0), .int (iZ 0), .int m2, .ref cl])) hxn)
  replace hX := hX.fr (P := pN) (Fr.nw (x := ((3, 12), ob 11 [.null, rfN (0 < (re2 r a y 1).toNat) (n1 0), .int (iZ 0), .int m2, .ref cl])) hxn) (fun _ _ q => q) (fun q => q)
  have hit2 := up_s (h := h) (a := it) (x := ((3, 12), ob 11 [.null, rfN (0 < (re2 r a y 1).toNat) (n1 0), .int (iZ 0), .int m2, .ref cl]))
  generalize up h it ((3, 12), ob 11 [.null, rfN (0 < (re2 r a y 1).toNat) (n1 0), .int (iZ 0), .int m2, .ref cl]) = h at hF hX hit2 ⊢
  have hX2 := hX
  obtain ⟨w1, w2, w3, w4, w5, w6, w7, w8⟩ := hX2
  obtain ⟨ar1, w2s⟩ := w2.size
  refine r_astore_n (pc := 17) (L' := [_, _, _, _]) dX2_repeals_17 rfl ?_
  have loop18 : ∀ (k18 : Nat) (k : Nat) (lv : Value) (ρ : Row) (m2 : Int32) (n1 : Nat → Nat) (h : Hp), (k ≤ (ρ 1).toNat) → (Fr (pTQ T) h9 h) → (SWx G T s (ρ) al cl sl m1 m2 m3 n1 n2 E F h) → (h it = some ((3, 12), ob 11 [lv, rfN (k < (ρ 1).toNat) (n1 (k)), .int (iZ k), .int m2, .ref cl])) → ((ρ = re2 r a y ∧ (k : Int) ≤ plOf r a) ∨ ρ = re3 r a y) → (ρ 1).toNat - k < k18 → Go G "CharterKiln$State" cX2_repeals (4, none, "repeals", []) 6 6 (jN (fun h' => (SW G T s (reR r a y) h' ∧ Fr (pTQ T) h9 h'))) (noX) 0 h 18 [some (.ref s), some (.ref (E a.toNat)), some (.int (iZ y)), some (.ref it)] [] := by
    intro k18
    induction k18 with
    | zero => intro k lv ρ m2 n1 h hk hF hX hit2 hr hk; omega
    | succ k18 ih18 =>
      intro k lv ρ m2 n1 h hk hF hX hit2 hr hk18
      have hX2 := hX
      obtain ⟨w1, w2, w3, w4, w5, w6, w7, w8⟩ := hX2
      obtain ⟨ar1, w2s⟩ := w2.size
      have hrho : (ρ 0 = r 0 ∧ ρ 2 = r 2 ∧ (ρ 1 = r 1 ∨ ρ 1 = r 1 - 1)) ∧ ∀ j : Int, 0 ≤ j → j < ρ 1 → 0 ≤ ρ (12 + j) ∧ ρ (12 + j) < r 0 := by
        rcases hr with ⟨e, _⟩ | e
        · subst e; refine ⟨⟨v0, v2, Or.inl v1⟩, fun j j0 j1 => ?_⟩; rw [re2_o (by omega) (by omega)]; have := hI.2.2.2.1 j j0 (by omega); omega
        · subst e; exact ⟨⟨(if_neg (by omega)).trans ((if_neg (by omega)).trans ((if_neg (by omega)).trans v0)), (if_neg (by omega)).trans ((if_neg (by omega)).trans ((if_neg (by omega)).trans v2)), Or.inr rfl⟩, fun j j0 j1 => (r3_no hI ha hl j0 j1).2⟩
      refine r_aload_n (pc := 18) dX2_repeals_18 rfl ?_
      refine r_callF (pc := 19) (kb' := 0) dX2_repeals_19 3 rfl f3 q1384 (t_J31_hasNext hit2 w3 (by omega)) hit2 rfl (Nat.le_refl _) (Nat.le_of_ble_eq_true rfl) rfl rfl (Nat.le_of_ble_eq_true rfl) (fun _ _ q => q.elim) (fun _ _ hq => ?_)
      refine go_jE hq ?_
      refine r_ifB_eq (pc := 24) (tgt := 46) dX2_repeals_24 (by decide) (fun c24 => ?_) (fun c24 => ?_)
      · have hfin : ρ = re3 r a y := by
          rcases hr with ⟨e, hk2⟩ | e
          · exfalso; rw [e] at c24; omega
          · exact e
        subst hfin
        refine r_aload_n (pc := 46) dX2_repeals_46 rfl ?_
        refine r_dup (pc := 47) dX2_repeals_47 rfl ?_
        refine gX2_90 (pc := 48) dX2_repeals_48 w1 rfl ?_
        refine r_iconst (pc := 51) dX2_repeals_51 ?_
        refine r_iadd (pc := 52) dX2_repeals_52 ?_
        refine pX2_90 (pc := 53) dX2_repeals_53 w1 (fun e => hT (congrArg Prod.fst e)) (Nat.le_of_ble_eq_true rfl) ?_
        refine gp_put (k := 9) hX (h9 := h9) hF hT (by decide) (fun h hX hF hF2 => ?_)
        exact r_vret (pc := 56) dX2_repeals_56 rfl ⟨rfl, (hX.cg (r' := reR r a y) (fun j hj => re_fin ha.1 (by omega) ⟨pl.1, pl.2.1⟩)).w, hF⟩
      · refine r_aload_n (pc := 27) dX2_repeals_27 rfl ?_
        refine r_callF (pc := 28) (kb' := 0) dX2_repeals_28 4 rfl f4 q1386 (t_J31_next hit2 w3 (by omega) (by decide)) hit2 rfl (Nat.le_refl _) (Nat.le_of_ble_eq_true rfl) rfl rfl (Nat.le_of_ble_eq_true rfl) (fun _ _ q => q.elim) (fun _ h hq => ?_)
        refine go_jP hq (fun e9 => ?_)
        subst e9
        replace hF := hF.tr (Fr.upd (o' := ob 11 [.ref (n1 k), rfN (k + 1 < (ρ 1).toNat) (n1 (k + 1)), .int (iZ (k + 1)), .int m2, .ref cl]) hit2 (Or.inr ⟨rfl, by decide⟩))
        replace hX := hX.fr (P := fun t => t = (3, 12)) (Fr.upd (o' := ob 11 [.ref (n1 k), rfN (k + 1 < (ρ 1).toNat) (n1 (k + 1)), .int (iZ (k + 1)), .int m2, .ref cl]) hit2 rfl) (fun k hk q => absurd (congrArg Prod.snd q) (by show ¬ k = 12; omega)) (by decide)
        replace hit2 := up_s (h := h) (a := it) (x := ((3, 12), ob 11 [.ref (n1 k), rfN (k + 1 < (ρ 1).toNat) (n1 (k + 1)), .int (iZ (k + 1)), .int m2, .ref cl]))
        generalize up h it ((3, 12), ob 11 [.ref (n1 k), rfN (k + 1 < (ρ 1).toNat) (n1 (k + 1)), .int (iZ (k + 1)), .int m2, .ref cl]) = h at hF hX hit2 ⊢
        have hX2 := hX
        obtain ⟨w1, w2, w3, w4, w5, w6, w7, w8⟩ := hX2
        obtain ⟨ar1, w2s⟩ := w2.size
        refine go_cv (w := .ref (E (ρ (12 + k)).toNat)) rfl ?_
        refine r_aload_n (pc := 33) dX2_repeals_33 rfl ?_
        refine r_acmp_ne (pc := 34) (tgt := 18) dX2_repeals_34 (by decide) (fun c34 => ?_) (fun c34 => ?_)
        · exact ih18 (k + 1) (.ref (n1 k)) ρ _ _ h (by omega) hF hX hit2 (by
            rcases hr with ⟨e, hk2⟩ | e
            · refine Or.inl ⟨e, ?_⟩
              by_cases q : (k : Int) = plOf r a
              · exfalso; apply c34; rw [e, q, re2_o (by omega) (by omega), pl.2.2]
              · omega
            · exact Or.inr e) (by omega)
        · have hra : ρ (12 + k) = a := by
            have hb := hrho.2 k (by omega) (by omega)
            have hc : E (ρ (12 + k)).toNat = E a.toNat := by first | exact c34 | exact Classical.not_not.mp c34
            have := w7 (ρ (12 + k)).toNat a.toNat (by rw [hrho.1.1]; omega) (by rw [hrho.1.1]; omega) hc
            omega
          refine r_aload_n (pc := 37) dX2_repeals_37 rfl ?_
          refine r_callF (pc := 38) (kb' := 0) dX2_repeals_38 5 rfl f5 q1784 (t_J31_remove (l := k) hit2 w3 (by omega) (by decide) (tnz (by decide)).symm (fun q => absurd (congrArg Prod.snd q) (by show ¬ (12 : Nat) = 2; decide))) hit2 rfl (Nat.le_refl _) (Nat.le_of_ble_eq_true rfl) rfl rfl (Nat.le_of_ble_eq_true rfl) (fun _ _ q => q.elim) (fun _ h hq => ?_)
          refine go_jN hq (fun hq2 => ?_)
          obtain ⟨hA2, hit3, hF3⟩ := hq2
          obtain ⟨rfl, hkp⟩ : ρ = re2 r a y ∧ (k : Int) = plOf r a := by
            rcases hr with ⟨e, hk2⟩ | e
            · subst e
              rw [re2_o (by omega) (by omega)] at hra
              exact ⟨rfl, hI.2.2.2.2.1 k (plOf r a) (by omega) (by omega) pl.1 pl.2.1 (hra.trans pl.2.2.symm)⟩
            · subst e
              exact absurd hra (r3_no hI ha hl (by omega) (by have x1 : re3 r a y 1 = r 1 - 1 := rfl; omega)).1
          replace hF := hF.tr (hF3.wk (by rintro _ (rfl | rfl); exact Or.inl rfl; exact Or.inr ⟨rfl, by decide⟩))
          replace hX := hX.remL (r' := re3 r a y) (p := plOf r a) (by omega) (by omega) (by rw [show (plOf r a).toNat = k by omega]; exact hA2) (hF3.wk (by rintro _ (rfl | rfl); exact Or.inl rfl; exact Or.inr (by decide))) (by rw [v1]; rfl) (fun j j0 j1 => re3_k ha.1 (by omega) j0 (by omega) pl.1) (fun j h1 h2 => by unfold re3; rw [if_neg h1, if_neg (by omega), if_neg (by omega)])
          have x1 : re3 r a y 1 = r 1 - 1 := rfl
          rw [rfN_rm, show (re2 r a y 1).toNat - 1 = (re3 r a y 1).toNat by rw [v1, x1]; omega] at hit3
          refine r_goto (pc := 43) (tgt := 18) dX2_repeals_43 (by decide) ?_
          exact ih18 k .null _ _ _ h (by rw [x1]; omega) hF hX hit3 (Or.inr rfl) (by omega)
  exact loop18 _ 0 .null _ _ _ h (by omega) hF hX hit2 (Or.inl ⟨rfl, by omega⟩) (Nat.lt_succ_self _)
