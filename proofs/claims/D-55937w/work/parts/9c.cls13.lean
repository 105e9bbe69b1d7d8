set_option maxRecDepth 100000
/-! the class, part 13: a shard is cited -/
def ci2 (r : Row) (x a : Int) : Row := uR (uA r a (2 : Nat) (fA r a 2 - ciN r x a)) (26 + 3 * x + 1) (fS r x 1 - 1)
def ci3 (r : Row) (x a : Int) : Row := uR (sg0 (ci2 r x a) x) (7 : Nat) (nz (sg0 (ci2 r x a) x 7 + 1))
theorem ci2_o {r : Row} {x a j : Int} (h1 : j ≠ 56 + 6 * a + 2) (h2 : j ≠ 26 + 3 * x + 1) : ci2 r x a j = r j := by
  unfold ci2 uA uR
  rw [if_neg h2, if_neg (by omega)]
theorem ci2_1 {r : Row} {x a j : Int} (h5 : j ≠ 5) (h6 : j ≠ 6) (hx : 0 ≤ x ∧ x < 8) (ha : 0 ≤ a) : ci1 r x a j = ci2 r x a j := by
  unfold ci1 ci2 uA uR
  rw [if_neg h5, if_neg h6]
  by_cases h : j = 56 + 6 * a + 2
  · rw [if_pos h, if_neg (by omega), if_pos (by omega)]
  · rw [if_neg h]
    by_cases h2 : j = 26 + 3 * x + 1
    · rw [if_pos h2, if_pos h2]
    · rw [if_neg h2, if_neg h2, if_neg (by omega)]
theorem ci2_u {r : Row} {x a t : Int} (hx : 0 ≤ x ∧ x < 8) (ht : 0 ≤ t ∧ t < 8) (ha : 0 ≤ a) : fS (ci2 r x a) t 1 = if t = x then fS r x 1 - 1 else fS r t 1 := by
  unfold fS ci2 uA uR
  by_cases h : t = x
  · rw [if_pos (by omega), if_pos h]; rfl
  · rw [if_neg (by omega), if_neg (by omega), if_neg h]
theorem sgR_cg {f g : Row} {x j : Int} (h : ∀ i, i ≠ 5 → i ≠ 6 → f i = g i) (hx : 0 ≤ x) (h5 : j ≠ 5) (h6 : j ≠ 6) : sgR f x j = sgR g x j := by
  unfold sgR
  rw [h 2 (by omega) (by omega), h 7 (by omega) (by omega), h j h5 h6]
  (repeat' split) <;> first | rfl | exact h _ (by omega) (by omega)
theorem ci3_u {r : Row} {x a t : Int} (hx : 0 ≤ x ∧ x < r 2) (h8 : r 2 ≤ 8) (ht : 0 ≤ t ∧ t < r 2 - 1) (ha : 0 ≤ a) : fS (ci3 r x a) t 1 = fS r (if t < x then t else t + 1) 1 := by
  have e2 : ci2 r x a 2 = r 2 := ci2_o (by omega) (by omega)
  have e : fS (ci3 r x a) t 1 = fS (sgR (ci2 r x a) x) t 1 := by
    unfold fS ci3 uR sg0
    rw [if_neg (by omega), if_neg (by omega)]
  rw [e, sg_fS (by rw [e2]; exact hx) (by rw [e2]; exact h8) (by rw [e2]; exact ht) (by omega), ci2_u (by omega) (by split <;> omega) ha, if_neg (by split <;> omega)]
theorem ci3_2 {r : Row} {x a : Int} (hx : 0 ≤ x) (ha : 0 ≤ a) : ci3 r x a 2 = r 2 - 1 := by
  have e2 : ci2 r x a 2 = r 2 := ci2_o (by omega) (by omega)
  show sgR (ci2 r x a) x 2 = _
  rw [sg_2, e2]
theorem ci3_lo {r : Row} {x a j : Int} (hx : 0 ≤ x ∧ x < r 2) (h8 : r 2 ≤ 8) (ha : 0 ≤ a) (hj : j < 26 ∨ 50 ≤ j) (h2 : j ≠ 2) (h7 : j ≠ 7) : ci3 r x a j = ci2 r x a j := by
  have e2 : ci2 r x a 2 = r 2 := ci2_o (by omega) (by omega)
  unfold ci3 uR
  rw [if_neg (by omega)]
  exact sg0_o (by rw [e2]; exact hx) (by rw [e2]; exact h8) hj h2
theorem ci_fin {r ρ : Row} {x a : Int} (hx : 0 ≤ x ∧ x < r 2) (h8 : r 2 ≤ 8) (ha : 0 ≤ a) (hr : ρ = if fS r x 1 = 1 then ci3 r x a else ci2 r x a) {j : Int} : ciR r x a j = uR (uR ρ (5 : Nat) (nz (ρ 5 + 1))) (6 : Nat) (nz (uR ρ (5 : Nat) (nz (ρ 5 + 1)) 6 + ciN r x a)) j := by
  have e6 : uR ρ (5 : Nat) (nz (ρ 5 + 1)) 6 = ρ 6 := uR_o (by decide)
  have r5 : ρ 5 = r 5 := by
    rw [hr]; split
    · rw [ci3_lo hx h8 ha (by omega) (by omega) (by omega)]; exact ci2_o (by omega) (by omega)
    · exact ci2_o (by omega) (by omega)
  have r6 : ρ 6 = r 6 := by
    rw [hr]; split
    · rw [ci3_lo hx h8 ha (by omega) (by omega) (by omega)]; exact ci2_o (by omega) (by omega)
    · exact ci2_o (by omega) (by omega)
  rw [e6, r5, r6]
  have c2 : ci1 r x a 2 = r 2 := ci1_2 hx.1 ha
  have l5 : ciR r x a 5 = nz (r 5 + 1) := by
    unfold ciR; split
    · rw [sg_o (by rw [c2]; exact hx) (by rw [c2]; exact h8) (by omega) (by omega) (by omega)]; rfl
    · rfl
  have l6 : ciR r x a 6 = nz (r 6 + ciN r x a) := by
    unfold ciR; split
    · rw [sg_o (by rw [c2]; exact hx) (by rw [c2]; exact h8) (by omega) (by omega) (by omega)]; rfl
    · rfl
  by_cases h6 : j = 6
  · rw [h6, l6]; exact uR_s.symm
  · by_cases h5 : j = 5
    · rw [h5, l5, uR_o (by decide)]; exact uR_s.symm
    · rw [uR_o (by omega), uR_o (by omega), hr]
      unfold ciR
      by_cases hu : fS r x 1 = 1
      · rw [if_pos hu, if_pos hu, sgR_cg (g := ci2 r x a) (fun i i5 i6 => ci2_1 i5 i6 (by omega) ha) hx.1 h5 h6]
        unfold ci3 uR sg0
        by_cases h7 : j = 7
        · rw [if_pos (by omega), h7]
          show nz (ci2 r x a 7 + 1) = _
          rfl
        · rw [if_neg (by omega), if_neg h7]
      · rw [if_neg hu, if_neg hu]; exact ci2_1 h5 h6 (by omega) ha

theorem t_X2_cites {G : Gl} {h9 : Hp} {s T : Nat} {r : Row} {al cl sl : Nat} {m1 m2 m3 : Int32} {n1 n2 E F : Nat → Nat} (hX9 : SWx G T s r al cl sl m1 m2 m3 n1 n2 E F h9) (hI : RI r) (hT : T ≠ 0) {x a : Int} (hx : 0 ≤ x ∧ x < r 2) (ha : 0 ≤ a ∧ a < r 0) (hap : apt r x a ≤ 2) : Ct G 6 6 yX2_cites (Cond.code yX2_cites cX2_cites 5 (some .int)) [.ref s, .ref (F x.toNat), .ref (E a.toNat)] h9 (jP (.int (iZ (ciN r x a))) (fun h' => (∃ m3' n2' F', SWx G T s (ciR r x a) al cl sl m1 m2 m3' n1 n2' E F' h') ∧ Fr (pTQ T) h9 h')) noX := by
  have hF : Fr (pTQ T) h9 h9 := Fr.rf
  have hX := hX9
  have b := hI.1
  have hX2 := hX
  obtain ⟨w1, w2, w3, w4, w5, w6, w7, w8⟩ := hX2
  obtain ⟨ar1, w2s⟩ := w2.size
  have hA5 := w5 a.toNat (by omega)
  rw [show ((a.toNat : Nat) : Int) = a by omega] at hA5
  have hS6 := w6 x.toNat (by omega)
  rw [show ((x.toNat : Nat) : Int) = x by omega] at hS6
  have ho := hI.2.1 a (by omega) (by omega)
  have ho2 := ho
  unfold artOk at ho2
  have hso := hI.2.2.1 x (by omega) (by omega)
  have hso2 := hso
  unfold shOk at hso2
  refine Ct.of (own := "CharterKiln$State") (nm := "cites") (by decide +kernel) rfl rfl (L := [some (.ref s), some (.ref (F x.toNat)), some (.ref (E a.toNat)), none, none]) rfl (Nat.le_of_ble_eq_true rfl) rfl ?_
  refine r_aload_n (pc := 0) dX2_cites_0 rfl ?_
  refine r_aload_n (pc := 1) dX2_cites_1 rfl ?_
  refine gX2_138 (pc := 2) dX2_cites_2 hA5 rfl ?_
  refine r_aload_n (pc := 5) dX2_cites_5 rfl ?_
  refine gX2_125 (pc := 6) dX2_cites_6 hA5 rfl ?_
  refine r_callV (pc := 9) (kb' := 6) dX2_cites_9 kX6_amends q1905 (t_X6_amends hS6 (by omega) (by omega) (by omega)) hS6 rfl (Nat.le_refl _) (Nat.le_of_ble_eq_true rfl) rfl rfl (Nat.le_of_ble_eq_true rfl) (fun _ _ q => q.elim) (fun _ _ hq => ?_)
  refine go_jE hq ?_
  refine go_cz (w := ciN r x a) (by unfold shA; exact if_neg (show ¬ 2 < apt r x a by omega)) ?_
  refine r_istore_n (pc := 12) (L' := [_, _, _, _, _]) dX2_cites_12 rfl ?_
  refine r_aload_n (pc := 13) dX2_cites_13 rfl ?_
  refine r_dup (pc := 14) dX2_cites_14 rfl ?_
  refine gX2_125 (pc := 15) dX2_cites_15 hA5 rfl ?_
  refine r_iload_n (pc := 18) dX2_cites_18 rfl ?_
  refine r_isub (pc := 19) dX2_cites_19 ?_
  refine pX2_125 (pc := 20) dX2_cites_20 hA5 (tnz (by decide)).symm (Nat.le_of_ble_eq_true rfl) ?_
  refine gp_art (a := a) (w := 2) (z' := fA r a 2 - ciN r x a) hX hF (by omega) (by omega) (by decide) rfl (fun h hX hF hF2 => ?_)
  have u0 : uA r a (2 : Nat) (fA r a 2 - ciN r x a) 0 = r 0 := uA_lo ha.1 (by omega)
  have u1 : uA r a (2 : Nat) (fA r a 2 - ciN r x a) 1 = r 1 := uA_lo ha.1 (by omega)
  have u2 : uA r a (2 : Nat) (fA r a 2 - ciN r x a) 2 = r 2 := uA_lo ha.1 (by omega)
  have uu : fS (uA r a (2 : Nat) (fA r a 2 - ciN r x a)) x 1 = fS r x 1 := uA_lo ha.1 (by omega)
  have hX2 := hX
  obtain ⟨w1, w2, w3, w4, w5, w6, w7, w8⟩ := hX2
  obtain ⟨ar1, w2s⟩ := w2.size
  have hS6 := w6 x.toNat (by rw [u2]; omega)
  rw [show ((x.toNat : Nat) : Int) = x by omega] at hS6
  refine r_aload_n (pc := 23) dX2_cites_23 rfl ?_
  refine r_dup (pc := 24) dX2_cites_24 rfl ?_
  refine gX2_159 (pc := 25) dX2_cites_25 hS6 rfl ?_
  refine r_iconst (pc := 28) dX2_cites_28 ?_
  refine r_isub (pc := 29) dX2_cites_29 ?_
  refine pX2_159 (pc := 30) dX2_cites_30 hS6 (tnz (by decide)).symm (Nat.le_of_ble_eq_true rfl) ?_
  refine gp_use (a := x) (z' := fS r x 1 - 1) hX hF (by rw [u2]; omega) (by rw [u0, u1, u2]; omega) (by rw [uu]) (fun h hX hF hF2 => ?_)
  rw [show uR (uA r a (2 : Nat) (fA r a 2 - ciN r x a)) (26 + 3 * x + 1) (fS r x 1 - 1) = ci2 r x a from rfl] at hX
  have v0 : ci2 r x a 0 = r 0 := ci2_o (by omega) (by omega)
  have v1 : ci2 r x a 1 = r 1 := ci2_o (by omega) (by omega)
  have v2 : ci2 r x a 2 = r 2 := ci2_o (by omega) (by omega)
  have hX2 := hX
  obtain ⟨w1, w2, w3, w4, w5, w6, w7, w8⟩ := hX2
  obtain ⟨ar1, w2s⟩ := w2.size
  obtain ⟨F0, hF0⟩ : ∃ q, q = F x.toNat := ⟨_, rfl⟩
  rw [← hF0]
  refine r_aload_n (pc := 33) dX2_cites_33 rfl ?_
  refine gX2_25 (pc := 34) dX2_cites_34 w1 rfl ?_
  refine r_callG (pc := 37) (kb' := 0) dX2_cites_37 cuX2_53_10 (t_J3_iterator (3, 12) (by decide) w4) w4.2.1 rfl (Nat.le_of_ble_eq_true rfl) (Nat.le_of_ble_eq_true rfl) rfl rfl (Nat.le_of_ble_eq_true rfl) (fun _ _ q => q.elim) (fun _ h hq => ?_)
  refine go_jX hq (fun it hx2 => ?_)
  obtain ⟨hxn, e9⟩ := hx2
  subst e9
  replace hF := hF.tr (Fr.nw (x := ((3, 12), ob 11 [.null, rfN (0 < (ci2 r x a 2).toNat) (n2 0), .int (iZ 0), .int m3, .ref sl])) hxn)
  replace hX := hX.fr (P := pN) (Fr.nw (x := ((3, 12), ob 11 [.null, rfN (0 < (ci2 r x a 2).toNat) (n2 0), .int (iZ 0), .int m3, .ref sl])) hxn) (fun _ _ q => q) (fun q => q)
  have hit2 := up_s (h := h) (a := it) (x := ((3, 12), ob 11 [.null, rfN (0 < (ci2 r x a 2).toNat) (n2 0), .int (iZ 0), .int m3, .ref sl]))
  generalize up h it ((3, 12), ob 11 [.null, rfN (0 < (ci2 r x a 2).toNat) (n2 0), .int (iZ 0), .int m3, .ref sl]) = h at hF hX hit2 ⊢
  have hX2 := hX
  obtain ⟨w1, w2, w3, w4, w5, w6, w7, w8⟩ := hX2
  obtain ⟨ar1, w2s⟩ := w2.size
  refine r_astore (pc := 40) (L' := [_, _, _, _, _]) dX2_cites_40 rfl ?_
  have loop42 : ∀ (k42 : Nat) (k : Nat) (lv : Value) (ρ : Row) (m3 : Int32) (n2 F : Nat → Nat) (h : Hp), (k ≤ (ρ 2).toNat) → (Fr (pTQ T) h9 h) → (SWx G T s (ρ) al cl sl m1 m2 m3 n1 n2 E F h) → (h it = some ((3, 12), ob 11 [lv, rfN (k < (ρ 2).toNat) (n2 (k)), .int (iZ k), .int m3, .ref sl])) → ((ρ = ci2 r x a ∧ (fS r x 1 = 1 → (k : Int) ≤ x)) ∨ (ρ = ci3 r x a ∧ fS r x 1 = 1)) → (ρ 2).toNat - k < k42 → Go G "CharterKiln$State" cX2_cites (5, some .int, "cites", []) 6 6 (jP (.int (iZ (ciN r x a))) (fun h' => (∃ m3' n2' F', SWx G T s (ciR r x a) al cl sl m1 m2 m3' n1 n2' E F' h') ∧ Fr (pTQ T) h9 h')) (noX) 0 h 42 [some (.ref s), some (.ref F0), some (.ref (E a.toNat)), some (.int (iZ (ciN r x a))), some (.ref it)] [] := by
    intro k42
    induction k42 with
    | zero => intro k lv ρ m3 n2 F h hk hF hX hit2 hr hk; omega
    | succ k42 ih42 =>
      intro k lv ρ m3 n2 F h hk hF hX hit2 hr hk42
      have hX2 := hX
      obtain ⟨w1, w2, w3, w4, w5, w6, w7, w8⟩ := hX2
      obtain ⟨ar1, w2s⟩ := w2.size
      have hrho : (ρ 2 = r 2 ∨ ρ 2 = r 2 - 1) ∧ ∀ t : Int, 0 ≤ t → t < ρ 2 → 0 ≤ fS ρ t 1 ∧ fS ρ t 1 ≤ 3 := by
        rcases hr with ⟨e, _⟩ | ⟨e, _⟩
        · subst e; refine ⟨Or.inl v2, fun t t0 t1 => ?_⟩; rw [ci2_u (by omega) (by omega) ha.1]; have := hI.2.2.1 t t0 (by omega); unfold shOk at this; split <;> omega
        · subst e; have x2 := ci3_2 (r := r) (x := x) (a := a) hx.1 ha.1; refine ⟨Or.inr x2, fun t t0 t1 => ?_⟩; rw [ci3_u hx (by omega) (by omega) ha.1]; have := hI.2.2.1 (if t < x then t else t + 1) (by split <;> omega) (by split <;> omega); unfold shOk at this; omega
      refine r_aload (pc := 42) dX2_cites_42 rfl ?_
      refine r_callF (pc := 44) (kb' := 0) dX2_cites_44 3 rfl f3 q1384 (t_J31_hasNext hit2 w4 (by omega)) hit2 rfl (Nat.le_refl _) (Nat.le_of_ble_eq_true rfl) rfl rfl (Nat.le_of_ble_eq_true rfl) (fun _ _ q => q.elim) (fun _ _ hq => ?_)
      refine go_jE hq ?_
      refine r_ifB_eq (pc := 49) (tgt := 88) dX2_cites_49 (by decide) (fun c49 => ?_) (fun c49 => ?_)
      · have hfin : ρ = if fS r x 1 = 1 then ci3 r x a else ci2 r x a := by
          rcases hr with ⟨e, hk2⟩ | ⟨e, hu⟩
          · rw [if_neg (fun q => by have := hk2 q; rw [e] at c49; omega)]; exact e
          · rw [if_pos hu]; exact e
        refine r_aload_n (pc := 88) dX2_cites_88 rfl ?_
        refine r_dup (pc := 89) dX2_cites_89 rfl ?_
        refine gX2_78 (pc := 90) dX2_cites_90 w1 rfl ?_
        refine r_iconst (pc := 93) dX2_cites_93 ?_
        refine r_iadd (pc := 94) dX2_cites_94 ?_
        refine pX2_78 (pc := 95) dX2_cites_95 w1 (fun e => hT (congrArg Prod.fst e)) (Nat.le_of_ble_eq_true rfl) ?_
        refine gp_put (k := 5) hX (h9 := h9) hF hT (by decide) (fun h hX hF hF2 => ?_)
        have hX2 := hX
        obtain ⟨w1, w2, w3, w4, w5, w6, w7, w8⟩ := hX2
        obtain ⟨ar1, w2s⟩ := w2.size
        refine r_aload_n (pc := 98) dX2_cites_98 rfl ?_
        refine r_dup (pc := 99) dX2_cites_99 rfl ?_
        refine gX2_81 (pc := 100) dX2_cites_100 w1 rfl ?_
        refine r_iload_n (pc := 103) dX2_cites_103 rfl ?_
        refine r_iadd (pc := 104) dX2_cites_104 ?_
        refine pX2_81 (pc := 105) dX2_cites_105 w1 (fun e => hT (congrArg Prod.fst e)) (Nat.le_of_ble_eq_true rfl) ?_
        refine gp_put (k := 6) hX (h9 := h9) hF hT (by decide) (fun h hX hF hF2 => ?_)
        refine r_iload_n (pc := 108) dX2_cites_108 rfl ?_
        exact r_iret (pc := 109) dX2_cites_109 rfl rfl ⟨rfl, ⟨_, _, _, hX.cg (r' := ciR r x a) (fun j hj => ci_fin hx (by omega) ha.1 hfin)⟩, hF⟩
      · refine r_aload (pc := 52) dX2_cites_52 rfl ?_
        refine r_callF (pc := 54) (kb' := 0) dX2_cites_54 4 rfl f4 q1386 (t_J31_next hit2 w4 (by omega) (by decide)) hit2 rfl (Nat.le_refl _) (Nat.le_of_ble_eq_true rfl) rfl rfl (Nat.le_of_ble_eq_true rfl) (fun _ _ q => q.elim) (fun _ h hq => ?_)
        refine go_jP hq (fun e9 => ?_)
        subst e9
        replace hF := hF.tr (Fr.upd (o' := ob 11 [.ref (n2 k), rfN (k + 1 < (ρ 2).toNat) (n2 (k + 1)), .int (iZ (k + 1)), .int m3, .ref sl]) hit2 (Or.inr ⟨rfl, by decide⟩))
        replace hX := hX.fr (P := fun t => t = (3, 12)) (Fr.upd (o' := ob 11 [.ref (n2 k), rfN (k + 1 < (ρ 2).toNat) (n2 (k + 1)), .int (iZ (k + 1)), .int m3, .ref sl]) hit2 rfl) (fun k hk q => absurd (congrArg Prod.snd q) (by show ¬ k = 12; omega)) (by decide)
        replace hit2 := up_s (h := h) (a := it) (x := ((3, 12), ob 11 [.ref (n2 k), rfN (k + 1 < (ρ 2).toNat) (n2 (k + 1)), .int (iZ (k + 1)), .int m3, .ref sl]))
        generalize up h it ((3, 12), ob 11 [.ref (n2 k), rfN (k + 1 < (ρ 2).toNat) (n2 (k + 1)), .int (iZ (k + 1)), .int m3, .ref sl]) = h at hF hX hit2 ⊢
        have hX2 := hX
        obtain ⟨w1, w2, w3, w4, w5, w6, w7, w8⟩ := hX2
        obtain ⟨ar1, w2s⟩ := w2.size
        have huse := hrho.2 k (by omega) (by omega)
        refine r_cast (pc := 59) dX2_cites_59 q1487 (w6 k (by omega)) rfl ?_
        refine gX2_159 (pc := 62) dX2_cites_62 (w6 k (by omega)) rfl ?_
        refine r_if_ne (pc := 65) (tgt := 42) dX2_cites_65 (by decide) (by omega) (fun c65 => ?_) (fun c65 => ?_)
        · exact ih42 (k + 1) (.ref (n2 k)) ρ _ _ _ h (by omega) hF hX hit2 (by
            rcases hr with ⟨e, hk2⟩ | e
            · refine Or.inl ⟨e, fun hu => ?_⟩
              have hk3 := hk2 hu
              by_cases q : (k : Int) = x
              · exfalso; apply c65; rw [e, ci2_u (by omega) (by omega) ha.1, if_pos q]; omega
              · omega
            · exact Or.inr e) (by omega)
        · refine r_aload (pc := 68) dX2_cites_68 rfl ?_
          refine r_callF (pc := 70) (kb' := 0) dX2_cites_70 5 rfl f5 q1784 (t_J31_remove (l := k) hit2 w4 (by omega) (by decide) (tnz (by decide)).symm (fun q => absurd (congrArg Prod.snd q) (by show ¬ (12 : Nat) = 3; decide))) hit2 rfl (Nat.le_refl _) (Nat.le_of_ble_eq_true rfl) rfl rfl (Nat.le_of_ble_eq_true rfl) (fun _ _ q => q.elim) (fun _ h hq => ?_)
          refine go_jN hq (fun hq2 => ?_)
          obtain ⟨hA2, hit3, hF3⟩ := hq2
          obtain ⟨rfl, hkx, hu1⟩ : ρ = ci2 r x a ∧ (k : Int) = x ∧ fS r x 1 = 1 := by
            rcases hr with ⟨e, hk2⟩ | ⟨e, hu⟩
            · subst e
              rw [ci2_u (by omega) (by omega) ha.1] at c65
              by_cases q : (k : Int) = x
              · rw [if_pos q] at c65; exact ⟨rfl, q, by omega⟩
              · rw [if_neg q] at c65
                have := hI.2.2.1 k (by omega) (by omega)
                unfold shOk at this
                omega
            · subst e
              have x2 := ci3_2 (r := r) (x := x) (a := a) hx.1 ha.1
              rw [ci3_u hx (by omega) (by omega) ha.1] at c65
              have := hI.2.2.1 (if (k : Int) < x then k else k + 1) (by split <;> omega) (by split <;> omega)
              unfold shOk at this
              omega
          replace hF := hF.tr (hF3.wk (by rintro _ (rfl | rfl); exact Or.inl rfl; exact Or.inr ⟨rfl, by decide⟩))
          replace hX := hX.remS (t := x) (by omega) (by omega) (by rw [show x.toNat = k by omega]; exact hA2) (hF3.wk (by rintro _ (rfl | rfl); exact Or.inl rfl; exact Or.inr (by decide)))
          rw [rfN_rm] at hit3
          have hX2 := hX
          obtain ⟨w1, w2, w3, w4, w5, w6, w7, w8⟩ := hX2
          obtain ⟨ar1, w2s⟩ := w2.size
          refine r_aload_n (pc := 75) dX2_cites_75 rfl ?_
          refine r_dup (pc := 76) dX2_cites_76 rfl ?_
          refine gX2_84 (pc := 77) dX2_cites_77 w1 rfl ?_
          refine r_iconst (pc := 80) dX2_cites_80 ?_
          refine r_iadd (pc := 81) dX2_cites_81 ?_
          refine pX2_84 (pc := 82) dX2_cites_82 w1 (fun e => hT (congrArg Prod.fst e)) (Nat.le_of_ble_eq_true rfl) ?_
          refine gp_put (k := 7) hX (h9 := h9) hF hT (by decide) (fun h hX hF hF2 => ?_)
          rw [show uR (sg0 (ci2 r x a) x) (7 : Nat) (nz (sg0 (ci2 r x a) x 7 + 1)) = ci3 r x a from rfl] at hX
          replace hit3 := hF2.get hit3 (fun q => absurd (congrArg Prod.snd q) (by show ¬ (12 : Nat) = 0; decide))
          have x2 := ci3_2 (r := r) (x := x) (a := a) hx.1 ha.1
          rw [show (ci2 r x a 2).toNat - 1 = (ci3 r x a 2).toNat by omega] at hit3
          refine r_goto (pc := 85) (tgt := 42) dX2_cites_85 (by decide) ?_
          exact ih42 k .null _ _ _ _ h (by rw [x2]; omega) hF hX hit3 (Or.inr ⟨rfl, hu1⟩) (by omega)
  exact loop42 _ 0 .null _ _ _ _ h (by omega) hF hX hit2 (Or.inl ⟨rfl, fun _ => by omega⟩) (Nat.lt_succ_self _)
