set_option maxRecDepth 100000
/-! the class, part 3: what throws; plain queries -/
def xO (E0 : String) (c : Prop) (P : Hp → Prop) : String → Hp → Prop := fun E h' => E = E0 ∧ c ∧ P h'
def qQ (z k : Int) (P : Hp → Prop) : Option Value → Hp → Prop := fun r h' => r = some (.int (iZ z)) ∧ k = 0 ∧ P h'
def qX (k : Int) (E1 E2 : String) (P : Hp → Prop) : String → Hp → Prop := fun E h' => ((E = E1 ∧ k = 1) ∨ (E = E2 ∧ k = 2)) ∧ P h'
theorem pQ_2 {k : Nat} : ¬ pQ (2, k) := fun q => absurd (show (2 : Nat) = 3 from q.1) (by decide)
theorem SWx.w {G : Gl} {T s : Nat} {r : Row} {al cl sl : Nat} {m1 m2 m3 : Int32} {n1 n2 E F : Nat → Nat} {h : Hp} (hX : SWx G T s r al cl sl m1 m2 m3 n1 n2 E F h) : SW G T s r h := ⟨al, cl, sl, m1, m2, m3, n1, n2, E, F, hX⟩
theorem kz {k : Int} {p : Prop} (h : p → k = 0) (hp : p) : k = 0 := h hp

theorem t_X1_check {G : Gl} {h : Hp} {p : Prop} [Decidable p] : Ct G 6 7 yX1_check (Cond.code yX1_check cX1_check 1 (none)) [.int (iZ (bZ p))] h (jN (fun h' => h' = h ∧ p)) (xO eIAE (¬ p) (· = h)) := by
  refine Ct.of (own := "CharterKiln") (nm := "check") (by decide +kernel) rfl rfl (L := [some (.int (iZ (bZ p)))]) rfl (Nat.le_of_ble_eq_true rfl) rfl ?_
  refine r_iload_n (pc := 0) dX1_check_0 rfl ?_
  refine r_ifB_ne (pc := 1) (tgt := 12) dX1_check_1 (by decide) (fun c1 => ?_) (fun c1 => ?_)
  · exact r_vret (pc := 12) dX1_check_12 rfl ⟨rfl, rfl, by assumption⟩
  · exact r_thr (pc := 4) dX1_check_4 dX1_check_7 dX1_check_8 dX1_check_11 ftIAE q1967 q135 (atIAE (wokA q1968 rfl)) rfl rfl (by decide) (Nat.le_of_ble_eq_true rfl) (Nat.le_of_ble_eq_true rfl) (Nat.le_of_ble_eq_true rfl) ⟨rfl, by assumption, rfl⟩
theorem t_X1_checkIndex {G : Gl} {h : Hp} {p : Prop} [Decidable p] : Ct G 6 7 yX1_checkIndex (Cond.code yX1_checkIndex cX1_checkIndex 1 (none)) [.int (iZ (bZ p))] h (jN (fun h' => h' = h ∧ p)) (xO eIOB (¬ p) (· = h)) := by
  refine Ct.of (own := "CharterKiln") (nm := "checkIndex") (by decide +kernel) rfl rfl (L := [some (.int (iZ (bZ p)))]) rfl (Nat.le_of_ble_eq_true rfl) rfl ?_
  refine r_iload_n (pc := 0) dX1_checkIndex_0 rfl ?_
  refine r_ifB_ne (pc := 1) (tgt := 12) dX1_checkIndex_1 (by decide) (fun c1 => ?_) (fun c1 => ?_)
  · exact r_vret (pc := 12) dX1_checkIndex_12 rfl ⟨rfl, rfl, by assumption⟩
  · exact r_thr (pc := 4) dX1_checkIndex_4 dX1_checkIndex_7 dX1_checkIndex_8 dX1_checkIndex_11 ftIOB q1959 q127 (atIOB (wokA q1960 rfl)) rfl rfl (by decide) (Nat.le_of_ble_eq_true rfl) (Nat.le_of_ble_eq_true rfl) (Nat.le_of_ble_eq_true rfl) ⟨rfl, by assumption, rfl⟩
theorem t_X1_checkElement {G : Gl} {h : Hp} {p : Prop} [Decidable p] : Ct G 6 7 yX1_checkElement (Cond.code yX1_checkElement cX1_checkElement 1 (none)) [.int (iZ (bZ p))] h (jN (fun h' => h' = h ∧ p)) (xO eNSE (¬ p) (· = h)) := by
  refine Ct.of (own := "CharterKiln") (nm := "checkElement") (by decide +kernel) rfl rfl (L := [some (.int (iZ (bZ p)))]) rfl (Nat.le_of_ble_eq_true rfl) rfl ?_
  refine r_iload_n (pc := 0) dX1_checkElement_0 rfl ?_
  refine r_ifB_ne (pc := 1) (tgt := 12) dX1_checkElement_1 (by decide) (fun c1 => ?_) (fun c1 => ?_)
  · exact r_vret (pc := 12) dX1_checkElement_12 rfl ⟨rfl, rfl, by assumption⟩
  · exact r_thr (pc := 4) dX1_checkElement_4 dX1_checkElement_7 dX1_checkElement_8 dX1_checkElement_11 ftNSE q2020 q138 (atNSE (wokA q2021 rfl)) rfl rfl (by decide) (Nat.le_of_ble_eq_true rfl) (Nat.le_of_ble_eq_true rfl) (Nat.le_of_ble_eq_true rfl) ⟨rfl, by assumption, rfl⟩
theorem t_X1_checkState {G : Gl} {h : Hp} {p : Prop} [Decidable p] : Ct G 6 7 yX1_checkState (Cond.code yX1_checkState cX1_checkState 1 (none)) [.int (iZ (bZ p))] h (jN (fun h' => h' = h ∧ p)) (xO eISE (¬ p) (· = h)) := by
  refine Ct.of (own := "CharterKiln") (nm := "checkState") (by decide +kernel) rfl rfl (L := [some (.int (iZ (bZ p)))]) rfl (Nat.le_of_ble_eq_true rfl) rfl ?_
  refine r_iload_n (pc := 0) dX1_checkState_0 rfl ?_
  refine r_ifB_ne (pc := 1) (tgt := 12) dX1_checkState_1 (by decide) (fun c1 => ?_) (fun c1 => ?_)
  · exact r_vret (pc := 12) dX1_checkState_12 rfl ⟨rfl, rfl, by assumption⟩
  · exact r_thr (pc := 4) dX1_checkState_4 dX1_checkState_7 dX1_checkState_8 dX1_checkState_11 ftISE q2185 q147 (atISE (wokA q2186 rfl)) rfl rfl (by decide) (Nat.le_of_ble_eq_true rfl) (Nat.le_of_ble_eq_true rfl) (Nat.le_of_ble_eq_true rfl) ⟨rfl, by assumption, rfl⟩
theorem t_X1_checkArticle {G : Gl} {h9 : Hp} {o s T : Nat} {v1 v2 v3 v4 v5 v6 v7 : Value} {r : Row} {al cl sl : Nat} {m1 m2 m3 : Int32} {n1 n2 E F : Nat → Nat} (hb9 : h9 o = some ((2, 0), ob 0 [.ref s, v1, v2, v3, v4, v5, v6, v7])) (hX9 : SWx G T s r al cl sl m1 m2 m3 n1 n2 E F h9) (hI : RI r) {a : Int} (ha : InR a) : Ct G 7 7 yX1_checkArticle (Cond.code yX1_checkArticle cX1_checkArticle 2 (none)) [.ref o, .int (iZ a)] h9 (jN (fun h' => h' = h9 ∧ (0 ≤ a ∧ a ≤ r 0 - 1))) (xO eIOB (¬ (0 ≤ a ∧ a ≤ r 0 - 1)) (· = h9)) := by
  have hF : Fr pQ h9 h9 := Fr.rf
  have hb := hb9
  have hX := hX9
  have b := hI.1
  have hX2 := hX
  obtain ⟨w1, w2, w3, w4, w5, w6, w7, w8⟩ := hX2
  obtain ⟨ar1, w2s⟩ := w2.size
  refine Ct.of (own := "CharterKiln") (nm := "checkArticle") (by decide +kernel) rfl rfl (L := [some (.ref o), some (.int (iZ a))]) rfl (Nat.le_of_ble_eq_true rfl) rfl ?_
  refine r_aload_n (pc := 0) dX1_checkArticle_0 rfl ?_
  refine gX1_10 (pc := 1) dX1_checkArticle_1 hb rfl ?_
  refine r_iload_n (pc := 4) dX1_checkArticle_4 rfl ?_
  refine r_callV (pc := 5) (kb' := 7) dX1_checkArticle_5 kX2_isArticle q1740 (t_X2_isArticle hX.w hI (by omega)) w1 rfl (Nat.le_refl _) (Nat.le_of_ble_eq_true rfl) rfl rfl (Nat.le_of_ble_eq_true rfl) (fun _ _ q => q.elim) (fun _ _ hq => ?_)
  refine go_jE hq ?_
  refine r_callS (pc := 8) (kb' := 0) dX1_checkArticle_8 kX1_checkIndex q1956 (t_X1_checkIndex ) (Nat.le_of_ble_eq_true rfl) (Nat.le_of_ble_eq_true rfl) rfl rfl (Nat.le_of_ble_eq_true rfl) (fun E h7 hx => x_out rfl hx) (fun _ h hq => ?_)
  refine go_jN hq (fun hq2 => ?_)
  obtain ⟨e9, hpos⟩ := hq2
  replace e9 := e9.symm
  subst e9
  exact r_vret (pc := 11) dX1_checkArticle_11 rfl ⟨rfl, rfl, hpos⟩
theorem t_X1_checkShelf {G : Gl} {h : Hp} {v : Int} (hv : InR v) : Ct G 7 7 yX1_checkShelf (Cond.code yX1_checkShelf cX1_checkShelf 1 (none)) [.int (iZ v)] h (jN (fun h' => h' = h ∧ (0 ≤ v ∧ v ≤ 2))) (xO eIOB (¬ (0 ≤ v ∧ v ≤ 2)) (· = h)) := by
  refine Ct.of (own := "CharterKiln") (nm := "checkShelf") (by decide +kernel) rfl rfl (L := [some (.int (iZ v))]) rfl (Nat.le_of_ble_eq_true rfl) rfl ?_
  refine r_iload_n (pc := 0) dX1_checkShelf_0 rfl ?_
  refine r_callS (pc := 1) (kb' := 7) dX1_checkShelf_1 kX1_isShelf q1570 (t_X1_isShelf (by omega)) (Nat.le_refl _) (Nat.le_of_ble_eq_true rfl) rfl rfl (Nat.le_of_ble_eq_true rfl) (fun _ _ q => q.elim) (fun _ _ hq => ?_)
  refine go_jE hq ?_
  refine r_callS (pc := 4) (kb' := 0) dX1_checkShelf_4 kX1_checkIndex q1956 (t_X1_checkIndex ) (Nat.le_of_ble_eq_true rfl) (Nat.le_of_ble_eq_true rfl) rfl rfl (Nat.le_of_ble_eq_true rfl) (fun E h7 hx => x_out rfl hx) (fun _ h hq => ?_)
  refine go_jN hq (fun hq2 => ?_)
  obtain ⟨e9, hpos⟩ := hq2
  replace e9 := e9.symm
  subst e9
  exact r_vret (pc := 7) dX1_checkShelf_7 rfl ⟨rfl, rfl, hpos⟩
theorem t_X1_checkHeat {G : Gl} {h : Hp} {v : Int} (hv : InR v) : Ct G 7 7 yX1_checkHeat (Cond.code yX1_checkHeat cX1_checkHeat 1 (none)) [.int (iZ v)] h (jN (fun h' => h' = h ∧ (10 ≤ v ∧ v ≤ 99))) (xO eIAE (¬ (10 ≤ v ∧ v ≤ 99)) (· = h)) := by
  refine Ct.of (own := "CharterKiln") (nm := "checkHeat") (by decide +kernel) rfl rfl (L := [some (.int (iZ v))]) rfl (Nat.le_of_ble_eq_true rfl) rfl ?_
  refine r_iload_n (pc := 0) dX1_checkHeat_0 rfl ?_
  refine r_bipush (pc := 1) dX1_checkHeat_1 (by decide) ?_
  refine r_bipush (pc := 3) dX1_checkHeat_3 (by decide) ?_
  refine r_callS (pc := 5) (kb' := 7) dX1_checkHeat_5 kX1_isBetween q1525 (t_X1_isBetween (lo := 10) (hi := 99) (by omega) (by omega) (by omega)) (Nat.le_refl _) (Nat.le_of_ble_eq_true rfl) rfl rfl (Nat.le_of_ble_eq_true rfl) (fun _ _ q => q.elim) (fun _ _ hq => ?_)
  refine go_jE hq ?_
  refine r_callS (pc := 8) (kb' := 0) dX1_checkHeat_8 kX1_check q1964 (t_X1_check ) (Nat.le_of_ble_eq_true rfl) (Nat.le_of_ble_eq_true rfl) rfl rfl (Nat.le_of_ble_eq_true rfl) (fun E h7 hx => x_out rfl hx) (fun _ h hq => ?_)
  refine go_jN hq (fun hq2 => ?_)
  obtain ⟨e9, hpos⟩ := hq2
  replace e9 := e9.symm
  subst e9
  exact r_vret (pc := 11) dX1_checkHeat_11 rfl ⟨rfl, rfl, hpos⟩
theorem t_X1_articleAt {G : Gl} {h9 : Hp} {o s T : Nat} {v1 v2 v3 v4 v5 v6 v7 : Value} {r : Row} {al cl sl : Nat} {m1 m2 m3 : Int32} {n1 n2 E F : Nat → Nat} (hb9 : h9 o = some ((2, 0), ob 0 [.ref s, v1, v2, v3, v4, v5, v6, v7])) (hX9 : SWx G T s r al cl sl m1 m2 m3 n1 n2 E F h9) (hI : RI r) {a : Int} (ha : 0 ≤ a ∧ a < r 0) : Ct G 4 0 yX1_articleAt (Cond.code yX1_articleAt cX1_articleAt 2 (some (.object "CharterKiln$Article"))) [.ref o, .int (iZ a)] h9 (jE (.ref (E a.toNat)) h9) noX := by
  have hF : Fr pQ h9 h9 := Fr.rf
  have hb := hb9
  have hX := hX9
  have b := hI.1
  have hX2 := hX
  obtain ⟨w1, w2, w3, w4, w5, w6, w7, w8⟩ := hX2
  obtain ⟨ar1, w2s⟩ := w2.size
  refine Ct.of (own := "CharterKiln") (nm := "articleAt") (by decide +kernel) rfl rfl (L := [some (.ref o), some (.int (iZ a))]) rfl (Nat.le_of_ble_eq_true rfl) rfl ?_
  refine r_aload_n (pc := 0) dX1_articleAt_0 rfl ?_
  refine gX1_10 (pc := 1) dX1_articleAt_1 hb rfl ?_
  refine gX1_95 (pc := 4) dX1_articleAt_4 w1 rfl ?_
  refine r_iload_n (pc := 7) dX1_articleAt_7 rfl ?_
  refine r_callV (pc := 8) (kb' := 0) dX1_articleAt_8 kJ2_get q1753 (t_J2_get w2 (by omega) (by omega)) w2s rfl (Nat.le_refl _) (Nat.le_of_ble_eq_true rfl) rfl rfl (Nat.le_of_ble_eq_true rfl) (fun _ _ q => q.elim) (fun _ _ hq => ?_)
  refine go_jE hq ?_
  refine go_cv (w := .ref (E a.toNat)) (by first | rfl | exact congrArg (fun q => Value.ref (E q)) (by omega)) ?_
  have ho := hI.2.1 ((a.toNat : Nat) : Int) (by omega) (by omega)
  have ho2 := ho
  unfold artOk at ho2
  refine r_cast (pc := 11) dX1_articleAt_11 q1039 (w5 a.toNat (by omega)) rfl ?_
  exact r_aret (pc := 14) dX1_articleAt_14 rfl (Or.inl ⟨_, rfl⟩) (Or.inr ⟨_, rfl⟩) ⟨rfl, rfl⟩
theorem kArt_0 {r : Row} {a w : Int} (h : 0 ≤ a ∧ a ≤ r 0 - 1) (hw : 0 ≤ w ∧ w ≤ 7) : kArt r a w = 0 := by unfold kArt; rw [if_neg (by omega), if_neg (by omega)]
theorem kArt_1 {r : Row} {a w : Int} (h : ¬ (0 ≤ a ∧ a ≤ r 0 - 1)) : kArt r a w = 1 := by unfold kArt; rw [if_pos h]
theorem kArt_2 {r : Row} {a w : Int} (h : 0 ≤ a ∧ a ≤ r 0 - 1) (hw : ¬ (0 ≤ w ∧ w ≤ 7)) : kArt r a w = 2 := by unfold kArt; rw [if_neg (by omega), if_pos hw]
theorem kShd_0 {r : Row} {a w : Int} (h : 0 ≤ a ∧ a ≤ r 2 - 1) (hw : 0 ≤ w ∧ w ≤ 2) : kShd r a w = 0 := by unfold kShd; rw [if_neg (by omega), if_neg (by omega)]
theorem kShd_1 {r : Row} {a w : Int} (h : ¬ (0 ≤ a ∧ a ≤ r 2 - 1)) : kShd r a w = 1 := by unfold kShd; rw [if_pos h]
theorem kShd_2 {r : Row} {a w : Int} (h : 0 ≤ a ∧ a ≤ r 2 - 1) (hw : ¬ (0 ≤ w ∧ w ≤ 2)) : kShd r a w = 2 := by unfold kShd; rw [if_neg (by omega), if_pos hw]
theorem kShf_0 {a w : Int} (h : 0 ≤ a ∧ a ≤ 2) (hw : 0 ≤ w ∧ w ≤ 3) : kShf a w = 0 := by unfold kShf; rw [if_neg (by omega), if_neg (by omega)]
theorem kShf_1 {a w : Int} (h : ¬ (0 ≤ a ∧ a ≤ 2)) : kShf a w = 1 := by unfold kShf; rw [if_pos h]
theorem kShf_2 {a w : Int} (h : 0 ≤ a ∧ a ≤ 2) (hw : ¬ (0 ≤ w ∧ w ≤ 3)) : kShf a w = 2 := by unfold kShf; rw [if_neg (by omega), if_pos hw]
theorem kHeat_0 {a w : Int} (h : 0 ≤ a ∧ a ≤ 2) (hw : 10 ≤ w ∧ w ≤ 99) : kHeat a w = 0 := by unfold kHeat; rw [if_neg (by omega), if_pos hw]
theorem kHeat_1 {a w : Int} (h : ¬ (0 ≤ a ∧ a ≤ 2)) : kHeat a w = 1 := by unfold kHeat; rw [if_pos h]
theorem kHeat_2 {a w : Int} (h : 0 ≤ a ∧ a ≤ 2) (hw : ¬ (10 ≤ w ∧ w ≤ 99)) : kHeat a w = 2 := by unfold kHeat; rw [if_neg (by omega), if_neg hw]
theorem kCrk_0 {r : Row} {a w : Int} (h : 0 ≤ a ∧ a ≤ r 0 - 1) (hw : 10 ≤ w ∧ w ≤ 99) : kCrk r a w = 0 := by unfold kCrk; rw [if_neg (by omega), if_pos hw]
theorem kCrk_1 {r : Row} {a w : Int} (h : ¬ (0 ≤ a ∧ a ≤ r 0 - 1)) : kCrk r a w = 1 := by unfold kCrk; rw [if_pos h]
theorem kCrk_2 {r : Row} {a w : Int} (h : 0 ≤ a ∧ a ≤ r 0 - 1) (hw : ¬ (10 ≤ w ∧ w ≤ 99)) : kCrk r a w = 2 := by unfold kCrk; rw [if_neg (by omega), if_neg hw]
theorem fnd_inj {N : Nat} {E : Nat → Nat} {j : Nat} (hj : j < N) (hE : ∀ i k : Nat, i < N → k < N → E i = E k → i = k) : fnd N (fun i => E i.toNat = E j) = j := by
  rcases fnd_r (p := fun i : Int => E i.toNat = E j) (N : Int).toNat 0 (by omega) with ⟨h1, h2⟩ | ⟨h1, h2, h3, h4⟩
  · exact absurd rfl (h2 j (by omega) (by omega))
  · have := hE _ j (by omega) hj h3
    unfold fnd
    omega
theorem pl_fnd {r : Row} {E : Nat → Nat} {a : Int} (hI : RI r) (ha : 0 ≤ a ∧ a < r 0) (hE : ∀ i k : Nat, i < (r 0).toNat → k < (r 0).toNat → E i = E k → i = k) : fnd ((r 1).toNat : Nat) (fun i => E (r (12 + (i.toNat : Nat))).toNat = E a.toNat) = plOf r a := by
  have b := hI.1
  have key : ∀ (n : Nat) (z : Int), 0 ≤ z → z + n = r 1 → fndZ (fun i : Int => E (r (12 + (i.toNat : Nat))).toNat = E a.toNat) z n = fndZ (fun k => r (12 + k) = a) z n := by
    intro n
    induction n with
    | zero => intro z _ _; rfl
    | succ n ih =>
      intro z hz hn
      have hl := hI.2.2.2.1 z hz (by omega)
      have e : (E (r (12 + (z.toNat : Nat))).toNat = E a.toNat) ↔ r (12 + z) = a := by
        rw [show ((z.toNat : Nat) : Int) = z by omega]
        constructor
        · intro q
          have := hE _ _ (by omega) (by omega) q
          omega
        · intro q; rw [q]
      show (if E (r (12 + (z.toNat : Nat))).toNat = E a.toNat then z else fndZ _ (z + 1) n) = if r (12 + z) = a then z else fndZ _ (z + 1) n
      rw [ih (z + 1) (by omega) (by omega)]
      by_cases q : r (12 + z) = a
      · rw [if_pos q, if_pos (e.mpr q)]
      · rw [if_neg q, if_neg (fun p => q (e.mp p))]
  unfold plOf fnd
  rw [show ((r 1).toNat : Int).toNat = (r 1).toNat by omega]
  exact key _ 0 (by omega) (by omega)
theorem t_X1_articleOf {G : Gl} {h9 : Hp} {o s T : Nat} {v1 v2 v3 v4 v5 v6 v7 : Value} {r : Row} {al cl sl : Nat} {m1 m2 m3 : Int32} {n1 n2 E F : Nat → Nat} (hb9 : h9 o = some ((2, 0), ob 0 [.ref s, v1, v2, v3, v4, v5, v6, v7])) (hX9 : SWx G T s r al cl sl m1 m2 m3 n1 n2 E F h9) (hI : RI r) {a w : Int} (ha : InR a) (hw : InR w) : Ct G 8 14 yX1_articleOf (Cond.code yX1_articleOf cX1_articleOf 4 (some .int)) [.ref o, .int (iZ a), .int (iZ w)] h9 (qQ (zArt r a w) (kArt r a w) (Fr pQ h9)) (qX (kArt r a w) eIOB eIAE (Fr pQ h9)) := by
  have hF : Fr pQ h9 h9 := Fr.rf
  have hb := hb9
  have hX := hX9
  have b := hI.1
  have hX2 := hX
  obtain ⟨w1, w2, w3, w4, w5, w6, w7, w8⟩ := hX2
  obtain ⟨ar1, w2s⟩ := w2.size
  refine Ct.of (own := "CharterKiln") (nm := "articleOf") (by decide +kernel) rfl rfl (L := [some (.ref o), some (.int (iZ a)), some (.int (iZ w)), none]) rfl (Nat.le_of_ble_eq_true rfl) rfl ?_
  refine r_aload_n (pc := 0) dX1_articleOf_0 rfl ?_
  refine r_iload_n (pc := 1) dX1_articleOf_1 rfl ?_
  refine r_callV (pc := 2) (kb' := 7) dX1_articleOf_2 kX1_checkArticle q1952 (t_X1_checkArticle hb hX hI (by omega)) hb rfl (Nat.le_of_ble_eq_true rfl) (Nat.le_of_ble_eq_true rfl) rfl rfl (Nat.le_of_ble_eq_true rfl) (fun E h7 hx => x_out rfl ⟨Or.inl ⟨hx.1, kArt_1 hx.2.1⟩, by rw [hx.2.2]; exact hF⟩) (fun _ h hq => ?_)
  refine go_jN hq (fun hq2 => ?_)
  obtain ⟨e9, hpa⟩ := hq2
  replace e9 := e9.symm
  subst e9
  refine r_iload_n (pc := 5) dX1_articleOf_5 rfl ?_
  refine r_iconst (pc := 6) dX1_articleOf_6 ?_
  refine r_bipush (pc := 7) dX1_articleOf_7 (by decide) ?_
  refine r_callS (pc := 9) (kb' := 7) dX1_articleOf_9 kX1_isBetween q1525 (t_X1_isBetween (lo := 0) (by omega) (by omega) (by omega)) (Nat.le_refl _) (Nat.le_of_ble_eq_true rfl) rfl rfl (Nat.le_of_ble_eq_true rfl) (fun _ _ q => q.elim) (fun _ _ hq => ?_)
  refine go_jE hq ?_
  refine r_callS (pc := 12) (kb' := 0) dX1_articleOf_12 kX1_check q1964 (t_X1_check ) (Nat.le_of_ble_eq_true rfl) (Nat.le_of_ble_eq_true rfl) rfl rfl (Nat.le_of_ble_eq_true rfl) (fun E h7 hx => x_out rfl ⟨Or.inr ⟨hx.1, kArt_2 hpa hx.2.1⟩, by rw [hx.2.2]; exact hF⟩) (fun _ h hq => ?_)
  refine go_jN hq (fun hq2 => ?_)
  obtain ⟨e9, hpw⟩ := hq2
  replace e9 := e9.symm
  subst e9
  refine r_aload_n (pc := 15) dX1_articleOf_15 rfl ?_
  refine r_iload_n (pc := 16) dX1_articleOf_16 rfl ?_
  refine r_callV (pc := 17) (kb' := 0) dX1_articleOf_17 kX1_articleAt q1749 (t_X1_articleAt hb hX hI (by omega)) hb rfl (Nat.le_refl _) (Nat.le_of_ble_eq_true rfl) rfl rfl (Nat.le_of_ble_eq_true rfl) (fun _ _ q => q.elim) (fun _ _ hq => ?_)
  refine go_jE hq ?_
  have ea : ((a.toNat : Nat) : Int) = a := by omega
  have ho := hI.2.1 a (by omega) (by omega)
  have ho2 := ho
  unfold artOk at ho2
  have hA5 := w5 a.toNat (by omega)
  rw [ea] at hA5
  refine r_astore_n (pc := 20) (L' := [_, _, _, _]) dX1_articleOf_20 rfl ?_
  refine r_iload_n (pc := 21) dX1_articleOf_21 rfl ?_
  by_cases w22_0 : w = 0
  · refine r_tableIn (pc := 22) (off := 42) (tgt := 64) dX1_articleOf_22 (by omega) (by omega) (by omega) (by rw [w22_0]; rfl) (by decide) ?_
    refine r_aload_n (pc := 64) dX1_articleOf_64 rfl ?_
    refine gX1_189 (pc := 65) dX1_articleOf_65 hA5 rfl ?_
    exact r_iret (pc := 68) dX1_articleOf_68 rfl rfl ⟨congrArg (fun q : Int => some (Value.int (iZ q))) (by unfold zArt; rw [if_neg (by omega), if_pos (show w = 0 by omega)]), kArt_0 (by omega) (by omega), hF⟩
  by_cases w22_1 : w = 1
  · refine r_tableIn (pc := 22) (off := 47) (tgt := 69) dX1_articleOf_22 (by omega) (by omega) (by omega) (by rw [w22_1]; rfl) (by decide) ?_
    refine r_aload_n (pc := 69) dX1_articleOf_69 rfl ?_
    refine gX1_164 (pc := 70) dX1_articleOf_70 hA5 rfl ?_
    exact r_iret (pc := 73) dX1_articleOf_73 rfl rfl ⟨congrArg (fun q : Int => some (Value.int (iZ q))) (by unfold zArt; rw [if_neg (by omega), if_neg (show ¬ w = 0 by omega), if_pos (show w = 1 by omega)]), kArt_0 (by omega) (by omega), hF⟩
  by_cases w22_2 : w = 2
  · refine r_tableIn (pc := 22) (off := 52) (tgt := 74) dX1_articleOf_22 (by omega) (by omega) (by omega) (by rw [w22_2]; rfl) (by decide) ?_
    refine r_aload_n (pc := 74) dX1_articleOf_74 rfl ?_
    refine gX1_193 (pc := 75) dX1_articleOf_75 hA5 rfl ?_
    exact r_iret (pc := 78) dX1_articleOf_78 rfl rfl ⟨congrArg (fun q : Int => some (Value.int (iZ q))) (by unfold zArt; rw [if_neg (by omega), if_neg (show ¬ w = 0 by omega), if_neg (show ¬ w = 1 by omega), if_pos (show w = 2 by omega)]), kArt_0 (by omega) (by omega), hF⟩
  by_cases w22_3 : w = 3
  · refine r_tableIn (pc := 22) (off := 57) (tgt := 79) dX1_articleOf_22 (by omega) (by omega) (by omega) (by rw [w22_3]; rfl) (by decide) ?_
    refine r_aload_n (pc := 79) dX1_articleOf_79 rfl ?_
    refine gX1_200 (pc := 80) dX1_articleOf_80 hA5 rfl ?_
    refine r_if_eq (pc := 83) (tgt := 90) dX1_articleOf_83 (by decide) (by omega) (fun c83 => ?_) (fun c83 => ?_)
    · refine r_iconst (pc := 90) dX1_articleOf_90 ?_
      exact r_iret (pc := 91) dX1_articleOf_91 rfl rfl ⟨congrArg (fun q : Int => some (Value.int (iZ q))) (by unfold zArt; rw [if_neg (by omega), if_neg (show ¬ w = 0 by omega), if_neg (show ¬ w = 1 by omega), if_neg (show ¬ w = 2 by omega), if_pos (show w = 3 by omega)]; omega), kArt_0 (by omega) (by omega), hF⟩
    · refine r_iconst (pc := 86) dX1_articleOf_86 ?_
      refine r_goto (pc := 87) (tgt := 91) dX1_articleOf_87 (by decide) ?_
      exact r_iret (pc := 91) dX1_articleOf_91 rfl rfl ⟨congrArg (fun q : Int => some (Value.int (iZ q))) (by unfold zArt; rw [if_neg (by omega), if_neg (show ¬ w = 0 by omega), if_neg (show ¬ w = 1 by omega), if_neg (show ¬ w = 2 by omega), if_pos (show w = 3 by omega)]; omega), kArt_0 (by omega) (by omega), hF⟩
  by_cases w22_4 : w = 4
  · refine r_tableIn (pc := 22) (off := 70) (tgt := 92) dX1_articleOf_22 (by omega) (by omega) (by omega) (by rw [w22_4]; rfl) (by decide) ?_
    refine r_aload_n (pc := 92) dX1_articleOf_92 rfl ?_
    refine gX1_167 (pc := 93) dX1_articleOf_93 hA5 rfl ?_
    exact r_iret (pc := 96) dX1_articleOf_96 rfl rfl ⟨congrArg (fun q : Int => some (Value.int (iZ q))) (by unfold zArt; rw [if_neg (by omega), if_neg (show ¬ w = 0 by omega), if_neg (show ¬ w = 1 by omega), if_neg (show ¬ w = 2 by omega), if_neg (show ¬ w = 3 by omega), if_pos (show w = 4 by omega)]), kArt_0 (by omega) (by omega), hF⟩
  by_cases w22_5 : w = 5
  · refine r_tableIn (pc := 22) (off := 75) (tgt := 97) dX1_articleOf_22 (by omega) (by omega) (by omega) (by rw [w22_5]; rfl) (by decide) ?_
    refine r_aload_n (pc := 97) dX1_articleOf_97 rfl ?_
    refine gX1_10 (pc := 98) dX1_articleOf_98 hb rfl ?_
    refine gX1_122 (pc := 101) dX1_articleOf_101 w1 rfl ?_
    refine r_aload_n (pc := 104) dX1_articleOf_104 rfl ?_
    refine r_callV (pc := 105) (kb' := 0) dX1_articleOf_105 kJ4_indexOf q1754 (t_J4_indexOf w3 hA5) w3.2.1 rfl (Nat.le_refl _) (Nat.le_of_ble_eq_true rfl) rfl rfl (Nat.le_of_ble_eq_true rfl) (fun _ _ q => q.elim) (fun _ _ hq => ?_)
    refine go_jE hq ?_
    refine go_cz (w := plOf r a) (pl_fnd hI (by omega) w7) ?_
    exact r_iret (pc := 108) dX1_articleOf_108 rfl rfl ⟨congrArg (fun q : Int => some (Value.int (iZ q))) (by unfold zArt; rw [if_neg (by omega), if_neg (show ¬ w = 0 by omega), if_neg (show ¬ w = 1 by omega), if_neg (show ¬ w = 2 by omega), if_neg (show ¬ w = 3 by omega), if_neg (show ¬ w = 4 by omega), if_pos (show w = 5 by omega)]), kArt_0 (by omega) (by omega), hF⟩
  by_cases w22_6 : w = 6
  · refine r_tableIn (pc := 22) (off := 87) (tgt := 109) dX1_articleOf_22 (by omega) (by omega) (by omega) (by rw [w22_6]; rfl) (by decide) ?_
    refine r_aload_n (pc := 109) dX1_articleOf_109 rfl ?_
    refine r_callV (pc := 110) (kb' := 0) dX1_articleOf_110 kX5_limit q1207 (t_X5_limit hA5 ho) hA5 rfl (Nat.le_refl _) (Nat.le_of_ble_eq_true rfl) rfl rfl (Nat.le_of_ble_eq_true rfl) (fun _ _ q => q.elim) (fun _ _ hq => ?_)
    refine go_jE hq ?_
    exact r_iret (pc := 113) dX1_articleOf_113 rfl rfl ⟨congrArg (fun q : Int => some (Value.int (iZ q))) (by unfold zArt; rw [if_neg (by omega), if_neg (show ¬ w = 0 by omega), if_neg (show ¬ w = 1 by omega), if_neg (show ¬ w = 2 by omega), if_neg (show ¬ w = 3 by omega), if_neg (show ¬ w = 4 by omega), if_neg (show ¬ w = 5 by omega), if_pos (show w = 6 by omega)]), kArt_0 (by omega) (by omega), hF⟩
  refine r_tableOut (pc := 22) (tgt := 114) dX1_articleOf_22 (by omega) (by omega) (by decide) ?_
  refine r_aload_n (pc := 114) dX1_articleOf_114 rfl ?_
  refine gX1_224 (pc := 115) dX1_articleOf_115 hA5 rfl ?_
  exact r_iret (pc := 118) dX1_articleOf_118 rfl rfl ⟨congrArg (fun q : Int => some (Value.int (iZ q))) (by unfold zArt; rw [if_neg (by omega), if_neg (show ¬ w = 0 by omega), if_neg (show ¬ w = 1 by omega), if_neg (show ¬ w = 2 by omega), if_neg (show ¬ w = 3 by omega), if_neg (show ¬ w = 4 by omega), if_neg (show ¬ w = 5 by omega), if_neg (show ¬ w = 6 by omega), if_pos (show w = 7 by omega)]), kArt_0 (by omega) (by omega), hF⟩
