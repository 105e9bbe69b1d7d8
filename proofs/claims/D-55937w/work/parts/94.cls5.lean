set_option maxRecDepth 100000
theorem cuX1_312_10 {G : Gl} : CUok G "CharterKiln" "java/util/LinkedList" "java/util/AbstractSequentialList" 312 ⟨"java/util/LinkedList", "iterator", "()Ljava/util/Iterator;"⟩ yJ3_iterator cJ3_iterator 1 (some (.object "java/util/Iterator")) 0 := cu_U q1190 q1191 q1078 q1080 q1193 ⟨q1078, q111, q1080, ⟨by decide, by decide⟩, by decide +kernel, by decide⟩
theorem f3 : Cond.selects "java/util/LinkedList$ListItr" ⟨"java/util/Iterator", "hasNext", "()Z"⟩ yJ31_hasNext ∈ lw_all ∧ Cond.instanceMethod yJ31_hasNext ∈ lw_all ∧ Cond.initialized yJ31_hasNext.cls ∈ lw_all ∧ Cond.code yJ31_hasNext cJ31_hasNext 1 (some .boolean) ∈ lw_all ∧ hdOk ⟨"java/util/Iterator", "hasNext", "()Z"⟩ 0 ∧ 1 ≤ 21 := ⟨q523, q525, q144, q527, ⟨by decide, by decide, by decide +kernel⟩, by decide⟩
theorem f4 : Cond.selects "java/util/LinkedList$ListItr" ⟨"java/util/Iterator", "next", "()Ljava/lang/Object;"⟩ yJ31_next ∈ lw_all ∧ Cond.instanceMethod yJ31_next ∈ lw_all ∧ Cond.initialized yJ31_next.cls ∈ lw_all ∧ Cond.code yJ31_next cJ31_next 1 (some (.object "java/lang/Object")) ∈ lw_all ∧ hdOk ⟨"java/util/Iterator", "next", "()Ljava/lang/Object;"⟩ 0 ∧ 1 ≤ 21 := ⟨q1027, q1029, q144, q1031, ⟨by decide, by decide, by decide +kernel⟩, by decide⟩
/-! the class, part 5: precedents, orders of articles -/
def amO (r : Row) (s a : Int) : Int := if fA r a 4 < 0 then 0 else shA (fS r s 0) (fA r a 0) (fA r a 2)
theorem amO_in {r : Row} {s a : Int} (ho : artOk r a) (hs : shOk r s) : 0 ≤ amO r s a ∧ amO r s a ≤ 3 := by
  unfold artOk at ho
  unfold shOk at hs
  have := shA_in (c := fS r s 0) (d := fA r a 0) (x := fA r a 2) (by omega) (by omega) (by omega)
  unfold amO
  split <;> omega
theorem amO_Z {r : Row} {s a : Int} (hI : RI r) (hs : 0 ≤ s ∧ s < r 2) (ha : 0 ≤ a ∧ a < r 0) : amO r s a = amZ r s a := by
  have ho := hI.2.1 a ha.1 ha.2
  have hso := hI.2.2.1 s hs.1 hs.2
  unfold artOk at ho
  unfold shOk at hso
  have hap := ap_in (x := fS r s 0) (y := fA r a 0) (by omega) (by omega)
  unfold amZ amO refCite ciN shA leZ
  show _ = if rfB (if ¬ (0 ≤ s ∧ s ≤ r 2 - 1) then some (2, s) else if ¬ (0 ≤ a ∧ a ≤ r 0 - 1) then some (2, a) else if fA r a 4 < 0 then some (4, plOf r a) else if fA r a 2 = 0 then some (10, fA r a 1) else if 2 < apt r s a then some (11, apt r s a) else none) = 0 then _ else _
  rw [if_neg (show ¬ ¬ (0 ≤ s ∧ s ≤ r 2 - 1) by omega), if_neg (show ¬ ¬ (0 ≤ a ∧ a ≤ r 0 - 1) by omega)]
  have e : apt r s a = apZ (fS r s 0) (fA r a 0) := rfl
  rw [e]
  generalize apZ (fS r s 0) (fA r a 0) = p at hap
  by_cases h1 : fA r a 4 < 0
  · rw [if_pos h1, if_pos h1, if_neg (show ¬ rfB (some (4, plOf r a)) = 0 from (by show ¬ (1 : Int) = 0; decide))]
  · rw [if_neg h1, if_neg h1]
    by_cases h2 : fA r a 2 = 0
    · rw [if_pos h2, if_neg (show ¬ rfB (some (10, fA r a 1)) = 0 from (by show ¬ (1 : Int) = 0; decide))]
      (repeat' split) <;> omega
    · rw [if_neg h2]
      by_cases h3 : 2 < p
      · rw [if_pos h3, if_pos h3, if_neg (show ¬ rfB (some (11, p)) = 0 from (by show ¬ (1 : Int) = 0; decide))]
      · rw [if_neg h3, if_neg h3, if_pos (show rfB none = 0 by rfl)]
/-- one shard is better than another -/
abbrev btO (r : Row) (x y a : Int) : Prop := amO r y a < amO r x a ∨ (amO r x a = amO r y a ∧ fS r y 1 < fS r x 1)
/-- the best of the first n, by the class's own choice -/
def cbS (r : Row) (a : Int) : Nat → Int
  | 0 => -1
  | n + 1 => if cbS r a n < 0 ∨ btO r n (cbS r a n) a then n else cbS r a n
theorem cb_in {r : Row} {a : Int} : ∀ n : Nat, -1 ≤ cbS r a n ∧ cbS r a n < n ∧ (0 < n → 0 ≤ cbS r a n)
  | 0 => ⟨Int.le_refl _, by show (-1 : Int) < 0; omega, fun h => absurd h (by omega)⟩
  | n + 1 => by
    have := cb_in (r := r) (a := a) n
    show -1 ≤ (if cbS r a n < 0 ∨ btO r n (cbS r a n) a then (n : Int) else cbS r a n) ∧ (if cbS r a n < 0 ∨ btO r n (cbS r a n) a then (n : Int) else cbS r a n) < _ ∧ (_ → 0 ≤ (if cbS r a n < 0 ∨ btO r n (cbS r a n) a then (n : Int) else cbS r a n))
    by_cases h : cbS r a n < 0 ∨ btO r n (cbS r a n) a
    · rw [if_pos h]; omega
    · rw [if_neg h]; omega
theorem bf_cb {r : Row} {a : Int} (hI : RI r) (ha : 0 ≤ a ∧ a < r 0) : ∀ n : Nat, (n : Int) ≤ r 2 → bfS r a n = if 0 ≤ cbS r a n ∧ 0 < amO r (cbS r a n) a then cbS r a n else -1
  | 0, _ => rfl
  | n + 1, hn => by
    have ih := bf_cb hI ha n (by omega)
    have hc := cb_in (r := r) (a := a) n
    have hZ := amO_Z hI (s := n) (by omega) ha
    have hN := amO_in (hI.2.1 a ha.1 ha.2) (hI.2.2.1 n (by omega) (by omega))
    show (if betP r a (bfS r a n) n then (n : Int) else bfS r a n) = if 0 ≤ (if cbS r a n < 0 ∨ btO r n (cbS r a n) a then (n : Int) else cbS r a n) ∧ 0 < amO r (if cbS r a n < 0 ∨ btO r n (cbS r a n) a then (n : Int) else cbS r a n) a then (if cbS r a n < 0 ∨ btO r n (cbS r a n) a then (n : Int) else cbS r a n) else -1
    rw [ih]
    by_cases h0 : cbS r a n < 0
    · rw [if_neg (show ¬ (0 ≤ cbS r a n ∧ 0 < amO r (cbS r a n) a) by omega), if_pos (Or.inl h0)]
      by_cases g : 0 < amO r n a
      · rw [if_pos (show betP r a (-1) n from ⟨by omega, Or.inl (by omega)⟩), if_pos (by omega)]
      · rw [if_neg (show ¬ betP r a (-1) n from fun q => by have := q.1; omega), if_neg (by omega)]
    · have hZc := amO_Z hI (s := cbS r a n) (by omega) ha
      have hNc := amO_in (hI.2.1 a ha.1 ha.2) (hI.2.2.1 (cbS r a n) (by omega) (by omega))
      by_cases g : 0 < amO r (cbS r a n) a
      · rw [if_pos (show 0 ≤ cbS r a n ∧ 0 < amO r (cbS r a n) a by omega)]
        by_cases t : btO r n (cbS r a n) a
        · rw [if_pos (Or.inr t), if_pos (show betP r a (cbS r a n) n from ⟨by omega, by omega⟩), if_pos (by omega)]
        · rw [if_neg (show ¬ (cbS r a n < 0 ∨ btO r n (cbS r a n) a) by omega), if_neg (show ¬ betP r a (cbS r a n) n from fun q => by have := q.2; omega), if_pos (by omega)]
      · rw [if_neg (show ¬ (0 ≤ cbS r a n ∧ 0 < amO r (cbS r a n) a) by omega)]
        by_cases g2 : 0 < amO r n a
        · rw [if_pos (show betP r a (-1) n from ⟨by omega, Or.inl (by omega)⟩), if_pos (Or.inr (Or.inl (by omega))), if_pos (by omega)]
        · rw [if_neg (show ¬ betP r a (-1) n from fun q => by have := q.1; omega)]
          by_cases t : cbS r a n < 0 ∨ btO r n (cbS r a n) a
          · rw [if_pos t, if_neg (by omega)]
          · rw [if_neg t, if_neg (by omega)]

theorem t_X1_amendsOf {G : Gl} {h : Hp} {x y : Nat} {tx ty : Tg} {r : Row} {s a : Int} (hs : h x = some (tx, sC r s)) (ha : h y = some (ty, aC r a)) (hso : shOk r s) (ho : artOk r a) : Ct G 3 0 yX1_amendsOf (Cond.code yX1_amendsOf cX1_amendsOf 2 (some .int)) [.ref x, .ref y] h (jE (.int (iZ (amO r s a))) h) noX := by
  have ho2 := ho
  unfold artOk at ho2
  have hso2 := hso
  unfold shOk at hso2
  refine Ct.of (own := "CharterKiln") (nm := "amendsOf") (by decide +kernel) rfl rfl (L := [some (.ref x), some (.ref y)]) rfl (Nat.le_of_ble_eq_true rfl) rfl ?_
  refine r_aload_n (pc := 0) dX1_amendsOf_0 rfl ?_
  refine r_callV (pc := 1) (kb' := 0) dX1_amendsOf_1 kX5_isLaw q1206 (t_X5_isLaw ha (by omega)) ha rfl (Nat.le_refl _) (Nat.le_of_ble_eq_true rfl) rfl rfl (Nat.le_of_ble_eq_true rfl) (fun _ _ q => q.elim) (fun _ _ hq => ?_)
  refine go_jE hq ?_
  refine r_ifB_eq (pc := 4) (tgt := 11) dX1_amendsOf_4 (by decide) (fun c4 => ?_) (fun c4 => ?_)
  · refine r_aload_n (pc := 11) dX1_amendsOf_11 rfl ?_
    refine r_aload_n (pc := 12) dX1_amendsOf_12 rfl ?_
    refine gX1_189 (pc := 13) dX1_amendsOf_13 ha rfl ?_
    refine r_aload_n (pc := 16) dX1_amendsOf_16 rfl ?_
    refine gX1_193 (pc := 17) dX1_amendsOf_17 ha rfl ?_
    refine r_callV (pc := 20) (kb' := 0) dX1_amendsOf_20 kX6_amends q2112 (t_X6_amends hs (by omega) (by omega) (by omega)) hs rfl (Nat.le_refl _) (Nat.le_of_ble_eq_true rfl) rfl rfl (Nat.le_of_ble_eq_true rfl) (fun _ _ q => q.elim) (fun _ _ hq => ?_)
    refine go_jE hq ?_
    exact r_iret (pc := 23) dX1_amendsOf_23 rfl rfl ⟨congrArg (fun q : Int => some (Value.int (iZ q))) (by unfold amO; first | rw [if_pos (show fA r a 4 < 0 by omega)] | rw [if_neg (show ¬ fA r a 4 < 0 by omega)]), rfl⟩
  · refine r_iconst (pc := 7) dX1_amendsOf_7 ?_
    refine r_goto (pc := 8) (tgt := 23) dX1_amendsOf_8 (by decide) ?_
    exact r_iret (pc := 23) dX1_amendsOf_23 rfl rfl ⟨congrArg (fun q : Int => some (Value.int (iZ q))) (by unfold amO; first | rw [if_pos (show fA r a 4 < 0 by omega)] | rw [if_neg (show ¬ fA r a 4 < 0 by omega)]), rfl⟩
theorem t_X1_isBetter {G : Gl} {h : Hp} {x z y : Nat} {tx tz ty : Tg} {r : Row} {s u a : Int} (hs : h x = some (tx, sC r s)) (hu : h z = some (tz, sC r u)) (ha : h y = some (ty, aC r a)) (hso : shOk r s) (huo : shOk r u) (ho : artOk r a) : Ct G 4 0 yX1_isBetter (Cond.code yX1_isBetter cX1_isBetter 4 (some .boolean)) [.ref x, .ref z, .ref y] h (jE (.int (iZ (bZ (btO r s u a)))) h) noX := by
  have ho2 := ho
  unfold artOk at ho2
  have hso2 := hso
  unfold shOk at hso2
  have huo2 := huo
  unfold shOk at huo2
  have a1 := amO_in ho hso
  have a2 := amO_in ho huo
  refine Ct.of (own := "CharterKiln") (nm := "isBetter") (by decide +kernel) rfl rfl (L := [some (.ref x), some (.ref z), some (.ref y), none]) rfl (Nat.le_of_ble_eq_true rfl) rfl ?_
  refine r_aload_n (pc := 0) dX1_isBetter_0 rfl ?_
  refine r_aload_n (pc := 1) dX1_isBetter_1 rfl ?_
  refine r_callS (pc := 2) (kb' := 0) dX1_isBetter_2 kX1_amendsOf q2109 (t_X1_amendsOf hs ha hso ho) (Nat.le_refl _) (Nat.le_of_ble_eq_true rfl) rfl rfl (Nat.le_of_ble_eq_true rfl) (fun _ _ q => q.elim) (fun _ _ hq => ?_)
  refine go_jE hq ?_
  refine r_aload_n (pc := 5) dX1_isBetter_5 rfl ?_
  refine r_aload_n (pc := 6) dX1_isBetter_6 rfl ?_
  refine r_callS (pc := 7) (kb' := 0) dX1_isBetter_7 kX1_amendsOf q2109 (t_X1_amendsOf hu ha huo ho) (Nat.le_refl _) (Nat.le_of_ble_eq_true rfl) rfl rfl (Nat.le_of_ble_eq_true rfl) (fun _ _ q => q.elim) (fun _ _ hq => ?_)
  refine go_jE hq ?_
  refine r_isub (pc := 10) dX1_isBetter_10 ?_
  refine r_istore_n (pc := 11) (L' := [_, _, _, _]) dX1_isBetter_11 rfl ?_
  refine r_iload_n (pc := 12) dX1_isBetter_12 rfl ?_
  refine r_if_gt (pc := 13) (tgt := 31) dX1_isBetter_13 (by decide) (by omega) (fun c13 => ?_) (fun c13 => ?_)
  · refine r_iconst (pc := 31) dX1_isBetter_31 ?_
    refine r_goto (pc := 32) (tgt := 36) dX1_isBetter_32 (by decide) ?_
    exact r_iret (pc := 36) dX1_isBetter_36 rfl (nB' (by first | (left; rfl) | (right; rfl) | exact bZ_01' _ | omega)) ⟨by rw [bZ_t (show btO r s u a by omega)], rfl⟩
  · refine r_iload_n (pc := 16) dX1_isBetter_16 rfl ?_
    refine r_if_ne (pc := 17) (tgt := 35) dX1_isBetter_17 (by decide) (by omega) (fun c17 => ?_) (fun c17 => ?_)
    · refine r_iconst (pc := 35) dX1_isBetter_35 ?_
      exact r_iret (pc := 36) dX1_isBetter_36 rfl (nB' (by first | (left; rfl) | (right; rfl) | exact bZ_01' _ | omega)) ⟨by rw [bZ_f (show ¬ btO r s u a by omega)], rfl⟩
    · refine r_aload_n (pc := 20) dX1_isBetter_20 rfl ?_
      refine gX1_227 (pc := 21) dX1_isBetter_21 hs rfl ?_
      refine r_aload_n (pc := 24) dX1_isBetter_24 rfl ?_
      refine gX1_227 (pc := 25) dX1_isBetter_25 hu rfl ?_
      refine r_icmp_le (pc := 28) (tgt := 35) dX1_isBetter_28 (by decide) (by omega) (by omega) (fun c28 => ?_) (fun c28 => ?_)
      · refine r_iconst (pc := 35) dX1_isBetter_35 ?_
        exact r_iret (pc := 36) dX1_isBetter_36 rfl (nB' (by first | (left; rfl) | (right; rfl) | exact bZ_01' _ | omega)) ⟨by rw [bZ_f (show ¬ btO r s u a by omega)], rfl⟩
      · refine r_iconst (pc := 31) dX1_isBetter_31 ?_
        refine r_goto (pc := 32) (tgt := 36) dX1_isBetter_32 (by decide) ?_
        exact r_iret (pc := 36) dX1_isBetter_36 rfl (nB' (by first | (left; rfl) | (right; rfl) | exact bZ_01' _ | omega)) ⟨by rw [bZ_t (show btO r s u a by omega)], rfl⟩
theorem t_X1_amends {G : Gl} {h9 : Hp} {o s T : Nat} {v1 v2 v3 v4 v5 v6 v7 : Value} {r : Row} {al cl sl : Nat} {m1 m2 m3 : Int32} {n1 n2 E F : Nat → Nat} (hb9 : h9 o = some ((2, 0), ob 0 [.ref s, v1, v2, v3, v4, v5, v6, v7])) (hX9 : SWx G T s r al cl sl m1 m2 m3 n1 n2 E F h9) (hI : RI r) {x a : Int} (hx9 : InR x) (ha : InR a) : Ct G 8 14 yX1_amends (Cond.code yX1_amends cX1_amends 3 (some .int)) [.ref o, .int (iZ x), .int (iZ a)] h9 (qQ (zAmd r x a) (kAmd r x a) (Fr pQ h9)) (qX (kAmd r x a) eIOB "" (Fr pQ h9)) := by
  have hF : Fr pQ h9 h9 := Fr.rf
  have hb := hb9
  have hX := hX9
  have b := hI.1
  have hX2 := hX
  obtain ⟨w1, w2, w3, w4, w5, w6, w7, w8⟩ := hX2
  obtain ⟨ar1, w2s⟩ := w2.size
  refine Ct.of (own := "CharterKiln") (nm := "amends") (by decide +kernel) rfl rfl (L := [some (.ref o), some (.int (iZ x)), some (.int (iZ a))]) rfl (Nat.le_of_ble_eq_true rfl) rfl ?_
  refine r_aload_n (pc := 0) dX1_amends_0 rfl ?_
  refine gX1_10 (pc := 1) dX1_amends_1 hb rfl ?_
  refine r_iload_n (pc := 4) dX1_amends_4 rfl ?_
  refine r_callV (pc := 5) (kb' := 14) dX1_amends_5 kX2_isShard q1893 (t_X2_isShard hX.w hI (by omega)) w1 rfl (Nat.le_refl _) (Nat.le_of_ble_eq_true rfl) rfl rfl (Nat.le_of_ble_eq_true rfl) (fun _ _ q => q.elim) (fun _ _ hq => ?_)
  refine go_jE hq ?_
  refine r_callS (pc := 8) (kb' := 7) dX1_amends_8 kX1_checkIndex q1956 (t_X1_checkIndex ) (Nat.le_of_ble_eq_true rfl) (Nat.le_of_ble_eq_true rfl) rfl rfl (Nat.le_of_ble_eq_true rfl) (fun E h7 hx => x_out rfl ⟨Or.inl ⟨hx.1, if_neg (fun q => hx.2.1 q.1)⟩, by rw [hx.2.2]; exact hF⟩) (fun _ h hq => ?_)
  refine go_jN hq (fun hq2 => ?_)
  obtain ⟨e9, hpx⟩ := hq2
  replace e9 := e9.symm
  subst e9
  refine r_aload_n (pc := 11) dX1_amends_11 rfl ?_
  refine r_iload_n (pc := 12) dX1_amends_12 rfl ?_
  refine r_callV (pc := 13) (kb' := 0) dX1_amends_13 kX1_checkArticle q1952 (t_X1_checkArticle hb hX hI (by omega)) hb rfl (Nat.le_of_ble_eq_true rfl) (Nat.le_of_ble_eq_true rfl) rfl rfl (Nat.le_of_ble_eq_true rfl) (fun E h7 hx => x_out rfl ⟨Or.inl ⟨hx.1, if_neg (fun q => hx.2.1 q.2)⟩, by rw [hx.2.2]; exact hF⟩) (fun _ h hq => ?_)
  refine go_jN hq (fun hq2 => ?_)
  obtain ⟨e9, hpa⟩ := hq2
  replace e9 := e9.symm
  subst e9
  refine r_aload_n (pc := 16) dX1_amends_16 rfl ?_
  refine gX1_10 (pc := 17) dX1_amends_17 hb rfl ?_
  refine gX1_180 (pc := 20) dX1_amends_20 w1 rfl ?_
  refine r_iload_n (pc := 23) dX1_amends_23 rfl ?_
  refine go_cz (w := ((x.toNat : Nat) : Int)) (by omega) ?_
  refine r_callV (pc := 24) (kb' := 0) dX1_amends_24 kJ4_get q1897 (t_J4_get w4 (i := x.toNat) (by omega)) w4.2.1 rfl (Nat.le_refl _) (Nat.le_of_ble_eq_true rfl) rfl rfl (Nat.le_of_ble_eq_true rfl) (fun _ _ q => q.elim) (fun _ _ hq => ?_)
  refine go_jE hq ?_
  have hS6 := w6 x.toNat (by omega)
  rw [show ((x.toNat : Nat) : Int) = x by omega] at hS6
  have hso := hI.2.2.1 x (by omega) (by omega)
  have hso2 := hso
  unfold shOk at hso2
  refine r_cast (pc := 27) dX1_amends_27 q1282 hS6 rfl ?_
  refine r_aload_n (pc := 30) dX1_amends_30 rfl ?_
  refine r_iload_n (pc := 31) dX1_amends_31 rfl ?_
  refine r_callV (pc := 32) (kb' := 0) dX1_amends_32 kX1_articleAt q1749 (t_X1_articleAt hb hX hI (by omega)) hb rfl (Nat.le_refl _) (Nat.le_of_ble_eq_true rfl) rfl rfl (Nat.le_of_ble_eq_true rfl) (fun _ _ q => q.elim) (fun _ _ hq => ?_)
  refine go_jE hq ?_
  have ea : ((a.toNat : Nat) : Int) = a := by omega
  have ho := hI.2.1 a (by omega) (by omega)
  have ho2 := ho
  unfold artOk at ho2
  have hA5 := w5 a.toNat (by omega)
  rw [ea] at hA5
  refine r_callS (pc := 35) (kb' := 0) dX1_amends_35 kX1_amendsOf q2109 (t_X1_amendsOf hS6 hA5 hso ho) (Nat.le_refl _) (Nat.le_of_ble_eq_true rfl) rfl rfl (Nat.le_of_ble_eq_true rfl) (fun _ _ q => q.elim) (fun _ _ hq => ?_)
  refine go_jE hq ?_
  exact r_iret (pc := 38) dX1_amends_38 rfl rfl ⟨congrArg (fun q : Int => some (Value.int (iZ q))) (by unfold zAmd; rw [if_pos (show kAmd r x a = 0 from if_pos ⟨hpx, hpa⟩)]; exact amO_Z hI (by omega) (by omega)), if_pos ⟨hpx, hpa⟩, hF⟩
theorem kBes_2 {r : Row} {a : Int} (h : 0 ≤ a ∧ a ≤ r 0 - 1) (e : bfZ r a = -1) : kBes r a = 2 := by
  unfold kBes
  rw [if_neg (by omega), e, if_pos (by decide)]
theorem kBes_0 {r : Row} {a c : Int} (h : 0 ≤ a ∧ a ≤ r 0 - 1) (e : bfZ r a = c) (h0 : 0 ≤ c) : kBes r a = 0 ∧ zBes r a = c := by
  unfold kBes zBes
  rw [if_neg (by omega), if_neg (by omega), if_neg (by omega), if_neg (by omega)]
  exact ⟨rfl, e⟩
theorem t_X1_bestShard {G : Gl} {h9 : Hp} {o s T : Nat} {v1 v2 v3 v4 v5 v6 v7 : Value} {r : Row} {al cl sl : Nat} {m1 m2 m3 : Int32} {n1 n2 E F : Nat → Nat} (hb9 : h9 o = some ((2, 0), ob 0 [.ref s, v1, v2, v3, v4, v5, v6, v7])) (hX9 : SWx G T s r al cl sl m1 m2 m3 n1 n2 E F h9) (hI : RI r) {a : Int} (ha : InR a) : Ct G 8 20 yX1_bestShard (Cond.code yX1_bestShard cX1_bestShard 6 (some .int)) [.ref o, .int (iZ a)] h9 (qQ (zBes r a) (kBes r a) (Fr pQ h9)) (qX (kBes r a) eIOB eNSE (Fr pQ h9)) := by
  have hF : Fr pQ h9 h9 := Fr.rf
  have hb := hb9
  have hX := hX9
  have b := hI.1
  have hX2 := hX
  obtain ⟨w1, w2, w3, w4, w5, w6, w7, w8⟩ := hX2
  obtain ⟨ar1, w2s⟩ := w2.size
  have hp := PW.nil (h := h9)
  refine Ct.of (own := "CharterKiln") (nm := "bestShard") (by decide +kernel) rfl rfl (L := [some (.ref o), some (.int (iZ a)), none, none, none, none]) rfl (Nat.le_of_ble_eq_true rfl) rfl ?_
  refine r_aload_n (pc := 0) dX1_bestShard_0 rfl ?_
  refine r_iload_n (pc := 1) dX1_bestShard_1 rfl ?_
  refine r_callV (pc := 2) (kb' := 13) dX1_bestShard_2 kX1_checkArticle q1952 (t_X1_checkArticle hb hX hI (by omega)) hb rfl (Nat.le_of_ble_eq_true rfl) (Nat.le_of_ble_eq_true rfl) rfl rfl (Nat.le_of_ble_eq_true rfl) (fun E h7 hx => x_out rfl ⟨Or.inl ⟨hx.1, by unfold kBes; rw [if_pos hx.2.1]⟩, by rw [hx.2.2]; exact hF⟩) (fun _ h hq => ?_)
  refine go_jN hq (fun hq2 => ?_)
  obtain ⟨e9, hpa⟩ := hq2
  replace e9 := e9.symm
  subst e9
  refine r_aload_n (pc := 5) dX1_bestShard_5 rfl ?_
  refine r_iload_n (pc := 6) dX1_bestShard_6 rfl ?_
  refine r_callV (pc := 7) (kb' := 13) dX1_bestShard_7 kX1_articleAt q1749 (t_X1_articleAt hb hX hI (by omega)) hb rfl (Nat.le_refl _) (Nat.le_of_ble_eq_true rfl) rfl rfl (Nat.le_of_ble_eq_true rfl) (fun _ _ q => q.elim) (fun _ _ hq => ?_)
  refine go_jE hq ?_
  have ea : ((a.toNat : Nat) : Int) = a := by omega
  have ho := hI.2.1 a (by omega) (by omega)
  have ho2 := ho
  unfold artOk at ho2
  have hA5 := w5 a.toNat (by omega)
  rw [ea] at hA5
  refine r_astore_n (pc := 10) (L' := [_, _, _, _, _, _]) dX1_bestShard_10 rfl ?_
  refine r_null (pc := 11) dX1_bestShard_11 ?_
  refine r_astore_nN (pc := 12) (L' := [_, _, _, _, _, _]) dX1_bestShard_12 rfl ?_
  refine r_aload_n (pc := 13) dX1_bestShard_13 rfl ?_
  refine gX1_10 (pc := 14) dX1_bestShard_14 hb rfl ?_
  refine gX1_180 (pc := 17) dX1_bestShard_17 w1 rfl ?_
  refine r_callG (pc := 20) (kb' := 7) dX1_bestShard_20 cuX1_312_10 (t_J3_iterator (3, 12) (by decide) w4) w4.2.1 rfl (Nat.le_of_ble_eq_true rfl) (Nat.le_of_ble_eq_true rfl) rfl rfl (Nat.le_of_ble_eq_true rfl) (fun _ _ q => q.elim) (fun _ h hq => ?_)
  refine go_jX hq (fun it hit => ?_)
  obtain ⟨hit, e9⟩ := hit
  subst e9
  refine go_pw (hp.new hit _) (fun h hp => ?_)
  refine r_astore (pc := 23) (L' := [_, _, _, _, _, _]) dX1_bestShard_23 rfl ?_
  have loop25 : ∀ (k25 : Nat) (k : Nat) (lv : Value) (h : Hp) (c : Int) (bv : Value), (k ≤ (r 2).toNat) → (PW [(it, (3, 12), ob 11 [lv, rfN (k < (r 2).toNat) (n2 k), .int (iZ k), .int m3, .ref sl])] h9 h) → (c = cbS r a k) → (bv = rfN (0 ≤ c) (F c.toNat)) → (r 2).toNat - k < k25 → Go G "CharterKiln" cX1_bestShard (6, some .int, "bestShard", []) 8 20 (qQ (zBes r a) (kBes r a) (Fr pQ h9)) ((qX (kBes r a) eIOB eNSE (Fr pQ h9))) 7 h 25 [some (.ref o), some (.int (iZ a)), some (.ref (E a.toNat)), some bv, some (.ref it), none] [] := by
    intro k25
    induction k25 with
    | zero => intro k lv h c bv hk hp hc hbv hk; omega
    | succ k25 ih25 =>
      intro k lv h c bv hk hp hc hbv hk25
      have hF := hp.fr (P := pQ) ⟨Or.inl hit, trivial⟩
      have hb := hF.get hb9 pQ_2
      have hX := hX9.q hF
      have hX2 := hX
      obtain ⟨w1, w2, w3, w4, w5, w6, w7, w8⟩ := hX2
      obtain ⟨ar1, w2s⟩ := w2.size
      have hci := cb_in (r := r) (a := a) k
      rw [← hc] at hci
      have hA5 := w5 a.toNat (by omega)
      rw [ea] at hA5
      have hB6 : 0 ≤ c → h (F c.toNat) = some ((T, 5), sC r c) := fun c0 => by
        have := w6 c.toNat (by omega)
        rwa [show ((c.toNat : Nat) : Int) = c by omega] at this
      have hbf := bf_cb hI (a := a) (by omega) k (by omega)
      rw [← hc] at hbf
      rcases (show c < 0 ∨ 0 ≤ c by omega) with c0 | c0
      · rw [hbv, rfN_f (show ¬ 0 ≤ c by omega)]
        refine r_aload (pc := 25) dX1_bestShard_25 rfl ?_
        refine r_callF (pc := 27) (kb' := 7) dX1_bestShard_27 3 rfl f3 q489 (t_J31_hasNext (hp.at 0 rfl) w4 (by omega)) (hp.at 0 rfl) rfl (Nat.le_refl _) (Nat.le_of_ble_eq_true rfl) rfl rfl (Nat.le_of_ble_eq_true rfl) (fun _ _ q => q.elim) (fun _ _ hq => ?_)
        refine go_jE hq ?_
        refine r_ifB_eq (pc := 32) (tgt := 71) dX1_bestShard_32 (by decide) (fun c32 => ?_) (fun c32 => ?_)
        · refine r_aload_nN (pc := 71) dX1_bestShard_71 rfl ?_
          refine r_ifnullN (pc := 72) (tgt := 87) dX1_bestShard_72 (by decide) ?_
          refine r_iconst (pc := 87) dX1_bestShard_87 ?_
          refine go_cz (w := bZ (0 ≤ c ∧ 0 < amO r c a)) (bZ_f (by omega)).symm ?_
          refine r_callS (pc := 88) (kb' := 0) dX1_bestShard_88 kX1_checkElement q2017 (t_X1_checkElement (p := 0 ≤ c ∧ 0 < amO r c a)) (Nat.le_of_ble_eq_true rfl) (Nat.le_of_ble_eq_true rfl) rfl rfl (Nat.le_of_ble_eq_true rfl) (fun E h7 hx => x_out rfl ⟨Or.inr ⟨hx.1, kBes_2 hpa (by unfold bfZ; rw [show (r 2).toNat = k by omega, hbf, if_neg hx.2.1])⟩, by rw [hx.2.2]; exact hF⟩) (fun _ h hq => ?_)
          refine go_jN hq (fun hq2 => ?_)
          obtain ⟨e9, hpx⟩ := hq2
          replace e9 := e9.symm
          subst e9
          exact absurd hpx.1 (by omega)
        · refine r_aload (pc := 35) dX1_bestShard_35 rfl ?_
          refine r_callF (pc := 37) (kb' := 7) dX1_bestShard_37 4 rfl f4 q529 (t_J31_next (hp.at 0 rfl) w4 (by omega) (by decide)) (hp.at 0 rfl) rfl (Nat.le_refl _) (Nat.le_of_ble_eq_true rfl) rfl rfl (Nat.le_of_ble_eq_true rfl) (fun _ _ q => q.elim) (fun _ h hq => ?_)
          refine go_jP hq (fun e9 => ?_)
          subst e9
          refine go_pw (hp.put 0 rfl) (fun h hp => ?_)
          have hF := hp.fr (P := pQ) ⟨Or.inl hit, trivial⟩
          have hb := hF.get hb9 pQ_2
          have hX := hX9.q hF
          have hX2 := hX
          obtain ⟨w1, w2, w3, w4, w5, w6, w7, w8⟩ := hX2
          obtain ⟨ar1, w2s⟩ := w2.size
          have hso := hI.2.2.1 ((k : Nat) : Int) (by omega) (by omega)
          have hso2 := hso
          unfold shOk at hso2
          have hA5 := w5 a.toNat (by omega)
          rw [ea] at hA5
          have hB6 : 0 ≤ c → h (F c.toNat) = some ((T, 5), sC r c) := fun c0 => by
            have := w6 c.toNat (by omega)
            rwa [show ((c.toNat : Nat) : Int) = c by omega] at this
          refine r_cast (pc := 42) dX1_bestShard_42 q1282 (w6 k (by omega)) rfl ?_
          refine r_astore (pc := 45) (L' := [_, _, _, _, _, _]) dX1_bestShard_45 rfl ?_
          refine r_aload_nN (pc := 47) dX1_bestShard_47 rfl ?_
          refine r_ifnullN (pc := 48) (tgt := 61) dX1_bestShard_48 (by decide) ?_
          refine r_aload (pc := 61) dX1_bestShard_61 rfl ?_
          refine r_goto (pc := 63) (tgt := 67) dX1_bestShard_63 (by decide) ?_
          refine r_astore_n (pc := 67) (L' := [_, _, _, _, _, _]) dX1_bestShard_67 rfl ?_
          refine r_goto (pc := 68) (tgt := 25) dX1_bestShard_68 (by decide) ?_
          refine goL (L' := [some (.ref o), some (.int (iZ a)), some (.ref (E a.toNat)), some _, some (.ref it), none]) ⟨rfl, rfl, rfl, rfl, rfl, trivial⟩ ?_
          exact ih25 (k + 1) (.ref (n2 k)) h (k : Int) (.ref (F k)) (by omega) hp (by show _ = (if cbS r a k < 0 ∨ btO r k (cbS r a k) a then (k : Int) else cbS r a k); rw [← hc, if_pos (by first | exact Or.inl c0 | exact Or.inr (by first | assumption | exact Classical.not_not.mp (by assumption)))]) (rfN_t (by omega)).symm (by omega)
      · rw [hbv, rfN_t c0]
        have hbo := hI.2.2.1 c c0 (by omega)
        have hbo2 := hbo
        unfold shOk at hbo2
        have ham := amO_in ho hbo
        refine r_aload (pc := 25) dX1_bestShard_25 rfl ?_
        refine r_callF (pc := 27) (kb' := 7) dX1_bestShard_27 3 rfl f3 q489 (t_J31_hasNext (hp.at 0 rfl) w4 (by omega)) (hp.at 0 rfl) rfl (Nat.le_refl _) (Nat.le_of_ble_eq_true rfl) rfl rfl (Nat.le_of_ble_eq_true rfl) (fun _ _ q => q.elim) (fun _ _ hq => ?_)
        refine go_jE hq ?_
        refine r_ifB_eq (pc := 32) (tgt := 71) dX1_bestShard_32 (by decide) (fun c32 => ?_) (fun c32 => ?_)
        · refine r_aload_n (pc := 71) dX1_bestShard_71 rfl ?_
          refine r_ifnull (pc := 72) dX1_bestShard_72 ?_
          refine r_aload_n (pc := 75) dX1_bestShard_75 rfl ?_
          refine r_aload_n (pc := 76) dX1_bestShard_76 rfl ?_
          refine r_callS (pc := 77) (kb' := 7) dX1_bestShard_77 kX1_amendsOf q2109 (t_X1_amendsOf (hB6 c0) hA5 hbo ho) (Nat.le_refl _) (Nat.le_of_ble_eq_true rfl) rfl rfl (Nat.le_of_ble_eq_true rfl) (fun _ _ q => q.elim) (fun _ _ hq => ?_)
          refine go_jE hq ?_
          refine r_if_le (pc := 80) (tgt := 87) dX1_bestShard_80 (by decide) (by omega) (fun c80 => ?_) (fun c80 => ?_)
          · refine r_iconst (pc := 87) dX1_bestShard_87 ?_
            refine go_cz (w := bZ (0 ≤ c ∧ 0 < amO r c a)) (bZ_f (by omega)).symm ?_
            refine r_callS (pc := 88) (kb' := 0) dX1_bestShard_88 kX1_checkElement q2017 (t_X1_checkElement (p := 0 ≤ c ∧ 0 < amO r c a)) (Nat.le_of_ble_eq_true rfl) (Nat.le_of_ble_eq_true rfl) rfl rfl (Nat.le_of_ble_eq_true rfl) (fun E h7 hx => x_out rfl ⟨Or.inr ⟨hx.1, kBes_2 hpa (by unfold bfZ; rw [show (r 2).toNat = k by omega, hbf, if_neg hx.2.1])⟩, by rw [hx.2.2]; exact hF⟩) (fun _ h hq => ?_)
            refine go_jN hq (fun hq2 => ?_)
            obtain ⟨e9, hpx⟩ := hq2
            replace e9 := e9.symm
            subst e9
            rw [if_pos hpx] at hbf
            have hbz : bfZ r a = c := by unfold bfZ; rw [show (r 2).toNat = k by omega, hbf]
            refine r_aload_n (pc := 91) dX1_bestShard_91 rfl ?_
            refine gX1_10 (pc := 92) dX1_bestShard_92 hb rfl ?_
            refine gX1_180 (pc := 95) dX1_bestShard_95 w1 rfl ?_
            refine r_aload_n (pc := 98) dX1_bestShard_98 rfl ?_
            refine r_callV (pc := 99) (kb' := 0) dX1_bestShard_99 kJ4_indexOf q1754 (t_J4_indexOfS w4 (hB6 c0)) w4.2.1 rfl (Nat.le_refl _) (Nat.le_of_ble_eq_true rfl) rfl rfl (Nat.le_of_ble_eq_true rfl) (fun _ _ q => q.elim) (fun _ _ hq => ?_)
            refine go_jE hq ?_
            refine go_cz (w := c) ((fnd_inj (by omega) w8).trans (by omega)) ?_
            exact r_iret (pc := 102) dX1_bestShard_102 rfl rfl ⟨congrArg (fun q : Int => some (Value.int (iZ q))) ((kBes_0 hpa hbz hpx.1).2.symm), (kBes_0 hpa hbz hpx.1).1, hF⟩
          · refine r_iconst (pc := 83) dX1_bestShard_83 ?_
            refine go_cz (w := bZ (0 ≤ c ∧ 0 < amO r c a)) (bZ_t (by omega)).symm ?_
            refine r_goto (pc := 84) (tgt := 88) dX1_bestShard_84 (by decide) ?_
            refine r_callS (pc := 88) (kb' := 0) dX1_bestShard_88 kX1_checkElement q2017 (t_X1_checkElement (p := 0 ≤ c ∧ 0 < amO r c a)) (Nat.le_of_ble_eq_true rfl) (Nat.le_of_ble_eq_true rfl) rfl rfl (Nat.le_of_ble_eq_true rfl) (fun E h7 hx => x_out rfl ⟨Or.inr ⟨hx.1, kBes_2 hpa (by unfold bfZ; rw [show (r 2).toNat = k by omega, hbf, if_neg hx.2.1])⟩, by rw [hx.2.2]; exact hF⟩) (fun _ h hq => ?_)
            refine go_jN hq (fun hq2 => ?_)
            obtain ⟨e9, hpx⟩ := hq2
            replace e9 := e9.symm
            subst e9
            rw [if_pos hpx] at hbf
            have hbz : bfZ r a = c := by unfold bfZ; rw [show (r 2).toNat = k by omega, hbf]
            refine r_aload_n (pc := 91) dX1_bestShard_91 rfl ?_
            refine gX1_10 (pc := 92) dX1_bestShard_92 hb rfl ?_
            refine gX1_180 (pc := 95) dX1_bestShard_95 w1 rfl ?_
            refine r_aload_n (pc := 98) dX1_bestShard_98 rfl ?_
            refine r_callV (pc := 99) (kb' := 0) dX1_bestShard_99 kJ4_indexOf q1754 (t_J4_indexOfS w4 (hB6 c0)) w4.2.1 rfl (Nat.le_refl _) (Nat.le_of_ble_eq_true rfl) rfl rfl (Nat.le_of_ble_eq_true rfl) (fun _ _ q => q.elim) (fun _ _ hq => ?_)
            refine go_jE hq ?_
            refine go_cz (w := c) ((fnd_inj (by omega) w8).trans (by omega)) ?_
            exact r_iret (pc := 102) dX1_bestShard_102 rfl rfl ⟨congrArg (fun q : Int => some (Value.int (iZ q))) ((kBes_0 hpa hbz hpx.1).2.symm), (kBes_0 hpa hbz hpx.1).1, hF⟩
        · refine r_aload (pc := 35) dX1_bestShard_35 rfl ?_
          refine r_callF (pc := 37) (kb' := 7) dX1_bestShard_37 4 rfl f4 q529 (t_J31_next (hp.at 0 rfl) w4 (by omega) (by decide)) (hp.at 0 rfl) rfl (Nat.le_refl _) (Nat.le_of_ble_eq_true rfl) rfl rfl (Nat.le_of_ble_eq_true rfl) (fun _ _ q => q.elim) (fun _ h hq => ?_)
          refine go_jP hq (fun e9 => ?_)
          subst e9
          refine go_pw (hp.put 0 rfl) (fun h hp => ?_)
          have hF := hp.fr (P := pQ) ⟨Or.inl hit, trivial⟩
          have hb := hF.get hb9 pQ_2
          have hX := hX9.q hF
          have hX2 := hX
          obtain ⟨w1, w2, w3, w4, w5, w6, w7, w8⟩ := hX2
          obtain ⟨ar1, w2s⟩ := w2.size
          have hso := hI.2.2.1 ((k : Nat) : Int) (by omega) (by omega)
          have hso2 := hso
          unfold shOk at hso2
          have hA5 := w5 a.toNat (by omega)
          rw [ea] at hA5
          have hB6 : 0 ≤ c → h (F c.toNat) = some ((T, 5), sC r c) := fun c0 => by
            have := w6 c.toNat (by omega)
            rwa [show ((c.toNat : Nat) : Int) = c by omega] at this
          refine r_cast (pc := 42) dX1_bestShard_42 q1282 (w6 k (by omega)) rfl ?_
          refine r_astore (pc := 45) (L' := [_, _, _, _, _, _]) dX1_bestShard_45 rfl ?_
          refine r_aload_n (pc := 47) dX1_bestShard_47 rfl ?_
          refine r_ifnull (pc := 48) dX1_bestShard_48 ?_
          refine r_aload (pc := 51) dX1_bestShard_51 rfl ?_
          refine r_aload_n (pc := 53) dX1_bestShard_53 rfl ?_
          refine r_aload_n (pc := 54) dX1_bestShard_54 rfl ?_
          refine r_callS (pc := 55) (kb' := 7) dX1_bestShard_55 kX1_isBetter q2120 (t_X1_isBetter (w6 k (by omega)) (hB6 c0) hA5 hso hbo ho) (Nat.le_refl _) (Nat.le_of_ble_eq_true rfl) rfl rfl (Nat.le_of_ble_eq_true rfl) (fun _ _ q => q.elim) (fun _ _ hq => ?_)
          refine go_jE hq ?_
          refine r_ifB_eq (pc := 58) (tgt := 66) dX1_bestShard_58 (by decide) (fun c58 => ?_) (fun c58 => ?_)
          · refine r_aload_n (pc := 66) dX1_bestShard_66 rfl ?_
            refine r_astore_n (pc := 67) (L' := [_, _, _, _, _, _]) dX1_bestShard_67 rfl ?_
            refine r_goto (pc := 68) (tgt := 25) dX1_bestShard_68 (by decide) ?_
            refine goL (L' := [some (.ref o), some (.int (iZ a)), some (.ref (E a.toNat)), some _, some (.ref it), none]) ⟨rfl, rfl, rfl, rfl, rfl, trivial⟩ ?_
            exact ih25 (k + 1) (.ref (n2 k)) h c (.ref (F c.toNat)) (by omega) hp (by show _ = (if cbS r a k < 0 ∨ btO r k (cbS r a k) a then (k : Int) else cbS r a k); rw [← hc, if_neg (fun q => by rcases q with q | q; omega; exact absurd q (by first | assumption | exact fun w => absurd w (by assumption)))]) (rfN_t c0).symm (by omega)
          · refine r_aload (pc := 61) dX1_bestShard_61 rfl ?_
            refine r_goto (pc := 63) (tgt := 67) dX1_bestShard_63 (by decide) ?_
            refine r_astore_n (pc := 67) (L' := [_, _, _, _, _, _]) dX1_bestShard_67 rfl ?_
            refine r_goto (pc := 68) (tgt := 25) dX1_bestShard_68 (by decide) ?_
            refine goL (L' := [some (.ref o), some (.int (iZ a)), some (.ref (E a.toNat)), some _, some (.ref it), none]) ⟨rfl, rfl, rfl, rfl, rfl, trivial⟩ ?_
            exact ih25 (k + 1) (.ref (n2 k)) h (k : Int) (.ref (F k)) (by omega) hp (by show _ = (if cbS r a k < 0 ∨ btO r k (cbS r a k) a then (k : Int) else cbS r a k); rw [← hc, if_pos (by first | exact Or.inl c0 | exact Or.inr (by first | assumption | exact Classical.not_not.mp (by assumption)))]) (rfN_t (by omega)).symm (by omega)
  exact loop25 _ 0 .null _ (-1) .null (by omega) hp rfl rfl (Nat.lt_succ_self _)
