set_option maxRecDepth 100000
/-! the class, part 9: what goes out of a state; a state is made, copied -/
section SWX
variable {G : Gl} {T s : Nat} {r r' : Row} {al cl sl : Nat} {m1 m2 m3 : Int32} {n1 n2 E F : Nat → Nat} {h h' : Hp}
theorem rm_ne {E : Nat → Nat} {n a : Nat} (hE : ∀ i j : Nat, i < n → j < n → E i = E j → i = j) : ∀ i j : Nat, i < n - 1 → j < n - 1 → rmF1 E a i = rmF1 E a j → i = j := by
  intro i j hi hj e
  unfold rmF1 at e
  by_cases h1 : i < a <;> by_cases h2 : j < a
  · rw [if_pos h1, if_pos h2] at e; exact hE i j (by omega) (by omega) e
  · rw [if_pos h1, if_neg h2] at e; have := hE i (j + 1) (by omega) (by omega) e; omega
  · rw [if_neg h1, if_pos h2] at e; have := hE (i + 1) j (by omega) (by omega) e; omega
  · rw [if_neg h1, if_neg h2] at e; have := hE (i + 1) (j + 1) (by omega) (by omega) e; omega
theorem tno {T a b : Nat} (h : a ≠ b) (h2 : a < 10) : ¬ (((T, a) : Tg) = (T, b) ∨ 10 ≤ a) := fun q => by
  rcases q with q | q
  · exact h (congrArg Prod.snd q)
  · omega
theorem tnoz {T b : Nat} (h : b ≠ 0) : ¬ (frz = ((T, b) : Tg) ∨ 10 ≤ 0) := fun q => by
  rcases q with q | q
  · exact h (congrArg Prod.snd q).symm
  · omega
/-- an article goes -/
theorem SWx.remA (hX : SWx G T s r al cl sl m1 m2 m3 n1 n2 E F h) {a : Int} {m1' : Int32} (ha : 0 ≤ a ∧ a < r 0) (b : r 0 ≤ 12 ∧ 0 ≤ r 1 ∧ r 1 ≤ 12 ∧ r 2 ≤ 8) (hA : AL G (T, 1) al m1' ((r 0).toNat - 1) (rmF1 E a.toNat) h') (hf : Fr (fun x => x = (T, 1) ∨ 10 ≤ x.2) h h')
    (hlaw : ∀ k, 0 ≤ k → k < r 1 → (0 ≤ r (12 + k) ∧ r (12 + k) < r 0) ∧ r (12 + k) ≠ a) : SWx G T s (goR r a) al cl sl m1' m2 m3 n1 n2 (rmF1 E a.toNat) F h' := by
  obtain ⟨w1, w2, w3, w4, w5, w6, w7, w8⟩ := hX
  have e0 : (goR r a 0).toNat = (r 0).toNat - 1 := by rw [go_0]; omega
  have g : ∀ i, 1 ≤ i ∧ i < 12 → goR r a i = r i := fun i hi => go_12 ha.1 ha.2 hi
  have e1 := g 1 (by omega)
  have e2 := g 2 (by omega)
  refine ⟨?_, by rw [e0]; exact hA, ?_, by rw [e2]; exact w4.fr hf (tno (by decide) (by decide)), ?_, ?_, by rw [e0]; exact rm_ne w7, by rw [e2]; exact w8⟩
  · rw [g 3 (by omega), g 4 (by omega), g 5 (by omega), g 6 (by omega), g 7 (by omega), g 8 (by omega), g 9 (by omega)]; exact hf.get w1 (tno (by decide) (by decide))
  · rw [e1]; exact (w3.fr hf (tno (by decide) (by decide))).cg (fun k hk => by
      have := hlaw k (by omega) (by omega)
      show rmF1 E a.toNat (goR r a (12 + (k : Int))).toNat = E (r (12 + (k : Int))).toNat
      rw [go_law (by omega)]
      by_cases q : a < r (12 + k)
      · rw [if_pos q, rm_ge (by omega)]; congr 1; omega
      · rw [if_neg q, rm_lt (by omega)])
  · intro i hi
    rw [e0] at hi
    rw [aC_cg (r' := goR r a) (r := r) (a := if (i : Int) < a then i else i + 1) (b := i) (fun w w0 w1 => go_art ha.1 ha.2 b.2.2.1 (by omega) ⟨w0, w1⟩)]
    by_cases q : i < a.toNat
    · rw [rm_lt q, if_pos (by omega)]; exact hf.get (w5 i (by omega)) (tno (by decide) (by decide))
    · rw [rm_ge (by omega), if_neg (by omega)]; exact hf.get (w5 (i + 1) (by omega)) (tno (by decide) (by decide))
  · intro i hi
    rw [e2] at hi
    rw [hf.get (w6 i hi) (tno (by decide) (by decide)), sC_cg (r' := goR r a) (r := r) (a := i) (b := i) (fun w w0 w1 => go_sh ha.1 ha.2 b.2.2.1 (by omega) ⟨w0, w1⟩)]
/-- a shard goes; that it is gone is counted later -/
def sg0 (r : Row) (t : Int) : Row := fun j => if j = 7 then r 7 else sgR r t j
theorem sg0_o {r : Row} {t j : Int} (ht : 0 ≤ t ∧ t < r 2) (h8 : r 2 ≤ 8) (hj : j < 26 ∨ 50 ≤ j) (h2 : j ≠ 2) : sg0 r t j = r j := by
  unfold sg0
  by_cases e : j = 7
  · rw [if_pos e, e]
  · rw [if_neg e]; exact sg_o ht h8 hj h2 e
theorem SWx.remS (hX : SWx G T s r al cl sl m1 m2 m3 n1 n2 E F h) {t : Int} {m3' : Int32} {n2' : Nat → Nat} (ht : 0 ≤ t ∧ t < r 2) (b : r 1 ≤ 12 ∧ r 2 ≤ 8) (hA : LL (T, 3) sl m3' ((r 2).toNat - 1) n2' (rmF1 F t.toNat) h') (hf : Fr (fun x => x = (T, 3) ∨ 10 ≤ x.2) h h') : SWx G T s (sg0 r t) al cl sl m1 m2 m3' n1 n2' E (rmF1 F t.toNat) h' := by
  obtain ⟨w1, w2, w3, w4, w5, w6, w7, w8⟩ := hX
  have g : ∀ j, (j < 26 ∨ 50 ≤ j) → j ≠ 2 → sg0 r t j = r j := fun j hj h2 => sg0_o ht b.2 hj h2
  have e0 := g 0 (by omega) (by omega)
  have e1 := g 1 (by omega) (by omega)
  have e2 : (sg0 r t 2).toNat = (r 2).toNat - 1 := by
    show (sgR r t 2).toNat = _
    rw [sg_2]; omega
  refine ⟨?_, by rw [e0]; exact w2.fr hf (tno (by decide) (by decide)) (tnoz (by decide)), ?_, by rw [e2]; exact hA, ?_, ?_, by rw [e0]; exact w7, by rw [e2]; exact rm_ne w8⟩
  · rw [g 3 (by omega) (by omega), g 4 (by omega) (by omega), g 5 (by omega) (by omega), g 6 (by omega) (by omega), g 7 (by omega) (by omega), g 8 (by omega) (by omega), g 9 (by omega) (by omega)]; exact hf.get w1 (tno (by decide) (by decide))
  · rw [e1]; exact (w3.fr hf (tno (by decide) (by decide))).cg (fun k hk => by show E (sg0 r t (12 + (k : Int))).toNat = E (r (12 + (k : Int))).toNat; rw [g (12 + k) (by omega) (by omega)])
  · intro i hi
    rw [e0] at hi
    rw [hf.get (w5 i hi) (tno (by decide) (by decide)), aC_cg (r' := sg0 r t) (r := r) (a := i) (b := i) (fun w w0 w1 => g _ (by omega) (by omega))]
  · intro i hi
    rw [e2] at hi
    rw [sC_cg (r' := sg0 r t) (r := r) (a := if (i : Int) < t then i else i + 1) (b := i) (fun w w0 w1 => by
      show sg0 r t (26 + 3 * i + w) = _
      unfold sg0
      rw [if_neg (by omega)]
      exact sg_fS ht b.2 (by omega) ⟨w0, w1⟩)]
    by_cases q : i < t.toNat
    · rw [rm_lt q, if_pos (by omega)]; exact hf.get (w6 i (by omega)) (tno (by decide) (by decide))
    · rw [rm_ge (by omega), if_neg (by omega)]; exact hf.get (w6 (i + 1) (by omega)) (tno (by decide) (by decide))
/-- a law goes -/
theorem SWx.remL (hX : SWx G T s r al cl sl m1 m2 m3 n1 n2 E F h) {p : Int} {m2' : Int32} {n1' : Nat → Nat} (hp : 0 ≤ p ∧ p < r 1) (b : r 1 ≤ 12 ∧ r 2 ≤ 8) (hA : LL (T, 2) cl m2' ((r 1).toNat - 1) n1' (rmF1 (fun k => E (r (12 + k)).toNat) p.toNat) h') (hf : Fr (fun x => x = (T, 2) ∨ 10 ≤ x.2) h h')
    (hr1 : r' 1 = r 1 - 1) (hrl : ∀ k, 0 ≤ k → k < r 1 - 1 → r' (12 + k) = r (12 + (if k < p then k else k + 1))) (hr : ∀ j, j ≠ 1 → (j < 12 ∨ 12 + r 1 ≤ j) → r' j = r j) : SWx G T s r' al cl sl m1 m2' m3 n1' n2 E F h' := by
  obtain ⟨w1, w2, w3, w4, w5, w6, w7, w8⟩ := hX
  have e0 := hr 0 (by omega) (by omega)
  have e1 : (r' 1).toNat = (r 1).toNat - 1 := by rw [hr1]; omega
  have e2 := hr 2 (by omega) (by omega)
  refine ⟨?_, by rw [e0]; exact w2.fr hf (tno (by decide) (by decide)) (tnoz (by decide)), ?_, by rw [e2]; exact w4.fr hf (tno (by decide) (by decide)), ?_, ?_, by rw [e0]; exact w7, by rw [e2]; exact w8⟩
  · rw [hr 3 (by omega) (by omega), hr 4 (by omega) (by omega), hr 5 (by omega) (by omega), hr 6 (by omega) (by omega), hr 7 (by omega) (by omega), hr 8 (by omega) (by omega), hr 9 (by omega) (by omega)]; exact hf.get w1 (tno (by decide) (by decide))
  · rw [e1]; exact hA.cg (fun k hk => by
      show E (r' (12 + (k : Int))).toNat = rmF1 (fun k => E (r (12 + k)).toNat) p.toNat k
      rw [hrl k (by omega) (by omega)]
      by_cases q : k < p.toNat
      · rw [rm_lt q, if_pos (by omega)]
      · rw [rm_ge (by omega), if_neg (by omega)]; rfl)
  · intro i hi
    rw [e0] at hi
    rw [hf.get (w5 i hi) (tno (by decide) (by decide)), aC_cg (r' := r') (r := r) (a := i) (b := i) (fun w w0 w1 => hr _ (by omega) (by omega))]
  · intro i hi
    rw [e2] at hi
    rw [hf.get (w6 i hi) (tno (by decide) (by decide)), sC_cg (r' := r') (r := r) (a := i) (b := i) (fun w w0 w1 => hr _ (by omega) (by omega))]
end SWX
theorem rfN_rm {n l : Nat} {nd : Nat → Nat} : rfN (l + 1 < n) (nd (l + 1)) = rfN (l < n - 1) (rmF1 nd l l) := by
  rw [rm_ge (Nat.le_refl l)]
  by_cases h : l + 1 < n
  · rw [rfN_t h, rfN_t (by omega)]
  · rw [rfN_f h, rfN_f (by omega)]
theorem LL.nil {t : Tg} {a : Nat} {nd e : Nat → Nat} {h : Hp} (ha : h a = some (t, ob 10 [.int (iZ 0), .int (iZ 0), .null, .null])) : LL t a (iZ 0) 0 nd e h := ⟨by omega, ha, fun i hi => absurd hi (by omega), fun i j hi => absurd hi (by omega)⟩
abbrev r0 : Row := fun _ => 0
abbrev z0 : Nat → Nat := fun _ => 0
/-- a copy, while it is made: k articles, l laws, m shards -/
def cpR (r : Row) (k l m : Int) : Row := fun j => if j = 0 then k else if j = 1 then l else if j = 2 then m else if 3 ≤ j ∧ j ≤ 9 then 0 else r j
theorem cp_o {r : Row} {k l m j : Int} (h : 9 < j) : cpR r k l m j = r j := by
  unfold cpR
  rw [if_neg (by omega), if_neg (by omega), if_neg (by omega), if_neg (by omega)]
theorem cp_9 {r : Row} {k l m j : Int} (h : 3 ≤ j ∧ j ≤ 9) : cpR r k l m j = 0 := by
  unfold cpR
  rw [if_neg (by omega), if_neg (by omega), if_neg (by omega), if_pos h]
abbrev pTQ (T : Nat) : Tg → Prop := fun t => t.1 = T ∨ pQ t
theorem pTQ_s {T T2 : Nat} (hT : T ≠ T2) : ∀ k, k < 10 → ¬ pTQ T2 (T, k) := by
  intro k hk q
  rcases q with q | q
  · exact hT q
  · exact absurd q.2 (by show ¬ 10 ≤ k; omega)
theorem pTQ_z {T2 : Nat} (h : T2 ≠ 0) : ¬ pTQ T2 frz := by
  intro q
  rcases q with q | q
  · exact h q.symm
  · exact pQ_z q
theorem pTQ_t {T k : Nat} : ∀ t : Tg, t = (T, k) → pTQ T t := by rintro _ rfl; exact Or.inl rfl

theorem t_X2_init {G : Gl} {h : Hp} {s T : Nat} (h1 : h s = some ((T, 0), ob 1 [.null, .null, .null, .int 0,.int 0,.int 0,.int 0,.int 0,.int 0,.int 0])) (ht : T ≠ 0) (hZ : FZ G h) : Ct G 5 14 yX2_init (Cond.code yX2_init cX2_init 1 (none)) [.ref s] h (jN (fun h' => (∃ al cl sl, SWx G T s r0 al cl sl (iZ 0) (iZ 0) (iZ 0) z0 z0 z0 z0 h') ∧ Kp s h h')) noX := by
  have hp := PW.one h1
  have hn1 := (ne_of h1 hZ.1 (by intro e; exact ht (congrArg (fun z => z.1.1) e)))
  refine Ct.of (own := "CharterKiln$State") (nm := "<init>") (by decide +kernel) rfl rfl (L := [some (.ref s)]) rfl (Nat.le_of_ble_eq_true rfl) rfl ?_
  refine r_aload_n (pc := 0) dX2_init_0 rfl ?_
  refine r_objInit (pc := 1) dX2_init_1 q176 q169 q170 (by decide) (Nat.le_of_ble_eq_true rfl) ?_
  refine r_aload_n (pc := 4) dX2_init_4 rfl ?_
  refine r_new (pc := 5) (ci := 8) (T := TJ2) (N := 3) ((T, 1)) [.int 0, .null, .int 0] (kb' := 10) dX2_init_5 rfl q177 q178 q110 (by intro j hj; revert j; decide +kernel) (Nat.le_of_ble_eq_true rfl) (fun al hal zal => ?_)
  have hal0 := (hp.ot ⟨ne_nw (hp.at 0 rfl) hal, trivial⟩).symm.trans hal
  refine go_pw (hp.new hal _) (fun h hp => ?_)
  refine r_dup (pc := 8) dX2_init_8 rfl ?_
  refine r_callI (pc := 9) (kb' := 10) dX2_init_9 kJ2_init q179 (t_J2_init (hp.at 1 rfl) (tnz (by decide)).symm) (Nat.le_refl _) (Nat.le_of_ble_eq_true rfl) rfl rfl (Nat.le_of_ble_eq_true rfl) (fun _ _ q => q.elim) (fun _ h hq => ?_)
  refine go_jN hq (fun e9 => ?_)
  subst e9
  refine go_pw (hp.put 1 rfl) (fun h hp => ?_)
  refine pX2_12 (pc := 12) dX2_init_12 rfl rfl rfl rfl (hp.at 0 rfl) (fun e => ht (congrArg Prod.fst e)) (Nat.le_of_ble_eq_true rfl) ?_
  refine go_pw (hp.put 0 rfl) (fun h hp => ?_)
  refine r_aload_n (pc := 15) dX2_init_15 rfl ?_
  refine r_new (pc := 16) (ci := 10) (T := TJ4) (N := 4) ((T, 2)) [.int 0, .int 0, .null, .null] (kb' := 5) dX2_init_16 rfl q210 q211 q112 (by intro j hj; revert j; decide +kernel) (Nat.le_of_ble_eq_true rfl) (fun cl hcl zcl => ?_)
  have hcl0 := (hp.ot ⟨ne_nw (hp.at 0 rfl) hcl, ne_nw (hp.at 1 rfl) hcl, trivial⟩).symm.trans hcl
  refine go_pw (hp.new hcl _) (fun h hp => ?_)
  refine r_dup (pc := 19) dX2_init_19 rfl ?_
  refine r_callI (pc := 20) (kb' := 5) dX2_init_20 kJ4_init q212 (t_J4_init (hp.at 2 rfl) (tnz (by decide)).symm) (Nat.le_refl _) (Nat.le_of_ble_eq_true rfl) rfl rfl (Nat.le_of_ble_eq_true rfl) (fun _ _ q => q.elim) (fun _ h hq => ?_)
  refine go_jN hq (fun e9 => ?_)
  subst e9
  refine go_pw (hp.put 2 rfl) (fun h hp => ?_)
  refine pX2_21 (pc := 23) dX2_init_23 rfl rfl rfl rfl (hp.at 0 rfl) (fun e => ht (congrArg Prod.fst e)) (Nat.le_of_ble_eq_true rfl) ?_
  refine go_pw (hp.put 0 rfl) (fun h hp => ?_)
  refine r_aload_n (pc := 26) dX2_init_26 rfl ?_
  refine r_new (pc := 27) (ci := 10) (T := TJ4) (N := 4) ((T, 3)) [.int 0, .int 0, .null, .null] (kb' := 0) dX2_init_27 rfl q210 q211 q112 (by intro j hj; revert j; decide +kernel) (Nat.le_of_ble_eq_true rfl) (fun sl hsl zsl => ?_)
  have hsl0 := (hp.ot ⟨ne_nw (hp.at 0 rfl) hsl, ne_nw (hp.at 1 rfl) hsl, ne_nw (hp.at 2 rfl) hsl, trivial⟩).symm.trans hsl
  refine go_pw (hp.new hsl _) (fun h hp => ?_)
  refine r_dup (pc := 30) dX2_init_30 rfl ?_
  refine r_callI (pc := 31) (kb' := 0) dX2_init_31 kJ4_init q212 (t_J4_init (hp.at 3 rfl) (tnz (by decide)).symm) (Nat.le_refl _) (Nat.le_of_ble_eq_true rfl) rfl rfl (Nat.le_of_ble_eq_true rfl) (fun _ _ q => q.elim) (fun _ h hq => ?_)
  refine go_jN hq (fun e9 => ?_)
  subst e9
  refine go_pw (hp.put 3 rfl) (fun h hp => ?_)
  refine pX2_25 (pc := 34) dX2_init_34 rfl rfl rfl rfl (hp.at 0 rfl) (fun e => ht (congrArg Prod.fst e)) (Nat.le_of_ble_eq_true rfl) ?_
  refine go_pw (hp.put 0 rfl) (fun h hp => ?_)
  exact r_vret (pc := 37) dX2_init_37 rfl ⟨rfl, ⟨al, cl, sl, hp.at 0 rfl, AL.new (hp.at 1 rfl) ((hp.ot ⟨hn1, (ne_nw hZ.1 hal0).symm, (ne_nw hZ.1 hcl0).symm, (ne_nw hZ.1 hsl0).symm, trivial⟩).trans hZ.1), LL.nil (hp.at 2 rfl), LL.nil (hp.at 3 rfl), fun i hi => absurd hi (Nat.not_lt_zero i), fun i hi => absurd hi (Nat.not_lt_zero i), fun i j hi => absurd hi (Nat.not_lt_zero i), fun i j hi => absurd hi (Nat.not_lt_zero i)⟩, fun b x hb hx => (hp.ot ⟨hb.symm, (ne_nw hx hal0).symm, (ne_nw hx hcl0).symm, (ne_nw hx hsl0).symm, trivial⟩).trans hx⟩
