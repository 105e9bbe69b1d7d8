set_option maxRecDepth 100000
/-! the class, part 15: the object; refusing; a change is kept -/
abbrev KX : Type := Row × Option Row × Nat × (Nat → Row) × Nat × (Nat → Int) × Nat × (Nat → Int) × Int × Int × Option ((Int × Int) × Rf)
abbrev KX.r (X : KX) : Row := X.1
abbrev KX.sv (X : KX) : Option Row := X.2.1
abbrev KX.hn (X : KX) : Nat := X.2.2.1
abbrev KX.hr (X : KX) : Nat → Row := X.2.2.2.1
abbrev KX.iN (X : KX) : Nat := X.2.2.2.2.1
abbrev KX.iC (X : KX) : Nat → Int := X.2.2.2.2.2.1
abbrev KX.lN (X : KX) : Nat := X.2.2.2.2.2.2.1
abbrev KX.lC (X : KX) : Nat → Int := X.2.2.2.2.2.2.2.1
abbrev KX.wi (X : KX) : Int := X.2.2.2.2.2.2.2.2.1
abbrev KX.fp (X : KX) : Int := X.2.2.2.2.2.2.2.2.2.1
abbrev KX.rs (X : KX) : Option ((Int × Int) × Rf) := X.2.2.2.2.2.2.2.2.2.2
abbrev KX.wR (X : KX) (r : Row) : KX := (r, X.2)
abbrev KX.wS (X : KX) (o : Option Row) : KX := (X.1, o, X.2.2)
abbrev KX.wH (X : KX) (n : Nat) (f : Nat → Row) : KX := (X.1, X.2.1, n, f, X.2.2.2.2)
abbrev KX.wI (X : KX) (n : Nat) (c : Nat → Int) : KX := (X.1, X.2.1, X.2.2.1, X.2.2.2.1, n, c, X.2.2.2.2.2.2)
abbrev KX.wL (X : KX) (n : Nat) (c : Nat → Int) : KX := (X.1, X.2.1, X.2.2.1, X.2.2.2.1, X.2.2.2.2.1, X.2.2.2.2.2.1, n, c, X.2.2.2.2.2.2.2.2)
abbrev KX.wW (X : KX) (z : Int) : KX := (X.1, X.2.1, X.2.2.1, X.2.2.2.1, X.2.2.2.2.1, X.2.2.2.2.2.1, X.2.2.2.2.2.2.1, X.2.2.2.2.2.2.2.1, z, X.2.2.2.2.2.2.2.2.2)
abbrev KX.wF (X : KX) (z : Int) : KX := (X.1, X.2.1, X.2.2.1, X.2.2.2.1, X.2.2.2.2.1, X.2.2.2.2.2.1, X.2.2.2.2.2.2.1, X.2.2.2.2.2.2.2.1, X.2.2.2.2.2.2.2.2.1, z, X.2.2.2.2.2.2.2.2.2.2)
abbrev KX.wE (X : KX) (e : Option ((Int × Int) × Rf)) : KX := (X.1, X.2.1, X.2.2.1, X.2.2.2.1, X.2.2.2.2.1, X.2.2.2.2.2.1, X.2.2.2.2.2.2.1, X.2.2.2.2.2.2.2.1, X.2.2.2.2.2.2.2.2.1, X.2.2.2.2.2.2.2.2.2.1, e)
def SVW (G : Gl) (v : Value) (T : Nat) (o : Option Row) (h : Hp) : Prop := match o with
  | none => v = .null
  | some r => ∃ s, v = .ref s ∧ SW G T s r h
def RW (v : Value) (o : Option ((Int × Int) × Rf)) (h : Hp) : Prop := match o with
  | none => v = .null
  | some (p, none) => ∃ q, v = .ref q ∧ h q = some ((2, 4), ob 3 [.int (iZ p.1), .int (iZ p.2), .null])
  | some (p, some p2) => ∃ q q2, v = .ref q ∧ h q = some ((2, 4), ob 3 [.int (iZ p.1), .int (iZ p.2), .ref q2]) ∧ h q2 = some ((2, 4), ob 3 [.int (iZ p2.1), .int (iZ p2.2), .null])
def TG (Tc Tv : Nat) (HT : Nat → Nat) (n : Nat) : Prop := 10 ≤ Tc ∧ 10 ≤ Tv ∧ Tc ≠ Tv ∧ (∀ i, i < n → 10 ≤ HT i ∧ HT i ≠ Tc ∧ HT i ≠ Tv) ∧ ∀ i j, i < n → j < n → HT i = HT j → i = j
def KWx (G : Gl) (o : Nat) (X : KX) (s : Nat) (vs : Value) (hq ip ln : Nat) (rv : Value) (Tc Tv : Nat) (HT he : Nat → Nat) (h : Hp) : Prop :=
  h o = some ((2, 0), ob 0 [.ref s, vs, .ref hq, .ref ip, .ref ln, .int (iZ X.wi), .int (iZ X.fp), rv]) ∧ SW G Tc s X.r h ∧ SVW G vs Tv X.sv h ∧ AD (2, 1) hq X.hn he h ∧ (∀ i, i < X.hn → SW G (HT i) (he i) (X.hr i) h) ∧ SB (2, 2) ip X.iN X.iC h ∧ SB (2, 3) ln X.lN X.lC h ∧ RW rv X.rs h ∧ TG Tc Tv HT X.hn
def KW (G : Gl) (o : Nat) (X : KX) (h : Hp) : Prop := ∃ s vs hq ip ln rv Tc Tv HT he, KWx G o X s vs hq ip ln rv Tc Tv HT he h
/-- all that the object owns, and temporaries -/
abbrev pC : Tg → Prop := fun t => t.1 = 2 ∨ t.1 = 3 ∨ t.1 = 4 ∨ 10 ≤ t.1
theorem pQ_C : ∀ t, pQ t → pC t := fun t q => Or.inr (Or.inl q.1)
theorem pTQ_C {T : Nat} (hT : 10 ≤ T) : ∀ t, pTQ T t → pC t := fun t q => q.elim (fun e => Or.inr (Or.inr (Or.inr (e ▸ hT)))) (fun q => Or.inr (Or.inl q.1))
theorem SVW.fr {G : Gl} {v : Value} {T : Nat} {o : Option Row} {h h' : Hp} {P : Tg → Prop} (hS : SVW G v T o h) (hf : Fr P h h') (h1 : ∀ k, k < 10 → ¬ P (T, k)) (h0 : ¬ P frz) : SVW G v T o h' := by
  cases o with
  | none => exact hS
  | some r =>
    obtain ⟨s, e, w⟩ := hS
    exact ⟨s, e, w.fr hf h1 h0⟩
theorem RW.fr {v : Value} {o : Option ((Int × Int) × Rf)} {h h' : Hp} {P : Tg → Prop} (hS : RW v o h) (hf : Fr P h h') (h1 : ¬ P (2, 4)) : RW v o h' := by
  rcases o with _ | ⟨p, _ | p2⟩
  · exact hS
  · obtain ⟨q, e, w⟩ := hS
    exact ⟨q, e, hf.get w h1⟩
  · obtain ⟨q, q2, e, w, w2⟩ := hS
    exact ⟨q, q2, e, hf.get w h1, hf.get w2 h1⟩
section KWS
variable {G : Gl} {o : Nat} {X : KX} {s : Nat} {vs : Value} {hq ip ln : Nat} {rv : Value} {Tc Tv : Nat} {HT he : Nat → Nat} {h h' : Hp}
theorem KWx.fr {P : Tg → Prop} (hK : KWx G o X s vs hq ip ln rv Tc Tv HT he h) (hf : Fr P h h') (h2 : ∀ k, ¬ P (2, k)) (hT : ∀ T k, 10 ≤ T → k < 10 → ¬ P (T, k)) (h0 : ¬ P frz) : KWx G o X s vs hq ip ln rv Tc Tv HT he h' := by
  obtain ⟨k1, k2, k3, k4, k5, k6, k7, k8, k9⟩ := hK
  exact ⟨hf.get k1 (h2 0), k2.fr hf (fun k hk => hT Tc k k9.1 hk) h0, k3.fr hf (fun k hk => hT Tv k k9.2.1 hk) h0, k4.fr hf (h2 1), fun i hi => (k5 i hi).fr hf (fun k hk => hT (HT i) k (k9.2.2.2.1 i hi).1 hk) h0, k6.fr hf (h2 2), k7.fr hf (h2 3), k8.fr hf (h2 4), k9⟩
theorem KWx.q (hK : KWx G o X s vs hq ip ln rv Tc Tv HT he h) (hf : Fr pQ h h') : KWx G o X s vs hq ip ln rv Tc Tv HT he h' := hK.fr hf (fun k => pQ_2) (fun T k hT hk q => absurd q.2 (by show ¬ 10 ≤ k; omega)) pQ_z
/-- the state itself changed -/
theorem KWx.cur (hK : KWx G o X s vs hq ip ln rv Tc Tv HT he h) {r' : Row} (hf : Fr (pTQ Tc) h h') (hW : SW G Tc s r' h') : KWx G o (X.wR r') s vs hq ip ln rv Tc Tv HT he h' := by
  obtain ⟨k1, k2, k3, k4, k5, k6, k7, k8, k9⟩ := hK
  have hT := k9.1
  have hz : ¬ pTQ Tc frz := pTQ_z (by omega)
  have h2 : ∀ k, ¬ pTQ Tc (2, k) := fun k q => q.elim (fun e => by have : 2 = Tc := e; omega) pQ_2
  exact ⟨hf.get k1 (h2 0), hW, k3.fr hf (pTQ_s (fun e => k9.2.2.1 e.symm)) hz, k4.fr hf (h2 1), fun i hi => (k5 i hi).fr hf (pTQ_s (k9.2.2.2.1 i hi).2.1) hz, k6.fr hf (h2 2), k7.fr hf (h2 3), k8.fr hf (h2 4), k9⟩
end KWS
/-- refused: a new reason, set -/
def XU (o : Nat) (fs : List Value) (n d : Int) (h : Hp) : Hp → Prop := fun h' => ∃ h1 q, Fr pQ h h1 ∧ h1 q = none ∧ h' = up (up h1 q ((2, 4), ob 3 [.int (iZ n), .int (iZ d), .null])) o ((2, 0), ob 0 (fs.set 7 (.ref q)))
theorem XU.tr {o : Nat} {fs : List Value} {n d : Int} {h h1 h' : Hp} (hf : Fr pQ h h1) (hx : XU o fs n d h1 h') : XU o fs n d h h' := by
  obtain ⟨h2, q, g1, g2, g3⟩ := hx
  exact ⟨h2, q, hf.tr g1, g2, g3⟩
def xU (c : Prop) (o : Nat) (fs : List Value) (n d : Int) (h : Hp) : String → Hp → Prop := fun E h' => E = eUOE ∧ c ∧ XU o fs n d h h'
def rvO (o : Nat) (h : Hp) : Value := match h o with
  | some (_, .inl (.inr (_, fs))) => fs[7]?.getD .null
  | _ => .null
theorem KWx.rf {G : Gl} {o : Nat} {X : KX} {s : Nat} {vs : Value} {hq ip ln : Nat} {rv : Value} {Tc Tv : Nat} {HT he : Nat → Nat} {h h' : Hp} {n d : Int} (hK : KWx G o X s vs hq ip ln rv Tc Tv HT he h) (hx : XU o [.ref s, vs, .ref hq, .ref ip, .ref ln, .int (iZ X.wi), .int (iZ X.fp), rv] n d h h') : KWx G o (X.wE (some ((n, d), none))) s vs hq ip ln (rvO o h') Tc Tv HT he h' ∧ Fr pC h h' := by
  obtain ⟨h1, q, g1, g2, g3⟩ := hx
  have hK1 := hK.q g1
  have hne : q ≠ o := (ne_nw hK1.1 g2).symm
  have f1 : Fr pN h1 (up h1 q ((2, 4), ob 3 [.int (iZ n), .int (iZ d), .null])) := Fr.nw g2
  have hK2 := hK1.fr f1 (fun _ q => q) (fun _ _ _ _ q => q) (fun q => q)
  have c2 := hK2.1
  have f2 : Fr (fun t => t = (2, 0)) (up h1 q ((2, 4), ob 3 [.int (iZ n), .int (iZ d), .null])) h' := by rw [g3]; exact Fr.upd c2 rfl
  have eo : h' o = some ((2, 0), ob 0 [.ref s, vs, .ref hq, .ref ip, .ref ln, .int (iZ X.wi), .int (iZ X.fp), .ref q]) := by rw [g3, up_s]; rfl
  obtain ⟨k1, k2, k3, k4, k5, k6, k7, k8, k9⟩ := hK2
  have e2 : ∀ {a b : Nat}, a ≠ 2 → ¬ (((a, b) : Tg) = (2, 0)) := fun h e => h (congrArg Prod.fst e)
  refine ⟨⟨?_, k2.fr f2 (fun k hk => e2 (by have := k9.1; omega)) (e2 (by decide)), k3.fr f2 (fun k hk => e2 (by have := k9.2.1; omega)) (e2 (by decide)), k4.fr f2 (tne (by decide)), fun i hi => (k5 i hi).fr f2 (fun k hk => e2 (by have := (k9.2.2.2.1 i hi).1; omega)) (e2 (by decide)), k6.fr f2 (tne (by decide)), k7.fr f2 (tne (by decide)), ?_, k9⟩, ?_⟩
  · have : rvO o h' = .ref q := by unfold rvO; rw [eo]; rfl
    rw [this]; exact eo
  · have : rvO o h' = .ref q := by unfold rvO; rw [eo]; rfl
    rw [this]
    exact ⟨q, rfl, f2.get up_s (tne (by decide))⟩
  · exact (g1.wk pQ_C).tr ((f1.wk (fun _ q => q.elim)).tr (f2.wk (by rintro _ rfl; exact Or.inl rfl)))
/-- a change is kept -/
def chX (X : KX) : KX := if X.wi = 1 then X else X.wH (if X.hn = 8 then 8 else X.hn + 1) (if X.hn = 8 then (fun i => if i = 7 then X.r else X.hr (i + 1)) else fun i => if i = X.hn then X.r else X.hr i)
theorem fresh (f : Nat → Nat) (a b : Nat) : ∀ n : Nat, ∃ T, 10 ≤ T ∧ a < T ∧ b < T ∧ ∀ i, i < n → f i < T
  | 0 => ⟨a + b + 10, by omega, by omega, by omega, fun i hi => absurd hi (by omega)⟩
  | n + 1 => by
    obtain ⟨T, h1, h2, h3, h4⟩ := fresh f a b n
    refine ⟨T + f n + 1, by omega, by omega, by omega, fun i hi => ?_⟩
    by_cases e : i = n
    · rw [e]; omega
    · have := h4 i (by omega); omega

theorem t_X4_initN {G : Gl} {h : Hp} {q v : Nat} {t : Tg} {n d : Int} (ha : h q = some (t, ob 3 [.int 0, .int 0, .null])) (ht : t ≠ frz) : Ct G 1 0 yX4_init (Cond.code yX4_init cX4_init 4 (none)) [.ref q, .int (iZ n), .int (iZ d), .null] h (jN (· = up h q (t, ob 3 [.int (iZ n), .int (iZ d), .null]))) noX := by
  have hp := PW.one ha
  refine Ct.of (own := "CharterKiln$Reason") (nm := "<init>") (by decide +kernel) rfl rfl (L := [some (.ref q), some (.int (iZ n)), some (.int (iZ d)), some (.null)]) rfl (Nat.le_of_ble_eq_true rfl) rfl ?_
  refine r_aload_n (pc := 0) dX4_init_0 rfl ?_
  refine r_objInit (pc := 1) dX4_init_1 q1537 q169 q170 (by decide) (Nat.le_of_ble_eq_true rfl) ?_
  refine r_aload_n (pc := 4) dX4_init_4 rfl ?_
  refine r_iload_n (pc := 5) dX4_init_5 rfl ?_
  refine pX4_7 (pc := 6) dX4_init_6 rfl (hp.at 0 rfl) ht (Nat.le_of_ble_eq_true rfl) ?_
  refine go_pw (hp.put 0 rfl) (fun h hp => ?_)
  refine r_aload_n (pc := 9) dX4_init_9 rfl ?_
  refine r_iload_n (pc := 10) dX4_init_10 rfl ?_
  refine pX4_13 (pc := 11) dX4_init_11 rfl (hp.at 0 rfl) ht (Nat.le_of_ble_eq_true rfl) ?_
  refine go_pw (hp.put 0 rfl) (fun h hp => ?_)
  refine r_aload_n (pc := 14) dX4_init_14 rfl ?_
  refine r_aload_nN (pc := 15) dX4_init_15 rfl ?_
  refine pX4_16 (pc := 16) dX4_init_16 rfl rfl rfl rfl (hp.at 0 rfl) ht (Nat.le_of_ble_eq_true rfl) ?_
  refine go_pw (hp.put 0 rfl) (fun h hp => ?_)
  exact r_vret (pc := 19) dX4_init_19 rfl ⟨rfl, hp.eq1⟩
theorem t_X4_initR {G : Gl} {h : Hp} {q v : Nat} {t : Tg} {n d : Int} (ha : h q = some (t, ob 3 [.int 0, .int 0, .null])) (ht : t ≠ frz) : Ct G 1 0 yX4_init (Cond.code yX4_init cX4_init 4 (none)) [.ref q, .int (iZ n), .int (iZ d), .ref v] h (jN (· = up h q (t, ob 3 [.int (iZ n), .int (iZ d), .ref v]))) noX := by
  have hp := PW.one ha
  refine Ct.of (own := "CharterKiln$Reason") (nm := "<init>") (by decide +kernel) rfl rfl (L := [some (.ref q), some (.int (iZ n)), some (.int (iZ d)), some (.ref v)]) rfl (Nat.le_of_ble_eq_true rfl) rfl ?_
  refine r_aload_n (pc := 0) dX4_init_0 rfl ?_
  refine r_objInit (pc := 1) dX4_init_1 q1537 q169 q170 (by decide) (Nat.le_of_ble_eq_true rfl) ?_
  refine r_aload_n (pc := 4) dX4_init_4 rfl ?_
  refine r_iload_n (pc := 5) dX4_init_5 rfl ?_
  refine pX4_7 (pc := 6) dX4_init_6 rfl (hp.at 0 rfl) ht (Nat.le_of_ble_eq_true rfl) ?_
  refine go_pw (hp.put 0 rfl) (fun h hp => ?_)
  refine r_aload_n (pc := 9) dX4_init_9 rfl ?_
  refine r_iload_n (pc := 10) dX4_init_10 rfl ?_
  refine pX4_13 (pc := 11) dX4_init_11 rfl (hp.at 0 rfl) ht (Nat.le_of_ble_eq_true rfl) ?_
  refine go_pw (hp.put 0 rfl) (fun h hp => ?_)
  refine r_aload_n (pc := 14) dX4_init_14 rfl ?_
  refine r_aload_n (pc := 15) dX4_init_15 rfl ?_
  refine pX4_16 (pc := 16) dX4_init_16 rfl rfl rfl rfl (hp.at 0 rfl) ht (Nat.le_of_ble_eq_true rfl) ?_
  refine go_pw (hp.put 0 rfl) (fun h hp => ?_)
  exact r_vret (pc := 19) dX4_init_19 rfl ⟨rfl, hp.eq1⟩
theorem up_cm {h : Hp} {a b : Nat} {x y : Tg × Cl} (hn : a ≠ b) : up (up h a x) b y = up (up h b y) a x := by
  funext c
  unfold up
  by_cases h1 : c = b
  · rw [if_pos h1, if_neg (by omega), if_pos h1]
  · by_cases h2 : c = a
    · rw [if_neg h1, if_pos h2, if_pos h2]
    · rw [if_neg h1, if_neg h2, if_neg h2, if_neg h1]
theorem t_X1_refuse {G : Gl} {h9 : Hp} {o s : Nat} {v1 v2 v3 v4 v5 v6 v7 : Value} (hb : h9 o = some ((2, 0), ob 0 [.ref s, v1, v2, v3, v4, v5, v6, v7])) {p : Prop} [Decidable p] {n d : Int} : Ct G 6 11 yX1_refuse (Cond.code yX1_refuse cX1_refuse 4 (none)) [.ref o, .int (iZ (bZ p)), .int (iZ n), .int (iZ d)] h9 (jN (fun h' => h' = h9 ∧ ¬ p)) (xU p o [.ref s, v1, v2, v3, v4, v5, v6, v7] n d h9) := by
  have hp := PW.one hb
  refine Ct.of (own := "CharterKiln") (nm := "refuse") (by decide +kernel) rfl rfl (L := [some (.ref o), some (.int (iZ (bZ p))), some (.int (iZ n)), some (.int (iZ d))]) rfl (Nat.le_of_ble_eq_true rfl) rfl ?_
  refine r_iload_n (pc := 0) dX1_refuse_0 rfl ?_
  refine r_ifB_eq (pc := 1) (tgt := 26) dX1_refuse_1 (by decide) (fun c1 => ?_) (fun c1 => ?_)
  · exact r_vret (pc := 26) dX1_refuse_26 rfl ⟨rfl, rfl, by assumption⟩
  · refine r_aload_n (pc := 4) dX1_refuse_4 rfl ?_
    refine r_new (pc := 5) (ci := 3) (T := TX4) (N := 3) ((2, 4)) [.int 0, .int 0, .null] (kb' := 7) dX1_refuse_5 rfl q1532 q1533 q119 (by intro j hj; revert j; decide +kernel) (Nat.le_of_ble_eq_true rfl) (fun q hq zq => ?_)
    have hqo := (hp.ot ⟨ne_nw (hp.at 0 rfl) hq, trivial⟩).symm.trans hq
    refine go_pw (hp.new hq _) (fun h hp => ?_)
    refine r_dup (pc := 8) dX1_refuse_8 rfl ?_
    refine r_iload_n (pc := 9) dX1_refuse_9 rfl ?_
    refine r_iload_n (pc := 10) dX1_refuse_10 rfl ?_
    refine r_null (pc := 11) dX1_refuse_11 ?_
    refine r_callI (pc := 12) (kb' := 7) dX1_refuse_12 kX4_init q1534 (t_X4_initN (v := 0) (hp.at 1 rfl) (by decide)) (Nat.le_refl _) (Nat.le_of_ble_eq_true rfl) rfl rfl (Nat.le_of_ble_eq_true rfl) (fun _ _ q => q.elim) (fun _ h hq => ?_)
    refine go_jN hq (fun e9 => ?_)
    subst e9
    refine go_pw (hp.put 1 rfl) (fun h hp => ?_)
    refine pX1_42 (pc := 15) dX1_refuse_15 rfl rfl rfl (hp.at 0 rfl) (by decide) (Nat.le_of_ble_eq_true rfl) ?_
    refine go_pw (hp.put 0 rfl) (fun h hp => ?_)
    exact r_thr (pc := 18) dX1_refuse_18 dX1_refuse_21 dX1_refuse_22 dX1_refuse_25 ftUOE q1551 q123 (atUOE (wokA q1560 rfl)) rfl rfl (by decide) (Nat.le_of_ble_eq_true rfl) (Nat.le_of_ble_eq_true rfl) (Nat.le_of_ble_eq_true rfl) ⟨rfl, by first | assumption | exact Classical.not_not.mp (by assumption), h9, q, Fr.rf, hqo, hp.eq2.trans (up_cm (ne_nw hb hqo))⟩
