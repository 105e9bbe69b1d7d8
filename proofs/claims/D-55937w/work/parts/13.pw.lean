set_option maxRecDepth 100000
/-! WRITTEN PICTURES: a picture that differs from another in written cells alone; posts and ends of methods -/
theorem bZ_01' (p : Prop) [Decidable p] : bZ p = 0 ∨ bZ p = 1 := by unfold bZ; split <;> simp
theorem nB' {z : Int} (hb : z = 0 ∨ z = 1) : narrow .boolean (.int (iZ z)) = .int (iZ z) := by rcases hb with rfl | rfl <;> decide
abbrev Ws : Type := List (Nat × Tg × Cl)
def PW (ws : Ws) (h0 h : Hp) : Prop := (∀ (k : Nat) (q : Nat × Tg × Cl), ws[k]? = some q → h q.1 = some q.2) ∧ (∀ b, (∀ (k : Nat) (q : Nat × Tg × Cl), ws[k]? = some q → q.1 ≠ b) → h b = h0 b) ∧ (∀ (i j : Nat) (q r : Nat × Tg × Cl), ws[i]? = some q → ws[j]? = some r → q.1 = r.1 → i = j)
theorem PW.nil {h : Hp} : PW [] h h := ⟨fun k q e => (by cases e), fun b _ => rfl, fun i j q r e => (by cases e)⟩
theorem PW.at {ws : Ws} {h0 h : Hp} (hp : PW ws h0 h) (k : Nat) {a : Nat} {x : Tg × Cl} (hk : ws[k]? = some (a, x)) : h a = some x := hp.1 k _ hk
def NA : Ws → Nat → Prop
  | [], _ => True
  | q :: l, b => q.1 ≠ b ∧ NA l b
theorem NA.of : ∀ {ws : Ws} {b : Nat}, NA ws b → ∀ (k : Nat) (q : Nat × Tg × Cl), ws[k]? = some q → q.1 ≠ b
  | [], _, _, k, q, e => by cases e
  | x :: l, b, hn, k, q, e => by
    cases k with
    | zero => cases e; exact hn.1
    | succ k => exact NA.of hn.2 k q (by simpa using e)
theorem PW.ot {ws : Ws} {h0 h : Hp} (hp : PW ws h0 h) {b : Nat} (hn : NA ws b) : h b = h0 b := hp.2.1 b hn.of
theorem PW.app {ws : Ws} {h0 h h' : Hp} (hp : PW ws h0 h) {b : Nat} {x : Tg × Cl} (hn : ∀ (k : Nat) (q : Nat × Tg × Cl), ws[k]? = some q → q.1 ≠ b) (h1 : h' b = some x) (h2 : ∀ c, c ≠ b → h' c = h c) : PW (ws ++ [(b, x)]) h0 h' := by
  refine ⟨fun k q e => ?_, fun c hc => ?_, fun i j q r e1 e2 e => ?_⟩
  · by_cases hk : k < ws.length
    · rw [List.getElem?_append_left hk] at e
      rw [h2 q.1 (hn k q e)]
      exact hp.1 k q e
    · rw [List.getElem?_append_right (by omega)] at e
      have hz : k - ws.length = 0 := by
        have := (List.getElem?_eq_some_iff.mp e).1
        simp at this
        omega
      rw [hz] at e
      cases e
      exact h1
  · have hcb : c ≠ b := fun e => hc ws.length (b, x) (by simp) e.symm
    rw [h2 c hcb]
    exact hp.2.1 c (fun k q e => hc k q (by rw [List.getElem?_append_left (List.getElem?_eq_some_iff.mp e).1]; exact e))
  · have key : ∀ (k : Nat) (q : Nat × Tg × Cl), (ws ++ [(b, x)])[k]? = some q → (k < ws.length ∧ ws[k]? = some q) ∨ (k = ws.length ∧ q = (b, x)) := by
      intro k q e
      by_cases hk : k < ws.length
      · rw [List.getElem?_append_left hk] at e
        exact Or.inl ⟨hk, e⟩
      · rw [List.getElem?_append_right (by omega)] at e
        have hz : k - ws.length = 0 := by
          have := (List.getElem?_eq_some_iff.mp e).1
          simp at this
          omega
        rw [hz] at e
        cases e
        exact Or.inr ⟨by omega, rfl⟩
    rcases key i q e1 with ⟨a1, a2⟩ | ⟨a1, a2⟩ <;> rcases key j r e2 with ⟨b1, b2⟩ | ⟨b1, b2⟩
    · exact hp.2.2 i j q r a2 b2 e
    · subst b2; exact absurd e (hn i q a2)
    · subst a2; exact absurd e.symm (hn j r b2)
    · omega
theorem PW.add {ws : Ws} {h0 h : Hp} (hp : PW ws h0 h) {b : Nat} {x : Tg × Cl} (hb : h b = some x) (hn : NA ws b) : PW (ws ++ [(b, x)]) h0 h := hp.app hn.of hb (fun _ _ => rfl)
theorem PW.new {ws : Ws} {h0 h : Hp} (hp : PW ws h0 h) {b : Nat} (hb : h b = none) (x : Tg × Cl) : PW (ws ++ [(b, x)]) h0 (up h b x) :=
  hp.app (fun k q e => fun e2 => by have := hp.1 k q e; rw [e2, hb] at this; cases this) up_s (fun c hc => up_n hc)
theorem PW.put {ws : Ws} {h0 h : Hp} (hp : PW ws h0 h) (k : Nat) {a : Nat} {x y : Tg × Cl} (hk : ws[k]? = some (a, x)) : PW (ws.set k (a, y)) h0 (up h a y) := by
  have hl : k < ws.length := (List.getElem?_eq_some_iff.mp hk).1
  refine ⟨fun i q e => ?_, fun c hc => ?_, fun i j q r e1 e2 e => ?_⟩
  · by_cases hi : i = k
    · subst hi
      rw [List.getElem?_set_self hl] at e
      cases e
      exact up_s
    · rw [List.getElem?_set_ne (Ne.symm hi)] at e
      rw [up_n (fun e2 => hi (hp.2.2 i k q _ e hk e2))]
      exact hp.1 i q e
  · have hca : c ≠ a := fun e => hc k (a, y) (List.getElem?_set_self hl) e.symm
    rw [up_n hca]
    refine hp.2.1 c (fun i q e => ?_)
    by_cases hi : i = k
    · subst hi
      rw [hk] at e
      cases e
      exact fun e2 => hca e2.symm
    · exact hc i q (by rw [List.getElem?_set_ne (Ne.symm hi)]; exact e)
  · have key : ∀ (i : Nat) (q : Nat × Tg × Cl), (ws.set k (a, y))[i]? = some q → ∃ q', ws[i]? = some q' ∧ q'.1 = q.1 := by
      intro i q e
      by_cases hi : i = k
      · subst hi
        rw [List.getElem?_set_self hl] at e
        cases e
        exact ⟨_, hk, rfl⟩
      · rw [List.getElem?_set_ne (Ne.symm hi)] at e
        exact ⟨q, e, rfl⟩
    obtain ⟨q', g1, g2⟩ := key i q e1
    obtain ⟨r', f1, f2⟩ := key j r e2
    exact hp.2.2 i j q' r' g1 f1 (by rw [g2, f2]; exact e)
theorem PW.one {h : Hp} {a : Nat} {x : Tg × Cl} (ha : h a = some x) : PW [(a, x)] h h := PW.nil.add ha trivial
theorem ne_of {h : Hp} {a b : Nat} {x y : Tg × Cl} (ha : h a = some x) (hb : h b = some y) (hn : x ≠ y) : a ≠ b := fun e => hn (Option.some.inj (ha.symm.trans (e ▸ hb)))
theorem ne_nw {h : Hp} {a b : Nat} {x : Tg × Cl} (ha : h a = some x) (hb : h b = none) : a ≠ b := fun e => by rw [e, hb] at ha; cases ha
theorem PW.two {h : Hp} {a b : Nat} {x y : Tg × Cl} (ha : h a = some x) (hb : h b = some y) (hn : a ≠ b) : PW [(a, x), (b, y)] h h := (PW.one ha).add hb ⟨hn, trivial⟩
theorem PW.eq1 {h0 h : Hp} {a : Nat} {x : Tg × Cl} (hp : PW [(a, x)] h0 h) : h = up h0 a x := by
  funext b
  by_cases e : b = a
  · subst e; rw [up_s]; exact hp.at 0 rfl
  · rw [up_n e]; exact hp.ot ⟨fun q => e q.symm, trivial⟩
theorem PW.eq2 {h0 h : Hp} {a b : Nat} {x y : Tg × Cl} (hp : PW [(a, x), (b, y)] h0 h) : h = up (up h0 a x) b y := by
  funext c
  by_cases e : c = b
  · subst e; rw [up_s]; exact hp.at 1 rfl
  · rw [up_n e]
    by_cases e2 : c = a
    · subst e2; rw [up_s]; exact hp.at 0 rfl
    · rw [up_n e2]; exact hp.ot ⟨fun q => e2 q.symm, fun q => e q.symm, trivial⟩
/-- each written cell is new, or bore a tag in P -/
def FA (P : Tg → Prop) (h0 : Hp) : Ws → Prop
  | [] => True
  | q :: l => (h0 q.1 = none ∨ ∃ x, h0 q.1 = some x ∧ P x.1) ∧ FA P h0 l
theorem FA.of {P : Tg → Prop} {h0 : Hp} : ∀ {ws : Ws}, FA P h0 ws → ∀ (k : Nat) (q : Nat × Tg × Cl), ws[k]? = some q → h0 q.1 = none ∨ ∃ x, h0 q.1 = some x ∧ P x.1
  | [], _, k, q, e => by cases e
  | x :: l, hn, k, q, e => by
    cases k with
    | zero => cases e; exact hn.1
    | succ k => exact FA.of hn.2 k q (by simpa using e)
theorem PW.fr {ws : Ws} {h0 h : Hp} {P : Tg → Prop} (hp : PW ws h0 h) (hf : FA P h0 ws) : Fr P h0 h := by
  intro a t o ha hn
  rw [hp.2.1 a (fun k q e e2 => ?_)]
  · exact ha
  · rcases hf.of k q e with g | ⟨x, g1, g2⟩
    · rw [e2, ha] at g; cases g
    · rw [e2, ha] at g1; cases g1; exact hn g2
theorem FA.o {h0 : Hp} {P : Tg → Prop} {a : Nat} {x : Tg × Cl} (ha : h0 a = some x) (hP : P x.1) : h0 a = none ∨ ∃ x, h0 a = some x ∧ P x.1 := Or.inr ⟨_, ha, hP⟩
theorem Fr.get {P : Tg → Prop} {h0 h : Hp} (hf : Fr P h0 h) {a : Nat} {x : Tg × Cl} (ha : h0 a = some x) (hn : ¬ P x.1) : h a = some x := hf a x.1 x.2 ha hn
theorem Fr.old {P : Tg → Prop} {h0 h : Hp} (hf : Fr P h0 h) {a : Nat} (hP : ∀ x, h0 a = some x → ¬ P x.1) (hn : h a = none) : h0 a = none := by
  cases e : h0 a with
  | none => rfl
  | some x => rw [hf.get e (hP x e)] at hn; cases hn
section PR
variable {G : Gl} {own : String} {cc : ByteArray} {Y : Mt} {d mc : Nat} {Qr : Option Value → Hp → Prop} {Qx : String → Hp → Prop} {kb : Nat} {h h' h0 : Hp} {pc : Nat} {L : List (Option Value)} {st : List Value} {v : Value} {r : Option Value} {P : Hp → Prop}
theorem go_pw {ws : Ws} (hp : PW ws h0 h) (kk : ∀ h, PW ws h0 h → Go G own cc Y d mc Qr Qx kb h pc L st) : Go G own cc Y d mc Qr Qx kb h pc L st := kk h hp
theorem go_ci {x : Int32} {z : Int} (e : x = iZ z) (kk : Go G own cc Y d mc Qr Qx kb h pc L (.int (iZ z) :: st)) : Go G own cc Y d mc Qr Qx kb h pc L (.int x :: st) := by rw [e]; exact kk
theorem go_cz {z w : Int} (e : z = w) (kk : Go G own cc Y d mc Qr Qx kb h pc L (.int (iZ w) :: st)) : Go G own cc Y d mc Qr Qx kb h pc L (.int (iZ z) :: st) := by rw [e]; exact kk
theorem go_cv {v w : Value} (e : v = w) (kk : Go G own cc Y d mc Qr Qx kb h pc L (w :: st)) : Go G own cc Y d mc Qr Qx kb h pc L (v :: st) := by rw [e]; exact kk
theorem go_ho {h1 : Hp} (e : h = h1) (kk : Go G own cc Y d mc Qr Qx kb h1 pc L st) : Go G own cc Y d mc Qr Qx kb h pc L st := by rw [e]; exact kk
theorem q_icmp_eqT {x : Int32} {off : Int} {tgt : Nat} (hd : decode cc pc = .ok (.if_icmp .eq off, 3)) (ht : (pc : Int) + off = (tgt : Int)) (kk : Go G own cc Y d mc Qr Qx kb h tgt L st) : Go G own cc Y d mc Qr Qx kb h pc L (.int x :: .int x :: st) := by
  have := r_icmp_eq (G := G) (own := own) (Y := Y) (d := d) (mc := mc) (Qr := Qr) (Qx := Qx) (kb := kb) (h := h) (L := L) (st := st) hd ht (a := x.toInt) (b := x.toInt) (iR x) (iR x) (fun _ => kk) (fun q => absurd rfl q)
  rw [← iZ_of] at this
  exact this
/-- answers v, the heap as it was -/
def jE (v : Value) (h : Hp) : Option Value → Hp → Prop := fun r h' => r = some v ∧ h' = h
def jP (v : Value) (P : Hp → Prop) : Option Value → Hp → Prop := fun r h' => r = some v ∧ P h'
def jN (P : Hp → Prop) : Option Value → Hp → Prop := fun r h' => r = none ∧ P h'
/-- answers a reference to something -/
def jX (P : Nat → Hp → Prop) : Option Value → Hp → Prop := fun r h' => ∃ q, r = some (.ref q) ∧ P q h'
theorem go_jE (hq : jE v h r h') (kk : Go G own cc Y d mc Qr Qx kb h pc L (v :: st)) : Go G own cc Y d mc Qr Qx kb h' pc L (r.toList ++ st) := by
  obtain ⟨rfl, rfl⟩ := hq
  exact kk
theorem go_jP (hq : jP v P r h') (kk : P h' → Go G own cc Y d mc Qr Qx kb h' pc L (v :: st)) : Go G own cc Y d mc Qr Qx kb h' pc L (r.toList ++ st) := by
  obtain ⟨rfl, hq⟩ := hq
  exact kk hq
theorem go_jN (hq : jN P r h') (kk : P h' → Go G own cc Y d mc Qr Qx kb h' pc L st) : Go G own cc Y d mc Qr Qx kb h' pc L (r.toList ++ st) := by
  obtain ⟨rfl, hq⟩ := hq
  exact kk hq
theorem go_jX {P : Nat → Hp → Prop} (hq : jX P r h') (kk : ∀ q, P q h' → Go G own cc Y d mc Qr Qx kb h' pc L (.ref q :: st)) : Go G own cc Y d mc Qr Qx kb h' pc L (r.toList ++ st) := by
  obtain ⟨q, rfl, hq⟩ := hq
  exact kk q hq
end PR
theorem nC {z : Int} (h : 0 ≤ z ∧ z < 65536) : narrow .char (.int (iZ z)) = .int (iZ z) := by
  rw [iZ_nI h.1]
  exact (pk_charN (by omega)).1
theorem nY {z : Int} (h : -128 ≤ z ∧ z < 128) : narrow .byte (.int (iZ z)) = .int (iZ z) := by
  have := pk_nb (iZ z)
  have e : (iZ z).toInt8.toInt32 = iZ z := by
    rw [← Int32.toInt_inj, Int8.toInt_toInt32, Int32.toInt_toInt8, iZ_toInt ⟨by omega, by omega⟩]
    exact Int.bmod_eq_of_le (by omega) (by omega)
  rw [e] at this
  exact this
theorem fY {z : Int} (h : -128 ≤ z ∧ z < 128) : fits .byte (.int (iZ z)) = true := by
  have := pk_fb (iZ z)
  have e : (iZ z).toInt8.toInt32 = iZ z := by
    rw [← Int32.toInt_inj, Int8.toInt_toInt32, Int32.toInt_toInt8, iZ_toInt ⟨by omega, by omega⟩]
    exact Int.bmod_eq_of_le (by omega) (by omega)
  rw [e] at this
  exact this
theorem iZ01' {z : Int} (h : z = 0 ∨ z = 1) : iZ z = 0 ∨ iZ z = 1 := by rcases h with rfl | rfl; exact Or.inl rfl; exact Or.inr rfl
