set_option maxRecDepth 100000
def RP (m : Nat) (ad : Nat → Nat) (h : Hp) (P : TM → Prop) : Option Value → Hp → Prop := fun v h' => v = none ∧ ∃ T', P T' ∧ TI m ad h T' h'
def RZ (m : Nat) (ad : Nat → Nat) (h : Hp) (P : Int → TM → Prop) : Option Value → Hp → Prop := fun v h' => ∃ z T', v = some (.int (iZ z)) ∧ P z T' ∧ TI m ad h T' h'
section TZ
variable {G : Gl} {own : String} {cc : ByteArray} {Y : Mt} {d mc : Nat} {Qr : Option Value → Hp → Prop} {Qx : String → Hp → Prop} {kb : Nat} {h h0 h1 h' : Hp} {pc : Nat} {L : List (Option Value)} {st : List Value} {m : Nat} {ad : Nat → Nat} {T T1 T' X : TM} {z z' : Int} {v : Option Value}
theorem e_vretP {P : TM → Prop} (hd : decode cc pc = .ok (.return_, 1)) (hr : Y.2.1 = none) (hm : TI m ad h1 T1 h) (hP : P T1) : Go G own cc Y d mc (RP m ad h1 P) Qx kb h pc L [] := r_vret hd hr ⟨rfl, _, hP, hm⟩
theorem go_P {P : TM → Prop} (hq : RP m ad h P v h') (kk : ∀ T1 h', P T1 → TI m ad h T1 h' → Go G own cc Y d mc Qr Qx kb h' pc L st) : Go G own cc Y d mc Qr Qx kb h' pc L (v.toList ++ st) := by
  obtain ⟨rfl, T1, hE, hm⟩ := hq
  exact kk _ _ hE hm
theorem e_retZ {P : Int → TM → Prop} (hd : decode cc pc = .ok (.ireturn, 1)) (hr : Y.2.1 = some .int) (hm : TI m ad h1 T1 h) (hP : P z T1) : Go G own cc Y d mc (RZ m ad h1 P) Qx kb h pc L [.int (iZ z)] := r_iret hd hr rfl ⟨z, T1, rfl, hP, hm⟩
theorem go_Z {P : Int → TM → Prop} (hq : RZ m ad h P v h') (kk : ∀ z T1 h', P z T1 → TI m ad h T1 h' → Go G own cc Y d mc Qr Qx kb h' pc L (.int (iZ z) :: st)) : Go G own cc Y d mc Qr Qx kb h' pc L (v.toList ++ st) := by
  obtain ⟨z, T1, rfl, hE, hm⟩ := hq
  exact kk _ _ _ hE hm
end TZ
/-- the orders of a text lie in the reference -/
def stP (T : TM) (l : List Cm) : Prop := ∀ (i : Nat) (c : Cm), l[i]? = some c → T 16 i = c.1 ∧ T 17 (2 * i) = c.2.1 ∧ T 17 (2 * i + 1) = c.2.2
def RdP (T T' : TM) : Prop := (∀ k, k < 16 ∨ 22 < k → T' k = T k) ∧ T' 18 0 = 0 ∧ T' 20 0 = (rd (T 15) (T 18 0)).2.1 ∧ T' 22 0 = (rd (T 15) (T 18 0)).2.2 ∧ ((rd (T 15) (T 18 0)).2.2 = 0 → T' 21 0 = (rd (T 15) (T 18 0)).1.length ∧ stP T' (rd (T 15) (T 18 0)).1)
/-- before an order at p, those of l are read -/
def RdB (T9 T : TM) (p : Int) (l : List Cm) : Prop := (∀ k, k < 16 ∨ 22 < k → T k = T9 k) ∧ T 18 0 = 0 ∧ T 19 0 = T9 18 0 ∧ T 20 0 = p ∧ T 22 0 = 0 ∧ T 21 0 = l.length ∧ stP T l
/-- behind it -/
def RdI (T9 T : TM) (p : Int) (l : List Cm) : Prop := (∀ k, k < 16 ∨ 22 < k → T k = T9 k) ∧ T 18 0 = 0 ∧ T 19 0 = T9 18 0 ∧ T 20 0 = (orD (T9 15) (T9 18 0) p).2.1 ∧ T 22 0 = (orD (T9 15) (T9 18 0) p).2.2 ∧ ((orD (T9 15) (T9 18 0) p).2.2 = 0 → T 21 0 = l.length + 1 ∧ stP T (l ++ [orO (T9 15) (T9 18 0) p]))
theorem or_01 {tx : Row} {n p : Int} : (orD tx n p).2.2 = 0 ∨ (orD tx n p).2.2 = 1 ∨ ¬ p ≤ n := by
  by_cases h : p ≤ n
  · have := (or_in (tx := tx) h).2.2; omega
  · exact Or.inr (Or.inr h)
theorem rdI_s {T9 T : TM} {p : Int} {l : List Cm} (h : RdB T9 T p l) (hp : p ≤ T9 18 0) : RdI T9 (orT T) p l := by
  obtain ⟨h1, h2, h3, h4, h5, h6, h7⟩ := h
  have e15 : T 15 = T9 15 := h1 15 (by omega)
  unfold orT
  rw [e15, h3, h4]
  by_cases hD : (orD (T9 15) (T9 18 0) p).2.2 = 1
  · rw [if_pos hD]
    refine ⟨fun k hk => (bbT_k (by omega) (by omega)).trans (h1 k hk), by rw [bbT_k (by decide) (by decide)]; exact h2, by rw [bbT_19]; exact h3, bbT_20, bbT_22, fun q => by omega⟩
  · rw [if_neg hD]
    have eK : ∀ k, k ≠ 16 → k ≠ 17 → k ≠ 21 → ∀ j, sT (sT (sT (sT (bbT T (orD (T9 15) (T9 18 0) p)) 16 (T 21 0) (orO (T9 15) (T9 18 0) p).1) 17 (2 * T 21 0) (orO (T9 15) (T9 18 0) p).2.1) 17 (2 * T 21 0 + 1) (orO (T9 15) (T9 18 0) p).2.2) 21 0 (T 21 0 + 1) k j = bbT T (orD (T9 15) (T9 18 0) p) k j := fun k a b c j => by rw [sT_k c, sT_k b, sT_k b, sT_k a]
    refine ⟨fun k hk => ?_, ?_, ?_, ?_, ?_, fun _ => ⟨?_, ?_⟩⟩
    · funext j; rw [eK k (by omega) (by omega) (by omega), bbT_k (by omega) (by omega), h1 k hk]
    · rw [eK _ (by decide) (by decide) (by decide), bbT_k (by decide) (by decide)]; exact h2
    · rw [eK _ (by decide) (by decide) (by decide), bbT_19]; exact h3
    · rw [eK _ (by decide) (by decide) (by decide)]; exact bbT_20
    · rw [eK _ (by decide) (by decide) (by decide)]; exact bbT_22
    · rw [sT_s, h6]
    · intro i c hc
      rw [h6]
      by_cases hi : i < l.length
      · rw [List.getElem?_append_left hi] at hc
        obtain ⟨g1, g2, g3⟩ := h7 i c hc
        rw [sT_k (by decide), sT_k (by decide), sT_k (by decide), sT_i (by omega), bbT_k (by decide) (by decide), sT_k (by decide), sT_i (by omega), sT_i (by omega), sT_k (by decide), bbT_k (by decide) (by decide), sT_k (by decide), sT_i (by omega), sT_i (by omega), sT_k (by decide), bbT_k (by decide) (by decide)]
        exact ⟨g1, g2, g3⟩
      · rw [List.getElem?_append_right (by omega)] at hc
        have e : i = l.length := by
          by_cases e : i - l.length = 0
          · omega
          · rw [List.getElem?_eq_none (by simp; omega)] at hc; cases hc
        rw [e, Nat.sub_self] at hc
        have hc : orO (T9 15) (T9 18 0) p = c := by simpa using hc
        rw [e, ← hc]
        refine ⟨?_, ?_, ?_⟩
        · rw [sT_k (by decide), sT_k (by decide), sT_k (by decide), sT_s]
        · rw [sT_k (by decide), sT_i (by omega), sT_s]
        · rw [sT_k (by decide), sT_s]
theorem rdB_n {T9 T : TM} {p : Int} {l : List Cm} (h : RdI T9 T p l) (h0 : (orD (T9 15) (T9 18 0) p).2.2 = 0) : RdB T9 (sT T 20 0 (T 20 0 + 1)) ((orD (T9 15) (T9 18 0) p).2.1 + 1) (l ++ [orO (T9 15) (T9 18 0) p]) := by
  obtain ⟨h1, h2, h3, h4, h5, h6⟩ := h
  have h6 := h6 h0
  refine ⟨fun k hk => ?_, by rw [sT_k (by decide)]; exact h2, by rw [sT_k (by decide)]; exact h3, by rw [sT_s, h4], by rw [sT_k (by decide), h5, h0], ?_, fun i c hc => ?_⟩
  · funext j; rw [sT_k (by omega), h1 k hk]
  · rw [sT_k (by decide), h6.1]; simp
  · rw [sT_k (by decide), sT_k (by decide), sT_k (by decide)]; exact h6.2 i c hc
theorem rd_t {tx : Row} {n p : Int} {f : Nat} {l : List Cm} {q : List Cm × Int × Int} (h : q = rdS tx n f p l) (hf : 0 < f) (h0 : (orD tx n p).2.2 = 0) (h1 : (orD tx n p).2.1 < n) (h2 : tx (orD tx n p).2.1 = 59) : q = rdS tx n (f - 1) ((orD tx n p).2.1 + 1) (l ++ [orO tx n p]) := by
  obtain ⟨g, rfl⟩ : ∃ g, f = g + 1 := ⟨f - 1, by omega⟩
  rw [h]
  show (if (orD tx n p).2.2 = 1 then _ else if (orD tx n p).2.1 < n ∧ tx (orD tx n p).2.1 = 59 then _ else _) = _
  rw [if_neg (by omega), if_pos ⟨h1, h2⟩]
  rfl
theorem rd_w {tx : Row} {n p : Int} {f : Nat} {l : List Cm} {q : List Cm × Int × Int} (h : q = rdS tx n f p l) (hf : 0 < f) (h0 : (orD tx n p).2.2 = 1) : q = (l, (orD tx n p).2.1, 1) := by
  obtain ⟨g, rfl⟩ : ∃ g, f = g + 1 := ⟨f - 1, by omega⟩
  rw [h]
  exact if_pos h0
theorem rd_e {tx : Row} {n p : Int} {f : Nat} {l : List Cm} {q : List Cm × Int × Int} (h : q = rdS tx n f p l) (hf : 0 < f) (h0 : (orD tx n p).2.2 = 0) (h1 : ¬ ((orD tx n p).2.1 < n ∧ tx (orD tx n p).2.1 = 59)) : q = (l ++ [orO tx n p], (orD tx n p).2.1, if (orD tx n p).2.1 < n then 1 else 0) := by
  obtain ⟨g, rfl⟩ : ∃ g, f = g + 1 := ⟨f - 1, by omega⟩
  rw [h]
  show (if (orD tx n p).2.2 = 1 then _ else if (orD tx n p).2.1 < n ∧ tx (orD tx n p).2.1 = 59 then _ else _) = _
  rw [if_neg (by omega), if_neg h1]
theorem rdP_e {T9 T : TM} {p : Int} {f : Nat} {l : List Cm} (h : RdI T9 T p l) (hr : rd (T9 15) (T9 18 0) = rdS (T9 15) (T9 18 0) f p l) (hf : 0 < f) (hp : p ≤ T9 18 0) (hx : mkZ (T9 15) (T9 18 0) (orD (T9 15) (T9 18 0) p).2.1 (orD (T9 15) (T9 18 0) p).2.2 ≠ 59) {w : Int} (hw : (T 20 0 < T 19 0 ∧ w = 1) ∨ (¬ T 20 0 < T 19 0 ∧ w = T 22 0)) : RdP T9 (sT T 22 0 w) := by
  obtain ⟨h1, h2, h3, h4, h5, h6⟩ := h
  rw [h3, h4, h5] at hw
  have h01 := or_01 (tx := T9 15) (n := T9 18 0) (p := p)
  have hb : ∀ k, k < 16 ∨ 22 < k → sT T 22 0 w k = T9 k := fun k hk => by funext j; rw [sT_k (by omega), h1 k hk]
  refine ⟨hb, by rw [sT_k (by decide)]; exact h2, ?_, ?_, ?_⟩
  · rw [sT_k (by decide), h4]
    by_cases e : (orD (T9 15) (T9 18 0) p).2.2 = 1
    · rw [rd_w hr hf e]
    · rw [rd_e hr hf (by omega) (fun q => hx (by rw [show (orD (T9 15) (T9 18 0) p).2.2 = 0 by omega]; exact (if_pos ⟨rfl, q.1⟩).trans q.2))]
  · rw [sT_s]
    by_cases e : (orD (T9 15) (T9 18 0) p).2.2 = 1
    · rw [rd_w hr hf e]; show w = 1; omega
    · rw [rd_e hr hf (by omega) (fun q => hx (by rw [show (orD (T9 15) (T9 18 0) p).2.2 = 0 by omega]; exact (if_pos ⟨rfl, q.1⟩).trans q.2))]
      show w = if _ then 1 else 0
      split <;> omega
  · by_cases e : (orD (T9 15) (T9 18 0) p).2.2 = 1
    · rw [rd_w hr hf e]; intro q; exact absurd (show (1 : Int) = 0 from q) (by decide)
    · rw [rd_e hr hf (by omega) (fun q => hx (by rw [show (orD (T9 15) (T9 18 0) p).2.2 = 0 by omega]; exact (if_pos ⟨rfl, q.1⟩).trans q.2))]
      intro _
      have := h6 (by omega)
      refine ⟨by rw [sT_k (by decide), this.1]; simp, fun i c hc => ?_⟩
      rw [sT_k (by decide), sT_k (by decide), sT_k (by decide)]
      exact this.2 i c hc
def cnT (T : TM) (c : Cm) : TM := match refC (T 0) c with
  | some p => bdT T p.1 p.2
  | none => uT T (efC (T 0) c)
theorem cnT_s {T : TM} {c : Cm} {p : Int × Int} (h : refC (T 0) c = some p) : cnT T c = bdT T p.1 p.2 := by unfold cnT; rw [h]
theorem cnT_n {T : TM} {c : Cm} {r : Row} (h : refC (T 0) c = none) (e : efC (T 0) c = r) : cnT T c = uT T r := by unfold cnT; rw [h, ← e]
