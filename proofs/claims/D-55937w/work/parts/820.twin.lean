set_option maxRecDepth 100000
/-! THE REFERENCE (CharterKilnModel): its whole state is T : field -> place -> int; arrays by their field's number -/
abbrev TM : Type := Nat → Int → Int
def sT (T : TM) (k : Nat) (i z : Int) : TM := fun r j => if r = k ∧ j = i then z else T r j
theorem sT_s {T : TM} {k : Nat} {i z : Int} : sT T k i z k i = z := by simp [sT]
theorem sT_k {T : TM} {k r : Nat} {i j z : Int} (h : r ≠ k) : sT T k i z r j = T r j := by simp [sT, h]
theorem sT_i {T : TM} {k r : Nat} {i j z : Int} (h : j ≠ i) : sT T k i z r j = T r j := by simp [sT, h]
def arrF : List Nat := [0, 1, 2, 3, 4, 15, 16, 17, 23]
def szF (k : Nat) : Nat := match k with
  | 0 => 140 | 1 => 140 | 2 => 140 | 3 => 140 | 4 => 1120 | 15 => 60 | 16 => 32 | 17 => 64 | _ => 60
def mFs (ad : Nat → Nat) (T : TM) : List Value := [.ref (ad 0), .ref (ad 1), .ref (ad 2), .ref (ad 3), .ref (ad 4), .int (iZ (T 5 0)), .int (iZ (T 6 0)), .int (iZ (T 7 0)), .int (iZ (T 8 0)), .int (iZ (T 9 0)), .int (iZ (T 10 0)), .int (iZ (T 11 0)), .int (iZ (T 12 0)), .int (iZ (T 13 0)), .int (iZ (T 14 0)), .ref (ad 15), .ref (ad 16), .ref (ad 17), .int (iZ (T 18 0)), .int (iZ (T 19 0)), .int (iZ (T 20 0)), .int (iZ (T 21 0)), .int (iZ (T 22 0)), .ref (ad 23), .int (iZ (T 24 0))]
abbrev tgM : Tg := (1, 0)
abbrev pM : Tg → Prop := fun t => t.1 = 1
def MW (m : Nat) (ad : Nat → Nat) (T : TM) (h : Hp) : Prop := h m = some (tgM, ob 2 (mFs ad T)) ∧ (∀ k ∈ arrF, h (ad k) = some (tgM, aI .int (szF k) (fun i => iZ (T k i)))) ∧ (∀ i ∈ arrF, ∀ j ∈ arrF, ad i = ad j → i = j) ∧ (∀ k i, InR (T k i)) ∧ (T 14 0 = 0 ∨ T 14 0 = 1) ∧ (T 22 0 = 0 ∨ T 22 0 = 1)
/-- the reference at T, and since h0 nothing else changed -/
def TI (m : Nat) (ad : Nat → Nat) (h0 : Hp) (T : TM) (h : Hp) : Prop := MW m ad T h ∧ Fr pM h0 h
theorem TI.rf {m : Nat} {ad : Nat → Nat} {T : TM} {h : Hp} (a : MW m ad T h) : TI m ad h T h := ⟨a, Fr.rf⟩
theorem TI.tr {m : Nat} {ad : Nat → Nat} {h0 h1 h2 : Hp} {T1 T2 : TM} (a : TI m ad h0 T1 h1) (b : TI m ad h1 T2 h2) : TI m ad h0 T2 h2 := ⟨b.1, a.2.tr b.2⟩
theorem TI.nw {m : Nat} {ad : Nat → Nat} {h0 h1 : Hp} {T1 : TM} (a : TI m ad h0 T1 h1) : TI m ad h1 T1 h1 := ⟨a.1, Fr.rf⟩
theorem TI.r {m : Nat} {ad : Nat → Nat} {h0 : Hp} {T : TM} {h : Hp} (a : TI m ad h0 T h) (k : Nat) (i : Int) : InR (T k i) := a.1.2.2.2.1 k i
theorem TI.to {m : Nat} {ad : Nat → Nat} {h0 : Hp} {T T' : TM} {h : Hp} (a : TI m ad h0 T h) (e : T = T') : TI m ad h0 T' h := e ▸ a
def scl (k : Nat) : Bool := (decide (5 ≤ k) && decide (k < 14)) || (decide (18 ≤ k) && decide (k < 22)) || decide (k = 24)
theorem TI.put {m : Nat} {ad : Nat → Nat} {h0 h : Hp} {T : TM} (a : TI m ad h0 T h) (k : Nat) (hk : scl k = true) {z : Int} (hz : InR z) : TI m ad h0 (sT T k 0 z) (up h m (tgM, ob 2 ((mFs ad T).set k (.int (iZ z))))) := by
  obtain ⟨⟨a1, a2, a3, a4, a5⟩, a6⟩ := a
  have hk2 : k = 5 ∨ k = 6 ∨ k = 7 ∨ k = 8 ∨ k = 9 ∨ k = 10 ∨ k = 11 ∨ k = 12 ∨ k = 13 ∨ k = 18 ∨ k = 19 ∨ k = 20 ∨ k = 21 ∨ k = 24 := by
    simp only [scl, Bool.or_eq_true, Bool.and_eq_true, decide_eq_true_eq] at hk; omega
  have hn : ∀ j ∈ arrF, ad j ≠ m := by
    intro j hj e
    have := a2 j hj
    rw [e, a1] at this
    simp [ob_aI] at this
  refine ⟨⟨?_, fun j hj => ?_, a3, fun r i => ?_, ?_⟩, a6.tr (Fr.upd a1 rfl)⟩
  · rw [up_s]
    rcases hk2 with rfl | rfl | rfl | rfl | rfl | rfl | rfl | rfl | rfl | rfl | rfl | rfl | rfl | rfl <;> rfl
  · rw [up_n (hn j hj), a2 j hj]
    have : j ≠ k := by
      simp only [arrF, List.mem_cons, List.not_mem_nil, or_false] at hj
      omega
    simp only [sT_k this]
  · by_cases e : r = k ∧ i = 0
    · simp only [sT, if_pos e]; exact hz
    · simp only [sT, if_neg e]; exact a4 r i
  · rw [sT_k (by omega), sT_k (by omega)]; exact a5
theorem TI.putB {m : Nat} {ad : Nat → Nat} {h0 h : Hp} {T : TM} (a : TI m ad h0 T h) (k : Nat) (hk : k = 14 ∨ k = 22) {z : Int} (hz : z = 0 ∨ z = 1) : TI m ad h0 (sT T k 0 z) (up h m (tgM, ob 2 ((mFs ad T).set k (.int (iZ z))))) := by
  obtain ⟨⟨a1, a2, a3, a4, a5, a7⟩, a6⟩ := a
  have hn : ∀ j ∈ arrF, ad j ≠ m := by
    intro j hj e
    have := a2 j hj
    rw [e, a1] at this
    simp [ob_aI] at this
  refine ⟨⟨?_, fun j hj => ?_, a3, fun r i => ?_, ?_, ?_⟩, a6.tr (Fr.upd a1 rfl)⟩
  · rw [up_s]
    rcases hk with rfl | rfl <;> rfl
  · rw [up_n (hn j hj), a2 j hj]
    have : j ≠ k := by
      simp only [arrF, List.mem_cons, List.not_mem_nil, or_false] at hj
      omega
    simp only [sT_k this]
  · by_cases e : r = k ∧ i = 0
    · simp only [sT, if_pos e]; omega
    · simp only [sT, if_neg e]; exact a4 r i
  · rcases hk with rfl | rfl
    · rw [sT_s]; exact hz
    · rw [sT_k (by omega)]; exact a5
  · rcases hk with rfl | rfl
    · rw [sT_k (by omega)]; exact a7
    · rw [sT_s]; exact hz
theorem TI.ast {m : Nat} {ad : Nat → Nat} {h0 h : Hp} {T : TM} (a : TI m ad h0 T h) (k : Nat) (hk : k ∈ arrF) {i z : Int} (hi : 0 ≤ i) (hz : InR z) : TI m ad h0 (sT T k i z) (up h (ad k) (tgM, aI .int (szF k) (va_up (fun i : Nat => iZ (T k i)) i.toNat (iZ z)))) := by
  obtain ⟨⟨a1, a2, a3, a4, a5⟩, a6⟩ := a
  have hn : ad k ≠ m := by
    intro e
    have := a2 k hk
    rw [e, a1] at this
    simp [ob_aI] at this
  have hk3 : k ≠ 14 ∧ k ≠ 22 ∧ (∀ j ∈ [5, 6, 7, 8, 9, 10, 11, 12, 13, 14, 18, 19, 20, 21, 22, 24], j ≠ k) := by
    simp only [arrF, List.mem_cons, List.not_mem_nil, or_false] at hk
    refine ⟨by omega, by omega, ?_⟩
    intro j hj
    simp only [List.mem_cons, List.not_mem_nil, or_false] at hj
    omega
  refine ⟨⟨?_, fun j hj => ?_, a3, fun r j => ?_, ?_⟩, a6.tr (Fr.upd (a2 k hk) rfl)⟩
  · rw [up_n (Ne.symm hn), a1]
    congr 3
    unfold mFs
    simp only [sT_k (hk3.2.2 _ (show (5 : Nat) ∈ _ by decide)), sT_k (hk3.2.2 _ (show (6 : Nat) ∈ _ by decide)), sT_k (hk3.2.2 _ (show (7 : Nat) ∈ _ by decide)), sT_k (hk3.2.2 _ (show (8 : Nat) ∈ _ by decide)), sT_k (hk3.2.2 _ (show (9 : Nat) ∈ _ by decide)), sT_k (hk3.2.2 _ (show (10 : Nat) ∈ _ by decide)), sT_k (hk3.2.2 _ (show (11 : Nat) ∈ _ by decide)), sT_k (hk3.2.2 _ (show (12 : Nat) ∈ _ by decide)), sT_k (hk3.2.2 _ (show (13 : Nat) ∈ _ by decide)), sT_k (hk3.2.2 _ (show (14 : Nat) ∈ _ by decide)), sT_k (hk3.2.2 _ (show (18 : Nat) ∈ _ by decide)), sT_k (hk3.2.2 _ (show (19 : Nat) ∈ _ by decide)), sT_k (hk3.2.2 _ (show (20 : Nat) ∈ _ by decide)), sT_k (hk3.2.2 _ (show (21 : Nat) ∈ _ by decide)), sT_k (hk3.2.2 _ (show (22 : Nat) ∈ _ by decide)), sT_k (hk3.2.2 _ (show (24 : Nat) ∈ _ by decide))]
  · by_cases e : j = k
    · subst e
      rw [up_s]
      congr 3
      funext q
      unfold va_up
      by_cases hq : q = i.toNat
      · rw [if_pos hq]
        have : (q : Int) = i := by omega
        rw [this, sT_s]
      · rw [if_neg hq, sT_i (by omega)]
    · rw [up_n (fun q => e (a3 j hj k hk q)), a2 j hj]
      simp only [sT_k e]
  · by_cases e : r = k ∧ j = i
    · simp only [sT, if_pos e]; exact hz
    · simp only [sT, if_neg e]; exact a4 r j
  · rw [sT_k (Ne.symm hk3.1), sT_k (Ne.symm hk3.2.1)]; exact a5
def RE (z : Int) (h0 : Hp) : Option Value → Hp → Prop := fun v h' => v = some (.int (iZ z)) ∧ h' = h0
def RT (m : Nat) (ad : Nat → Nat) (h : Hp) (z : Int) (T' : TM) : Option Value → Hp → Prop := fun v h' => v = some (.int (iZ z)) ∧ TI m ad h T' h'
def RV (m : Nat) (ad : Nat → Nat) (h : Hp) (T' : TM) : Option Value → Hp → Prop := fun v h' => v = none ∧ TI m ad h T' h'
abbrev eM : String := "CharterKilnModel"
section TW
variable {G : Gl} {cc : ByteArray} {Y : Mt} {d mc : Nat} {Qr : Option Value → Hp → Prop} {Qx : String → Hp → Prop} {kb : Nat} {h h0 : Hp} {pc : Nat} {L : List (Option Value)} {st : List Value} {m : Nat} {ad : Nat → Nat} {T : TM}
theorem t_iald {i lim : Int} (k : Nat) (hd : decode cc pc = .ok (.iaload, 1)) (hm : TI m ad h0 T h) (hk : k ∈ arrF) (hl : ((szF k : Nat) : Int) = lim) (hi : 0 ≤ i ∧ i < lim) (kk : InR (T k i) → Go G eM cc Y d mc Qr Qx kb h (pc + 1) L (.int (iZ (T k i)) :: st)) : Go G eM cc Y d mc Qr Qx kb h pc L (.int (iZ i) :: .ref (ad k) :: st) := by
  have hz : szF k ≤ 1120 := by
    simp only [arrF, List.mem_cons, List.not_mem_nil, or_false] at hk
    rcases hk with rfl | rfl | rfl | rfl | rfl | rfl | rfl | rfl | rfl <;> decide
  refine r_iald hd (hm.1.2.1 k hk) hi.1 (by omega) (by omega) ?_
  rw [Int.toNat_of_nonneg hi.1]
  exact kk (hm.r k i)
theorem t_iast {i lim z : Int} (k : Nat) (hd : decode cc pc = .ok (.iastore, 1)) (hm : TI m ad h0 T h) (hk : k ∈ arrF) (hl : ((szF k : Nat) : Int) = lim) (hi : 0 ≤ i ∧ i < lim) (hz : InR z) (kk : ∀ h, TI m ad h0 (sT T k i z) h → Go G eM cc Y d mc Qr Qx kb h (pc + 1) L st) : Go G eM cc Y d mc Qr Qx kb h pc L (.int (iZ z) :: .int (iZ i) :: .ref (ad k) :: st) := by
  have hz9 : szF k ≤ 1120 := by
    simp only [arrF, List.mem_cons, List.not_mem_nil, or_false] at hk
    rcases hk with rfl | rfl | rfl | rfl | rfl | rfl | rfl | rfl | rfl <;> decide
  exact r_iast hd (hm.1.2.1 k hk) (by decide) hi.1 (by omega) (by omega) (kk _ (hm.ast k hk hi.1 hz))
theorem t_iastN {i lim z : Int} (k : Nat) (hd : decode cc pc = .ok (.iastore, 1)) (hm : TI m ad h0 T h) (hk : k ∈ arrF) (hl : ((szF k : Nat) : Int) = lim) (hi : 0 ≤ i ∧ i < lim) (kk : ∀ h, TI m ad h0 (sT T k i (nz z)) h → Go G eM cc Y d mc Qr Qx kb h (pc + 1) L st) : Go G eM cc Y d mc Qr Qx kb h pc L (.int (iZ z) :: .int (iZ i) :: .ref (ad k) :: st) := by
  rw [← iZ_nz z]
  exact t_iast k hd hm hk hl hi (nz_in z) kk
theorem t_put {z : Int} (k : Nat) (hk : scl k = true) (hm : TI m ad h0 T h) (hz : InR z) (kk : ∀ h, TI m ad h0 (sT T k 0 z) h → Go G eM cc Y d mc Qr Qx kb h pc L st) : Go G eM cc Y d mc Qr Qx kb (up h m (tgM, ob 2 ((mFs ad T).set k (.int (iZ z))))) pc L st := kk _ (hm.put k hk hz)
theorem t_putB {z : Int} (k : Nat) (hk : k = 14 ∨ k = 22) (hm : TI m ad h0 T h) (hz : z = 0 ∨ z = 1) (kk : ∀ h, TI m ad h0 (sT T k 0 z) h → Go G eM cc Y d mc Qr Qx kb h pc L st) : Go G eM cc Y d mc Qr Qx kb (up h m (tgM, ob 2 ((mFs ad T).set k (.int (iZ z))))) pc L st := kk _ (hm.putB k hk hz)
end TW
/-! ends and calls of the reference's methods -/
section TE
variable {G : Gl} {own : String} {cc : ByteArray} {Y : Mt} {d mc : Nat} {Qr : Option Value → Hp → Prop} {Qx : String → Hp → Prop} {kb : Nat} {h h0 h1 h' : Hp} {pc : Nat} {L : List (Option Value)} {st : List Value} {m : Nat} {ad : Nat → Nat} {T T1 T' : TM} {z z' : Int} {v : Option Value}
theorem e_ret (hd : decode cc pc = .ok (.ireturn, 1)) (hr : Y.2.1 = some .int) (hz : z = z') : Go G own cc Y d mc (RE z' h) Qx kb h pc L [.int (iZ z)] := r_iret hd hr rfl ⟨by rw [hz], rfl⟩
theorem nB (hb : z = 0 ∨ z = 1) : narrow .boolean (.int (iZ z)) = .int (iZ z) := by rcases hb with rfl | rfl <;> decide
theorem e_retB (hd : decode cc pc = .ok (.ireturn, 1)) (hr : Y.2.1 = some .boolean) (hb : z = 0 ∨ z = 1) (hz : z = z') : Go G own cc Y d mc (RE z' h) Qx kb h pc L [.int (iZ z)] := r_iret hd hr (nB hb) ⟨by rw [hz], rfl⟩
theorem e_retT (hd : decode cc pc = .ok (.ireturn, 1)) (hr : Y.2.1 = some .int) (hm : TI m ad h1 T1 h) (hz : z = z') (hT : T1 = T') : Go G own cc Y d mc (RT m ad h1 z' T') Qx kb h pc L [.int (iZ z)] := r_iret hd hr rfl ⟨by rw [hz], hm.to hT⟩
theorem e_retTB (hd : decode cc pc = .ok (.ireturn, 1)) (hr : Y.2.1 = some .boolean) (hb : z = 0 ∨ z = 1) (hm : TI m ad h1 T1 h) (hz : z = z') (hT : T1 = T') : Go G own cc Y d mc (RT m ad h1 z' T') Qx kb h pc L [.int (iZ z)] := r_iret hd hr (nB hb) ⟨by rw [hz], hm.to hT⟩
theorem e_vret (hd : decode cc pc = .ok (.return_, 1)) (hr : Y.2.1 = none) (hm : TI m ad h1 T1 h) (hT : T1 = T') : Go G own cc Y d mc (RV m ad h1 T') Qx kb h pc L [] := r_vret hd hr ⟨rfl, hm.to hT⟩
theorem go_E (hq : RE z h v h') (kk : Go G own cc Y d mc Qr Qx kb h pc L (.int (iZ z) :: st)) : Go G own cc Y d mc Qr Qx kb h' pc L (v.toList ++ st) := by
  obtain ⟨rfl, rfl⟩ := hq
  exact kk
theorem go_T (hq : RT m ad h z T' v h') (kk : ∀ h', TI m ad h T' h' → Go G own cc Y d mc Qr Qx kb h' pc L (.int (iZ z) :: st)) : Go G own cc Y d mc Qr Qx kb h' pc L (v.toList ++ st) := by
  obtain ⟨rfl, hm⟩ := hq
  exact kk _ hm
theorem go_V (hq : RV m ad h T' v h') (kk : ∀ h', TI m ad h T' h' → Go G own cc Y d mc Qr Qx kb h' pc L st) : Go G own cc Y d mc Qr Qx kb h' pc L (v.toList ++ st) := by
  obtain ⟨rfl, hm⟩ := hq
  exact kk _ hm
theorem go_z (e : z = z') (kk : Go G own cc Y d mc Qr Qx kb h pc L (.int (iZ z') :: st)) : Go G own cc Y d mc Qr Qx kb h pc L (.int (iZ z) :: st) := by rw [e]; exact kk
end TE
theorem iZ01 {z : Int} (h : z = 0 ∨ z = 1) : iZ z = 0 ∨ iZ z = 1 := by rcases h with rfl | rfl; exact Or.inl rfl; exact Or.inr rfl
/-! what the reference's methods do to T -/
def uT (T : TM) (r : Row) : TM := fun k j => if k = 0 then r j else T k j
theorem uT_0 {T : TM} {r : Row} : uT T r 0 = r := by funext j; simp [uT]
def bdT (T : TM) (w n : Int) : TM := sT (sT T 7 0 w) 8 0 n
def bdO (T : TM) (o : Rf) : TM := match o with
  | none => T
  | some p => bdT T p.1 p.2
theorem bdO_some {T : TM} {o : Rf} {p : Int × Int} (e : o = some p) : bdO T o = bdT T p.1 p.2 := by rw [e]; rfl
theorem bdO_none {T : TM} {o : Rf} (e : o = none) : bdO T o = T := by rw [e]; rfl
theorem bdT_0 {T : TM} {w n : Int} : bdT T w n 0 = T 0 := by funext j; simp [bdT, sT]
theorem bdO_0 {T : TM} {o : Rf} : bdO T o 0 = T 0 := by cases o; rfl; exact bdT_0
def rfT (T : TM) : TM := sT (sT (sT (sT T 9 0 (T 7 0)) 10 0 (T 8 0)) 11 0 0) 5 0 1
/-- n places of region a from f on, copied to region b from t on -/
def cpN (T : TM) (a : Nat) (f : Int) (b : Nat) (t n : Int) : TM := fun k j => if k = b ∧ t ≤ j ∧ j < t + n then T a (f + (j - t)) else T k j
def cpT (T : TM) (a : Nat) (f : Int) (b : Nat) (t : Int) : TM := cpN T a f b t 140
def bgT (T : TM) : TM := cpT (sT T 5 0 0) 0 0 1 0
theorem bgT_0 {T : TM} : bgT T 0 = T 0 := by funext j; simp [bgT, cpT, cpN, sT]
def kp1 (T : TM) : TM := if T 6 0 = 8 then sT (cpN T 4 140 4 0 980) 6 0 (T 6 0 - 1) else T
def kpT (T : TM) : TM := sT (cpT (kp1 T) 1 0 4 (140 * kp1 T 6 0)) 6 0 (kp1 T 6 0 + 1)
theorem szF_le (k : Nat) : ((szF k : Nat) : Int) ≤ 1120 := by
  unfold szF
  split <;> decide
theorem cpN_0 {T : TM} {a b : Nat} {f t : Int} : cpN T a f b t 0 = T := by
  funext k j
  unfold cpN
  rw [if_neg (by omega)]
theorem cpN_s {T : TM} {a b : Nat} {f t z : Int} (hz : 0 ≤ z) (hne : a = b → t + z ≤ f) : sT (cpN T a f b t z) b (t + z) (cpN T a f b t z a (f + z)) = cpN T a f b t (z + 1) := by
  have e : cpN T a f b t z a (f + z) = T a (f + z) := by
    unfold cpN
    rw [if_neg (by rintro ⟨h1, h2, h3⟩; have := hne h1; omega)]
  rw [e]
  funext k j
  unfold sT cpN
  by_cases h1 : k = b ∧ j = t + z
  · rw [if_pos h1, if_pos (by omega), h1.2]
    congr 1
    omega
  · rw [if_neg h1]
    by_cases h2 : k = b ∧ t ≤ j ∧ j < t + z
    · rw [if_pos h2, if_pos (by omega)]
    · rw [if_neg h2, if_neg (by omega)]
theorem InR_of {z w : Int} (e : z = w) (h : InR w) : InR z := e ▸ h
theorem go_nm {G : Gl} {own : String} {cc : ByteArray} {Y : Mt} {d mc : Nat} {Qr : Option Value → Hp → Prop} {Qx : String → Hp → Prop} {kb : Nat} {h : Hp} {pc : Nat} {L : List (Option Value)} {st : List Value} {z : Int} (kk : ∀ x, x = z → Go G own cc Y d mc Qr Qx kb h pc L (.int (iZ x) :: st)) : Go G own cc Y d mc Qr Qx kb h pc L (.int (iZ z) :: st) := kk z rfl
theorem cpN_cat {T : TM} {a b : Nat} {f t z n : Int} (hz : 0 ≤ z) (hn : 0 ≤ n) (hne : a = b → t ≤ f) : cpN (cpN T a f b t z) a (f + z) b (t + z) n = cpN T a f b t (z + n) := by
  funext k j
  unfold cpN
  by_cases h2 : k = b ∧ t + z ≤ j ∧ j < t + z + n
  · rw [if_pos h2, if_neg (by rintro ⟨h3, h4, h5⟩; have := hne h3; omega), if_pos ⟨h2.1, by omega, by omega⟩]
    congr 1
    omega
  · rw [if_neg h2]
    by_cases h1 : k = b ∧ t ≤ j ∧ j < t + z
    · rw [if_pos h1, if_pos (by omega)]
    · rw [if_neg h1, if_neg (by omega)]
theorem cpN_k {T : TM} {a b k : Nat} {f t z j : Int} (h : k ≠ b) : cpN T a f b t z k j = T k j := by
  unfold cpN
  rw [if_neg (fun q => h q.1)]
theorem cpN_o {T : TM} {a b k : Nat} {f t z j : Int} (h : ¬ (t ≤ j ∧ j < t + z)) : cpN T a f b t z k j = T k j := by
  unfold cpN
  rw [if_neg (fun q => h q.2)]
def zrT (T : TM) (f z : Int) : TM := fun k j => if k = 0 ∧ f ≤ j ∧ j < f + z then 0 else T k j
def g1T (T : TM) (a z : Int) : TM := fun k j => if k = 0 then (if j = 0 then T 0 0 - 1 else if 56 + 6 * a ≤ j ∧ j < z then T 0 (j + 6) else T 0 j) else T k j
def g2T (T : TM) (a z : Int) : TM := zrT (g1T T a (56 + 6 * (T 0 0 - 1))) (56 + 6 * (T 0 0 - 1)) z
def g3T (T : TM) (a z : Int) : TM := fun k j => if k = 0 ∧ 12 ≤ j ∧ j < 12 + z then (if a < T 0 j then T 0 j - 1 else T 0 j) else g2T T a 6 k j
def s1T (T : TM) (s z : Int) : TM := fun k j => if k = 0 then (if j = 2 then T 0 2 - 1 else if j = 7 then nz (T 0 7 + 1) else if 26 + 3 * s ≤ j ∧ j < z then T 0 (j + 3) else T 0 j) else T k j
theorem g2_at {T : TM} {a z i : Int} (h0 : 0 ≤ a) (h1 : a < T 0 0) (hi : 1 ≤ i ∧ i < 56) : g2T T a z 0 i = T 0 i := by
  simp only [g2T, zrT, g1T]
  rw [if_neg (by omega), if_pos trivial, if_neg (by omega), if_neg (by omega)]
theorem g3_at {T : TM} {a v i : Int} (h0 : 0 ≤ a) (h1 : a < T 0 0) (hi : 1 ≤ i ∧ i < 56) (hv : 12 + v ≤ i ∨ i < 12) : g3T T a v 0 i = T 0 i := by
  unfold g3T
  rw [if_neg (by omega)]
  exact g2_at h0 h1 hi
def rlT (T : TM) (p z : Int) : TM := fun k j => if k = 0 then (if j = 1 then T 0 1 - 1 else if 12 + p ≤ j ∧ j < 12 + z then T 0 (j + 1) else T 0 j) else T k j
theorem go_zN {G : Gl} {own : String} {cc : ByteArray} {Y : Mt} {d mc : Nat} {Qr : Option Value → Hp → Prop} {Qx : String → Hp → Prop} {kb : Nat} {h : Hp} {pc : Nat} {L : List (Option Value)} {st : List Value} {z : Int} (kk : Go G own cc Y d mc Qr Qx kb h pc L (.int (iZ (nz z)) :: st)) : Go G own cc Y d mc Qr Qx kb h pc L (.int (iZ z) :: st) := by rw [← iZ_nz]; exact kk
theorem go_n2 {G : Gl} {own : String} {cc : ByteArray} {Y : Mt} {d mc : Nat} {Qr : Option Value → Hp → Prop} {Qx : String → Hp → Prop} {kb : Nat} {h : Hp} {pc : Nat} {L : List (Option Value)} {st : List Value} {z : Int} (w : Int) (e : z = w) (kk : ∀ x, x = w → Go G own cc Y d mc Qr Qx kb h pc L (.int (iZ x) :: st)) : Go G own cc Y d mc Qr Qx kb h pc L (.int (iZ z) :: st) := kk z e
theorem uT_uT {T : TM} {r r' : Row} : uT (uT T r) r' = uT T r' := by
  funext k j
  unfold uT
  split <;> rfl
def subL : List (Option Value) → List (Option Value) → Prop
  | [], [] => True
  | none :: l', _ :: l => subL l' l
  | some v :: l', o :: l => o = some v ∧ subL l' l
  | _, _ => False
theorem subL_spec : ∀ {L' L : List (Option Value)}, subL L' L → L'.length = L.length ∧ ∀ (i : Nat) (v : Value), L'[i]? = some (some v) → L[i]? = some (some v)
  | [], [], _ => ⟨rfl, fun i v h => h⟩
  | none :: l', o :: l, h => by
    have ih := subL_spec (L' := l') (L := l) h
    refine ⟨by simp [ih.1], fun i v hi => ?_⟩
    cases i with
    | zero => simp at hi
    | succ i => simpa using ih.2 i v (by simpa using hi)
  | some w :: l', o :: l, h => by
    have ih := subL_spec (L' := l') (L := l) h.2
    refine ⟨by simp [ih.1], fun i v hi => ?_⟩
    cases i with
    | zero => rw [h.1]; simpa using hi
    | succ i => simpa using ih.2 i v (by simpa using hi)
  | [], _ :: _, h => h.elim
  | none :: _, [], h => h.elim
  | some _ :: _, [], h => h.elim
/-- less known of the locals -/
theorem go_L {G : Gl} {own : String} {cc : ByteArray} {Y : Mt} {d mc : Nat} {Qr : Option Value → Hp → Prop} {Qx : String → Hp → Prop} {kb : Nat} {h : Hp} {pc : Nat} {L L' : List (Option Value)} {st : List Value} (hs : subL L' L) (kk : Go G own cc Y d mc Qr Qx kb h pc L' st) : Go G own cc Y d mc Qr Qx kb h pc L st := by
  intro p e s m args below meth c H locs cells slots ls C hf hS hL h1 h2
  have a := subL_spec hs
  exact kk p e s m args below meth c H locs cells slots ls C hf hS ⟨a.1.trans hL.1, hL.2.1, hL.2.2.1, fun q hq => hL.2.2.2 q (mem_prs.mpr (a.2 _ _ (mem_prs.mp hq)))⟩ h1 h2
theorem uT_k {T : TM} {r : Row} {k : Nat} {j : Int} (h : k ≠ 0) : uT T r k j = T k j := by
  unfold uT
  rw [if_neg h]
theorem bgT_6 {T : TM} : bgT T 6 0 = T 6 0 := by simp [bgT, cpT, cpN, sT]
def opT (T : TM) (o : Rf) (r : Row) : TM := match o with
  | some p => rfT (bdT (bgT T) p.1 p.2)
  | none => kpT (uT (bgT T) r)
def opZ (o : Rf) (z : Int) : Int := match o with
  | some _ => 0
  | none => z
theorem th0 {T : TM} {i z : Int} : sT T 5 i z 0 = T 0 := by funext j; simp [sT]
theorem sT_sT {T : TM} {k : Nat} {i a b : Int} : sT (sT T k i a) k i b = sT T k i b := by
  funext r j
  unfold sT
  split <;> rfl
