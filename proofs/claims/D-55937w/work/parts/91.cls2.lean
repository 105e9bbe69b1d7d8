set_option maxRecDepth 100000
theorem f0 : Cond.selects "java/util/ArrayList$Itr" ⟨"java/util/Iterator", "hasNext", "()Z"⟩ yJ26_hasNext ∈ lw_all ∧ Cond.instanceMethod yJ26_hasNext ∈ lw_all ∧ Cond.initialized yJ26_hasNext.cls ∈ lw_all ∧ Cond.code yJ26_hasNext cJ26_hasNext 1 (some .boolean) ∈ lw_all ∧ hdOk ⟨"java/util/Iterator", "hasNext", "()Z"⟩ 0 ∧ 1 ≤ 21 := ⟨q508, q510, q137, q512, ⟨by decide, by decide, by decide +kernel⟩, by decide⟩
theorem f1 : Cond.selects "java/util/ArrayList$Itr" ⟨"java/util/Iterator", "next", "()Ljava/lang/Object;"⟩ yJ26_next ∈ lw_all ∧ Cond.instanceMethod yJ26_next ∈ lw_all ∧ Cond.initialized yJ26_next.cls ∈ lw_all ∧ Cond.code yJ26_next cJ26_next 3 (some (.object "java/lang/Object")) ∈ lw_all ∧ hdOk ⟨"java/util/Iterator", "next", "()Ljava/lang/Object;"⟩ 0 ∧ 3 ≤ 21 := ⟨q949, q951, q137, q953, ⟨by decide, by decide, by decide +kernel⟩, by decide⟩
/-! sets as BitSets -/
def bs (p : Int → Prop) [DecidablePred p] : Nat → Nat
  | 0 => 0
  | n + 1 => if p n then bs p n + 2 ^ n else bs p n
theorem bs_lt {p : Int → Prop} [DecidablePred p] : ∀ n, bs p n < 2 ^ n
  | 0 => by show 0 < 1; omega
  | n + 1 => by
    have := bs_lt (p := p) n
    show (if p n then bs p n + 2 ^ n else bs p n) < 2 ^ (n + 1)
    rw [Nat.pow_succ]
    split <;> omega
theorem bs_bit {p : Int → Prop} [DecidablePred p] : ∀ (n i : Nat), i < n → (bs p n / 2 ^ i % 2 = 1 ↔ p i)
  | 0, i, h => absurd h (by omega)
  | n + 1, i, h => by
    show ((if p n then bs p n + 2 ^ n else bs p n) / 2 ^ i % 2 = 1 ↔ p i)
    have hl := bs_lt (p := p) n
    by_cases e : i = n
    · subst e
      by_cases hp : p i
      · rw [if_pos hp, Nat.add_div_right _ (Nat.two_pow_pos _), Nat.div_eq_of_lt hl]
        exact ⟨fun _ => hp, fun _ => rfl⟩
      · rw [if_neg hp, Nat.div_eq_of_lt hl]
        exact ⟨fun q => absurd q (by decide), fun q => absurd q hp⟩
    · have ih := bs_bit (p := p) n i (by omega)
      by_cases hp : p n
      · rw [if_pos hp]
        have e2 : 2 ^ n = 2 ^ (n - i - 1) * 2 * 2 ^ i := by
          rw [Nat.mul_assoc, show 2 * 2 ^ i = 2 ^ (i + 1) by rw [Nat.pow_succ]; omega, ← Nat.pow_add]
          congr 1
          omega
        rw [e2, Nat.add_mul_div_right _ _ (Nat.two_pow_pos _), Nat.add_mul_mod_self_right]
        exact ih
      · rw [if_neg hp]; exact ih
theorem bs_hi {p : Int → Prop} [DecidablePred p] {n i : Nat} (h : n ≤ i) : bs p n / 2 ^ i % 2 = 0 := by
  rw [Nat.div_eq_of_lt (Nat.lt_of_lt_of_le (bs_lt n) (Nat.pow_le_pow_right (by omega) h))]
theorem bs_4096 {p : Int → Prop} [DecidablePred p] {n : Nat} (h : n ≤ 12) : bs p n < 4096 := Nat.lt_of_lt_of_le (bs_lt n) (Nat.pow_le_pow_right (show 0 < 2 by omega) h)
theorem pc_sum : ∀ (m z : Nat), (pcN m z : Int) = sumZ (fun i => ((z / 2 ^ i.toNat % 2 : Nat) : Int)) m := by
  have key : ∀ (m k z : Nat), (pcN m (z / 2 ^ k) : Int) = sumZ (fun i => ((z / 2 ^ i.toNat % 2 : Nat) : Int)) (k + m) - sumZ (fun i => ((z / 2 ^ i.toNat % 2 : Nat) : Int)) k := by
    intro m
    induction m with
    | zero => intro k z; show (0 : Int) = sumZ _ k - sumZ _ k; omega
    | succ m ih =>
      intro k z
      have h1 := ih (k + 1) z
      rw [Nat.pow_succ, ← Nat.div_div_eq_div_mul] at h1
      show ((z / 2 ^ k % 2 + pcN m (z / 2 ^ k / 2) : Nat) : Int) = _
      have h2 : sumZ (fun i => ((z / 2 ^ i.toNat % 2 : Nat) : Int)) (k + 1) = sumZ (fun i => ((z / 2 ^ i.toNat % 2 : Nat) : Int)) k + ((z / 2 ^ k % 2 : Nat) : Int) := rfl
      rw [show k + (m + 1) = k + 1 + m by omega]
      omega
  intro m z
  have := key m 0 z
  rw [Nat.pow_zero, Nat.div_one, Nat.zero_add] at this
  rw [this]
  show _ - (0 : Int) = _
  omega
theorem sumZ_cg {f g : Int → Int} : ∀ n : Nat, (∀ i : Nat, i < n → f i = g i) → sumZ f n = sumZ g n
  | 0, _ => rfl
  | n + 1, h => by
    show sumZ f n + f n = sumZ g n + g n
    rw [sumZ_cg n (fun i hi => h i (by omega)), h n (by omega)]
theorem sumZ_to {f : Int → Int} {a : Nat} : ∀ k : Nat, (∀ i : Nat, a ≤ i → i < a + k → f i = 0) → sumZ f (a + k) = sumZ f a
  | 0, _ => rfl
  | k + 1, h => by
    show sumZ f (a + k) + f ((a + k : Nat) : Int) = sumZ f a
    rw [sumZ_to k (fun i h1 h2 => h i h1 (by omega)), h (a + k) (by omega) (by omega)]
    omega
theorem bs_pc {p : Int → Prop} [DecidablePred p] {n : Nat} (h : n ≤ 12) : (pcN 12 (bs p n) : Int) = sumZ (fun i => bZ (p i)) n := by
  rw [pc_sum]
  have e : sumZ (fun i => ((bs p n / 2 ^ i.toNat % 2 : Nat) : Int)) 12 = sumZ (fun i => ((bs p n / 2 ^ i.toNat % 2 : Nat) : Int)) n := by
    have := sumZ_to (f := fun i => ((bs p n / 2 ^ i.toNat % 2 : Nat) : Int)) (a := n) (12 - n) (fun i h1 _ => by
      show ((bs p n / 2 ^ (i : Int).toNat % 2 : Nat) : Int) = 0
      rw [show (i : Int).toNat = i from rfl, bs_hi h1]; rfl)
    rwa [show n + (12 - n) = 12 by omega] at this
  rw [e]
  refine sumZ_cg n (fun i hi => ?_)
  show ((bs p n / 2 ^ (i : Int).toNat % 2 : Nat) : Int) = bZ (p i)
  rw [show (i : Int).toNat = i from rfl]
  have hb := bs_bit (p := p) n i hi
  by_cases hp : p i
  · rw [bZ_t hp, hb.mpr hp]; rfl
  · rw [bZ_f hp]
    have : bs p n / 2 ^ i % 2 ≠ 1 := fun q => hp (hb.mp q)
    have h2 := Nat.mod_lt (bs p n / 2 ^ i) (show 0 < 2 by omega)
    omega
/-- the next of the set from j on -/
theorem bs_ns {p : Int → Prop} [DecidablePred p] {n j : Nat} (hn : n ≤ 12) (hj : j ≤ 12) : (nsB (bs p n) j = -1 ∧ ∀ i : Nat, j ≤ i → i < n → ¬ p i) ∨ (∃ k : Nat, nsB (bs p n) j = k ∧ j ≤ k ∧ k < n ∧ p k ∧ ∀ i : Nat, j ≤ i → i < k → ¬ p i) := by
  have hN : nsB (bs p n) j = fndZ (fun i : Int => bs p n / 2 ^ i.toNat % 2 = 1) j (12 - j) := rfl
  rw [hN]
  rcases fnd_r (p := fun i : Int => bs p n / 2 ^ i.toNat % 2 = 1) (12 - j) j (by omega) with ⟨h1, h2⟩ | ⟨h1, h2, h3, h4⟩
  · exact Or.inl ⟨h1, fun i g1 g2 gp => h2 i (by omega) (by omega) ((bs_bit n i g2).mpr gp)⟩
  · generalize fndZ (fun i : Int => bs p n / 2 ^ i.toNat % 2 = 1) j (12 - j) = z at h1 h2 h3 h4
    obtain ⟨k, rfl⟩ : ∃ k : Nat, z = k := ⟨z.toNat, by omega⟩
    have hk : k < n := by
      by_cases q : k < n
      · exact q
      · have h3' : bs p n / 2 ^ k % 2 = 1 := h3
        rw [bs_hi (by omega)] at h3'
        cases h3'
    exact Or.inr ⟨k, rfl, by omega, hk, (bs_bit n k hk).mp h3, fun i g1 g2 gp => h4 i (by omega) (by omega) ((bs_bit n i (by omega)).mpr gp)⟩
theorem btW_to {p : Int → Prop} [DecidablePred p] {a : Nat} : ∀ k : Nat, (∀ i : Nat, a ≤ i → i < a + k → ¬ p i) → btW p (a + k) = btW p a
  | 0, _ => rfl
  | k + 1, h => by
    show (if p ((a + k : Nat) : Int) then _ else btW p (a + k)) = btW p a
    rw [if_neg (h (a + k) (by omega) (by omega)), btW_to k (fun i h1 h2 => h i h1 (by omega))]
theorem btW_seg {p : Int → Prop} [DecidablePred p] {a b : Nat} (hab : a ≤ b) (h : ∀ i : Nat, a ≤ i → i < b → ¬ p i) : btW p b = btW p a := by
  have := btW_to (p := p) (a := a) (b - a) (fun i h1 h2 => h i h1 (by omega))
  rwa [show a + (b - a) = b by omega] at this
theorem sumZ_seg {f : Int → Int} {a b : Nat} (hab : a ≤ b) (h : ∀ i : Nat, a ≤ i → i < b → f i = 0) : sumZ f b = sumZ f a := by
  have := sumZ_to (f := f) (a := a) (b - a) (fun i h1 h2 => h i h1 (by omega))
  rwa [show a + (b - a) = b by omega] at this
theorem bs_s {p : Int → Prop} [DecidablePred p] {n : Nat} : (if p n then bs p n + 2 ^ n else bs p n) = bs p (n + 1) := rfl

/-! the class, part 2: what lies frozen; a state -/
def wL : List (List Int) := [[99, 108, 97, 121], [103, 108, 97, 122, 101], [115, 104, 101, 108, 118, 101], [102, 105, 114, 101], [99, 105, 116, 101], [114, 97, 116, 105, 102, 121], [114, 101, 112, 101, 97, 108], [115, 99, 114, 97, 112], [], [32], [44], [33]]
def wlen (k : Nat) : Nat := ((wL[k]?).getD []).length
def wchr (k i : Nat) : Int := (((wL[k]?).getD [])[i]?).getD 0
def FZ (G : Gl) (h : Hp) : Prop := h (gS G 0) = some (frz, aQ "java/lang/Object" 0 (fun _ => none)) ∧ h (gS G 1) = some (frz, aQ "java/lang/Integer" 256 (fun i => some (gS G (100 + i)))) ∧ h (gS G 2) = some (frz, aI .byte 100 fDO) ∧ h (gS G 3) = some (frz, aI .byte 100 fDT) ∧
  (h (gS G 238) = some (frz, ob 17 [.int (iZ 10)]) ∧ h (gS G 278) = some (frz, ob 17 [.int (iZ 50)]) ∧ h (gS G 327) = some (frz, ob 17 [.int (iZ 99)])) ∧ ∀ k, k < 12 → ST frz frz (gS G (10 + k)) (wlen k) (wchr k) h
theorem FZ.fr {G : Gl} {h h' : Hp} {P : Tg → Prop} (hZ : FZ G h) (hf : Fr P h h') (h1 : ¬ P frz) : FZ G h' := by
  obtain ⟨z1, z2, z3, z4, ⟨z5, z6, z7⟩, z8⟩ := hZ
  exact ⟨hf.get z1 h1, hf.get z2 h1, hf.get z3 h1, hf.get z4 h1, ⟨hf.get z5 h1, hf.get z6 h1, hf.get z7 h1⟩, fun k hk => (z8 k hk).fr hf h1 h1⟩
/-- the state at s, its cells tagged T, is the row r -/
def SWx (G : Gl) (T s : Nat) (r : Row) (al cl sl : Nat) (m1 m2 m3 : Int32) (n1 n2 E F : Nat → Nat) (h : Hp) : Prop :=
  h s = some ((T, 0), ob 1 [.ref al, .ref cl, .ref sl, .int (iZ (r 3)), .int (iZ (r 4)), .int (iZ (r 5)), .int (iZ (r 6)), .int (iZ (r 7)), .int (iZ (r 8)), .int (iZ (r 9))]) ∧
  AL G (T, 1) al m1 (r 0).toNat E h ∧ LL (T, 2) cl m2 (r 1).toNat n1 (fun k => E (r (12 + k)).toNat) h ∧ LL (T, 3) sl m3 (r 2).toNat n2 F h ∧
  (∀ i : Nat, i < (r 0).toNat → h (E i) = some ((T, 4), aC r i)) ∧ (∀ j : Nat, j < (r 2).toNat → h (F j) = some ((T, 5), sC r j)) ∧
  (∀ i j : Nat, i < (r 0).toNat → j < (r 0).toNat → E i = E j → i = j) ∧ (∀ i j : Nat, i < (r 2).toNat → j < (r 2).toNat → F i = F j → i = j)
def SW (G : Gl) (T s : Nat) (r : Row) (h : Hp) : Prop := ∃ al cl sl m1 m2 m3 n1 n2 E F, SWx G T s r al cl sl m1 m2 m3 n1 n2 E F h
theorem SWx.fr {G : Gl} {T s : Nat} {r : Row} {al cl sl : Nat} {m1 m2 m3 : Int32} {n1 n2 E F : Nat → Nat} {h h' : Hp} {P : Tg → Prop} (hX : SWx G T s r al cl sl m1 m2 m3 n1 n2 E F h) (hf : Fr P h h') (h1 : ∀ k, k < 10 → ¬ P (T, k)) (h0 : ¬ P frz) : SWx G T s r al cl sl m1 m2 m3 n1 n2 E F h' := by
  obtain ⟨w1, w2, w3, w4, w5, w6, w7, w8⟩ := hX
  exact ⟨hf.get w1 (h1 0 (by decide)), w2.fr hf (h1 1 (by decide)) h0, w3.fr hf (h1 2 (by decide)), w4.fr hf (h1 3 (by decide)), fun i hi => hf.get (w5 i hi) (h1 4 (by decide)), fun j hj => hf.get (w6 j hj) (h1 5 (by decide)), w7, w8⟩
theorem SW.fr {G : Gl} {T s : Nat} {r : Row} {h h' : Hp} {P : Tg → Prop} (hX : SW G T s r h) (hf : Fr P h h') (h1 : ∀ k, k < 10 → ¬ P (T, k)) (h0 : ¬ P frz) : SW G T s r h' := by
  obtain ⟨al, cl, sl, m1, m2, m3, n1, n2, E, F, hX⟩ := hX
  exact ⟨al, cl, sl, m1, m2, m3, n1, n2, E, F, hX.fr hf h1 h0⟩
/-- cells of queries -/
abbrev pQ : Tg → Prop := fun t => t.1 = 3 ∧ 10 ≤ t.2
theorem pQ_z : ¬ pQ frz := fun q => absurd q.1 (by decide)
theorem SWx.q {G : Gl} {T s : Nat} {r : Row} {al cl sl : Nat} {m1 m2 m3 : Int32} {n1 n2 E F : Nat → Nat} {h h' : Hp} (hX : SWx G T s r al cl sl m1 m2 m3 n1 n2 E F h) (hf : Fr pQ h h') : SWx G T s r al cl sl m1 m2 m3 n1 n2 E F h' := hX.fr hf (fun k hk q => absurd q.2 (by show ¬ 10 ≤ k; omega)) pQ_z
theorem SW.q {G : Gl} {T s : Nat} {r : Row} {h h' : Hp} (hX : SW G T s r h) (hf : Fr pQ h h') : SW G T s r h' := hX.fr hf (fun k hk q => absurd q.2 (by show ¬ 10 ≤ k; omega)) pQ_z
theorem pQ_10 {k : Nat} (hk : 10 ≤ k) : ∀ t : Tg, t = (3, k) → pQ t := by rintro _ rfl; exact ⟨rfl, hk⟩

theorem t_X2_isArticle {G : Gl} {h : Hp} {T s : Nat} {r : Row} (hW : SW G T s r h) (hI : RI r) {v : Int} (hv : InR v) : Ct G 2 0 yX2_isArticle (Cond.code yX2_isArticle cX2_isArticle 2 (some .boolean)) [.ref s, .int (iZ v)] h (jE (.int (iZ (bZ (0 ≤ v ∧ v ≤ r 0 - 1)))) h) noX := by
  have hW0 := hW
  obtain ⟨al, cl, sl, m1, m2, m3, n1, n2, E, F, hX⟩ := hW0
  have b := hI.1
  have hX2 := hX
  obtain ⟨w1, w2, w3, w4, w5, w6, w7, w8⟩ := hX2
  obtain ⟨ar1, w2s⟩ := w2.size
  refine Ct.of (own := "CharterKiln$State") (nm := "isArticle") (by decide +kernel) rfl rfl (L := [some (.ref s), some (.int (iZ v))]) rfl (Nat.le_of_ble_eq_true rfl) rfl ?_
  refine r_iload_n (pc := 0) dX2_isArticle_0 rfl ?_
  refine r_iconst (pc := 1) dX2_isArticle_1 ?_
  refine r_aload_n (pc := 2) dX2_isArticle_2 rfl ?_
  refine gX2_12 (pc := 3) dX2_isArticle_3 w1 rfl ?_
  refine r_callV (pc := 6) (kb' := 0) dX2_isArticle_6 kJ2_size q1609 (t_J2_size w2s) w2s rfl (Nat.le_refl _) (Nat.le_of_ble_eq_true rfl) rfl rfl (Nat.le_of_ble_eq_true rfl) (fun _ _ q => q.elim) (fun _ _ hq => ?_)
  refine go_jE hq ?_
  refine go_cz (w := r 0) (by omega) ?_
  refine r_iconst (pc := 9) dX2_isArticle_9 ?_
  refine r_isub (pc := 10) dX2_isArticle_10 ?_
  refine r_callSN (pc := 11) (kb' := 0) dX2_isArticle_11 kX1_isBetween q1744 (t_X1_isBetween (lo := 0) (by omega) (by omega) (by omega)) (Nat.le_refl _) (Nat.le_of_ble_eq_true rfl) rfl rfl (Nat.le_of_ble_eq_true rfl) (fun _ _ q => q.elim) (fun _ _ hq => ?_)
  refine go_jE hq ?_
  exact r_iret (pc := 14) dX2_isArticle_14 rfl (nB' (by first | (left; rfl) | (right; rfl) | exact bZ_01' _ | omega)) ⟨rfl, rfl⟩
theorem t_X2_isShard {G : Gl} {h : Hp} {T s : Nat} {r : Row} (hW : SW G T s r h) (hI : RI r) {v : Int} (hv : InR v) : Ct G 2 0 yX2_isShard (Cond.code yX2_isShard cX2_isShard 2 (some .boolean)) [.ref s, .int (iZ v)] h (jE (.int (iZ (bZ (0 ≤ v ∧ v ≤ r 2 - 1)))) h) noX := by
  have hW0 := hW
  obtain ⟨al, cl, sl, m1, m2, m3, n1, n2, E, F, hX⟩ := hW0
  have b := hI.1
  have hX2 := hX
  obtain ⟨w1, w2, w3, w4, w5, w6, w7, w8⟩ := hX2
  obtain ⟨ar1, w2s⟩ := w2.size
  refine Ct.of (own := "CharterKiln$State") (nm := "isShard") (by decide +kernel) rfl rfl (L := [some (.ref s), some (.int (iZ v))]) rfl (Nat.le_of_ble_eq_true rfl) rfl ?_
  refine r_iload_n (pc := 0) dX2_isShard_0 rfl ?_
  refine r_iconst (pc := 1) dX2_isShard_1 ?_
  refine r_aload_n (pc := 2) dX2_isShard_2 rfl ?_
  refine gX2_25 (pc := 3) dX2_isShard_3 w1 rfl ?_
  refine r_callV (pc := 6) (kb' := 0) dX2_isShard_6 kJ4_size q1866 (t_J4_size w4) w4.2.1 rfl (Nat.le_refl _) (Nat.le_of_ble_eq_true rfl) rfl rfl (Nat.le_of_ble_eq_true rfl) (fun _ _ q => q.elim) (fun _ _ hq => ?_)
  refine go_jE hq ?_
  refine go_cz (w := r 2) (by omega) ?_
  refine r_iconst (pc := 9) dX2_isShard_9 ?_
  refine r_isub (pc := 10) dX2_isShard_10 ?_
  refine r_callSN (pc := 11) (kb' := 0) dX2_isShard_11 kX1_isBetween q1744 (t_X1_isBetween (lo := 0) (by omega) (by omega) (by omega)) (Nat.le_refl _) (Nat.le_of_ble_eq_true rfl) rfl rfl (Nat.le_of_ble_eq_true rfl) (fun _ _ q => q.elim) (fun _ _ hq => ?_)
  refine go_jE hq ?_
  exact r_iret (pc := 14) dX2_isShard_14 rfl (nB' (by first | (left; rfl) | (right; rfl) | exact bZ_01' _ | omega)) ⟨rfl, rfl⟩
theorem t_X2_on {G : Gl} {h9 : Hp} {T s : Nat} {r : Row} (hW : SW G T s r h9) (hI : RI r) {x : Int} (hx : InR x) : Ct G 5 6 yX2_on (Cond.code yX2_on cX2_on 4 (some (.object "java/util/BitSet"))) [.ref s, .int (iZ x)] h9 (jX (fun q h' => BS (3, 10) q (bs (fun i => fA r i 4 = x) (r 0).toNat) h' ∧ Fr pQ h9 h')) noX := by
  have hW0 := hW
  obtain ⟨al, cl, sl, m1, m2, m3, n1, n2, E, F, hX⟩ := hW0
  have b := hI.1
  have hX2 := hX
  obtain ⟨w1, w2, w3, w4, w5, w6, w7, w8⟩ := hX2
  obtain ⟨ar1, w2s⟩ := w2.size
  have hp := PW.nil (h := h9)
  refine Ct.of (own := "CharterKiln$State") (nm := "on") (by decide +kernel) rfl rfl (L := [some (.ref s), some (.int (iZ x)), none, none]) rfl (Nat.le_of_ble_eq_true rfl) rfl ?_
  refine r_new (pc := 0) (ci := 16) (T := TJ14) (N := 3) ((3, 10)) [.null, .int 0, .int 0] (kb' := 2) dX2_on_0 rfl q1585 q1586 q124 (by intro j hj; revert j; decide +kernel) (Nat.le_of_ble_eq_true rfl) (fun w hw zw => ?_)
  refine go_pw (hp.new hw _) (fun h hp => ?_)
  have hwn := hw
  refine r_dup (pc := 3) dX2_on_3 rfl ?_
  refine r_bipush (pc := 4) dX2_on_4 (by decide) ?_
  refine r_callI (pc := 6) (kb' := 0) dX2_on_6 kJ14_init q1587 (t_J14_init (n := 12) (hp.at 0 rfl) (by decide) (by omega)) (Nat.le_of_ble_eq_true rfl) (Nat.le_of_ble_eq_true rfl) rfl rfl (Nat.le_of_ble_eq_true rfl) (fun _ _ q => q.elim) (fun _ h hq => ?_)
  refine go_jN hq (fun hq2 => ?_)
  obtain ⟨hB, hF2⟩ := hq2
  have hF := (hp.fr (P := pQ) ⟨Or.inl hwn, trivial⟩).tr (hF2.wk (pQ_10 (by decide)))
  refine r_astore_n (pc := 9) (L' := [_, _, _, _]) dX2_on_9 rfl ?_
  refine r_iconst (pc := 10) dX2_on_10 ?_
  refine r_istore_n (pc := 11) (L' := [_, _, _, _]) dX2_on_11 rfl ?_
  have loop12 : ∀ (k12 : Nat) (k : Nat) (h : Hp), (k ≤ (r 0).toNat) → (BS (3, 10) w (bs (fun i => fA r i 4 = x) k) h) → (Fr pQ h9 h) → (r 0).toNat - k < k12 → Go G "CharterKiln$State" cX2_on (4, some (.object "java/util/BitSet"), "on", []) 5 6 (jX (fun q h' => BS (3, 10) q (bs (fun i => fA r i 4 = x) (r 0).toNat) h' ∧ Fr pQ h9 h')) (noX) 0 h 12 [some (.ref s), some (.int (iZ x)), some (.ref w), some (.int (iZ k))] [] := by
    intro k12
    induction k12 with
    | zero => intro k h hk hB hF hk; omega
    | succ k12 ih12 =>
      intro k h hk hB hF hk12
      have hX2 := hX.q hF
      obtain ⟨w1, w2, w3, w4, w5, w6, w7, w8⟩ := hX2
      obtain ⟨ar1, w2s⟩ := w2.size
      have hB0 := hB
      obtain ⟨bw, bf, bz, hB1, hB2⟩ := hB0
      refine r_iload_n (pc := 12) dX2_on_12 rfl ?_
      refine r_aload_n (pc := 13) dX2_on_13 rfl ?_
      refine gX2_12 (pc := 14) dX2_on_14 w1 rfl ?_
      refine r_callV (pc := 17) (kb' := 0) dX2_on_17 kJ2_size q1609 (t_J2_size w2s) w2s rfl (Nat.le_refl _) (Nat.le_of_ble_eq_true rfl) rfl rfl (Nat.le_of_ble_eq_true rfl) (fun _ _ q => q.elim) (fun _ _ hq => ?_)
      refine go_jE hq ?_
      refine go_cz (w := r 0) (by omega) ?_
      refine r_icmp_ge (pc := 20) (tgt := 57) dX2_on_20 (by decide) (by omega) (by omega) (fun c20 => ?_) (fun c20 => ?_)
      · refine r_aload_n (pc := 57) dX2_on_57 rfl ?_
        exact r_aret (pc := 58) dX2_on_58 rfl (Or.inl ⟨_, rfl⟩) (Or.inr ⟨_, rfl⟩) ⟨w, rfl, by rw [show (r 0).toNat = k by omega]; exact hB, hF⟩
      · refine r_aload_n (pc := 23) dX2_on_23 rfl ?_
        refine r_iload_n (pc := 24) dX2_on_24 rfl ?_
        refine r_aload_n (pc := 25) dX2_on_25 rfl ?_
        refine gX2_12 (pc := 26) dX2_on_26 w1 rfl ?_
        refine r_iload_n (pc := 29) dX2_on_29 rfl ?_
        refine r_callV (pc := 30) (kb' := 0) dX2_on_30 kJ2_get q1457 (t_J2_get w2 (by omega) (by omega)) w2s rfl (Nat.le_refl _) (Nat.le_of_ble_eq_true rfl) rfl rfl (Nat.le_of_ble_eq_true rfl) (fun _ _ q => q.elim) (fun _ _ hq => ?_)
        refine go_jE hq ?_
        refine go_cv (w := .ref (E k)) (by first | rfl | exact congrArg (fun q => Value.ref (E q)) (by omega)) ?_
        have ho := hI.2.1 ((k : Nat) : Int) (by omega) (by omega)
        have ho2 := ho
        unfold artOk at ho2
        refine r_cast (pc := 33) dX2_on_33 q1387 (w5 k (by omega)) rfl ?_
        refine gX2_107 (pc := 36) dX2_on_36 (w5 k (by omega)) rfl ?_
        refine r_iload_n (pc := 39) dX2_on_39 rfl ?_
        refine r_icmp_ne (pc := 40) (tgt := 47) dX2_on_40 (by decide) (by omega) (by omega) (fun c40 => ?_) (fun c40 => ?_)
        · refine r_iconst (pc := 47) dX2_on_47 ?_
          refine go_cz (w := bZ (fA r k 4 = x)) (bZ_f (by assumption)).symm ?_
          refine r_callV (pc := 48) (kb' := 0) dX2_on_48 kJ14_set q1610 (t_J14_set (p := fA r k 4 = x) hB (by decide) (by omega) (bs_lt k)) hB1 rfl (Nat.le_refl _) (Nat.le_of_ble_eq_true rfl) rfl rfl (Nat.le_of_ble_eq_true rfl) (fun _ _ q => q.elim) (fun _ h hq => ?_)
          refine go_jN hq (fun hq2 => ?_)
          obtain ⟨hB, hF2⟩ := hq2
          replace hF := hF.tr (hF2.wk (pQ_10 (by decide)))
          refine r_iinc (pc := 51) (L' := [_, _, _, _]) dX2_on_51 rfl rfl ?_
          refine r_goto (pc := 54) (tgt := 12) dX2_on_54 (by decide) ?_
          exact ih12 (k + 1) h (by omega) hB hF (by omega)
        · refine r_iconst (pc := 43) dX2_on_43 ?_
          refine go_cz (w := bZ (fA r k 4 = x)) (bZ_t (by first | assumption | exact Classical.not_not.mp (by assumption))).symm ?_
          refine r_goto (pc := 44) (tgt := 48) dX2_on_44 (by decide) ?_
          refine r_callV (pc := 48) (kb' := 0) dX2_on_48 kJ14_set q1610 (t_J14_set (p := fA r k 4 = x) hB (by decide) (by omega) (bs_lt k)) hB1 rfl (Nat.le_refl _) (Nat.le_of_ble_eq_true rfl) rfl rfl (Nat.le_of_ble_eq_true rfl) (fun _ _ q => q.elim) (fun _ h hq => ?_)
          refine go_jN hq (fun hq2 => ?_)
          obtain ⟨hB, hF2⟩ := hq2
          replace hF := hF.tr (hF2.wk (pQ_10 (by decide)))
          refine r_iinc (pc := 51) (L' := [_, _, _, _]) dX2_on_51 rfl rfl ?_
          refine r_goto (pc := 54) (tgt := 12) dX2_on_54 (by decide) ?_
          exact ih12 (k + 1) h (by omega) hB hF (by omega)
  exact loop12 _ 0 _ (by omega) hB hF (Nat.lt_succ_self _)
theorem t_X2_many {G : Gl} {h9 : Hp} {T s : Nat} {r : Row} (hW : SW G T s r h9) (hI : RI r) {x : Int} (hx : InR x) : Ct G 6 6 yX2_many (Cond.code yX2_many cX2_many 2 (some .int)) [.ref s, .int (iZ x)] h9 (jP (.int (iZ (onSh r x))) (Fr pQ h9)) noX := by
  have hW0 := hW
  obtain ⟨al, cl, sl, m1, m2, m3, n1, n2, E, F, hX⟩ := hW0
  have b := hI.1
  have hX2 := hX
  obtain ⟨w1, w2, w3, w4, w5, w6, w7, w8⟩ := hX2
  obtain ⟨ar1, w2s⟩ := w2.size
  refine Ct.of (own := "CharterKiln$State") (nm := "many") (by decide +kernel) rfl rfl (L := [some (.ref s), some (.int (iZ x))]) rfl (Nat.le_of_ble_eq_true rfl) rfl ?_
  refine r_aload_n (pc := 0) dX2_many_0 rfl ?_
  refine r_iload_n (pc := 1) dX2_many_1 rfl ?_
  refine r_callV (pc := 2) (kb' := 0) dX2_many_2 kX2_on q1581 (t_X2_on hW hI hx) w1 rfl (Nat.le_of_ble_eq_true rfl) (Nat.le_of_ble_eq_true rfl) rfl rfl (Nat.le_of_ble_eq_true rfl) (fun _ _ q => q.elim) (fun _ h hq => ?_)
  refine go_jX hq (fun w hq2 => ?_)
  obtain ⟨hB, hF⟩ := hq2
  have hB0 := hB
  obtain ⟨bw, bf, bz, hB1, hB2⟩ := hB0
  refine r_callV (pc := 5) (kb' := 0) dX2_many_5 kJ14_cardinality q1658 (t_J14_cardinality hB) hB1 rfl (Nat.le_refl _) (Nat.le_of_ble_eq_true rfl) rfl rfl (Nat.le_of_ble_eq_true rfl) (fun _ _ q => q.elim) (fun _ _ hq => ?_)
  refine go_jE hq ?_
  refine go_cz (w := onSh r x) (bs_pc (by omega)) ?_
  exact r_iret (pc := 8) dX2_many_8 rfl rfl ⟨rfl, hF⟩
theorem t_X2_cracksOn {G : Gl} {h9 : Hp} {T s : Nat} {r : Row} (hW : SW G T s r h9) (hI : RI r) {x : Int} (hx : InR x) : Ct G 6 6 yX2_cracksOn (Cond.code yX2_cracksOn cX2_cracksOn 5 (some .int)) [.ref s, .int (iZ x)] h9 (jP (.int (iZ (crkSh r x))) (Fr pQ h9)) noX := by
  have hW0 := hW
  obtain ⟨al, cl, sl, m1, m2, m3, n1, n2, E, F, hX⟩ := hW0
  have b := hI.1
  have hX2 := hX
  obtain ⟨w1, w2, w3, w4, w5, w6, w7, w8⟩ := hX2
  obtain ⟨ar1, w2s⟩ := w2.size
  refine Ct.of (own := "CharterKiln$State") (nm := "cracksOn") (by decide +kernel) rfl rfl (L := [some (.ref s), some (.int (iZ x)), none, none, none]) rfl (Nat.le_of_ble_eq_true rfl) rfl ?_
  refine r_iconst (pc := 0) dX2_cracksOn_0 ?_
  refine r_istore_n (pc := 1) (L' := [_, _, _, _, _]) dX2_cracksOn_1 rfl ?_
  refine r_aload_n (pc := 2) dX2_cracksOn_2 rfl ?_
  refine r_iload_n (pc := 3) dX2_cracksOn_3 rfl ?_
  refine r_callV (pc := 4) (kb' := 0) dX2_cracksOn_4 kX2_on q1581 (t_X2_on hW hI hx) w1 rfl (Nat.le_of_ble_eq_true rfl) (Nat.le_of_ble_eq_true rfl) rfl rfl (Nat.le_of_ble_eq_true rfl) (fun _ _ q => q.elim) (fun _ h hq => ?_)
  refine go_jX hq (fun w hq2 => ?_)
  obtain ⟨hB, hF⟩ := hq2
  have hB0 := hB
  obtain ⟨bw, bf, bz, hB1, hB2⟩ := hB0
  have hX2 := hX.q hF
  obtain ⟨w1, w2, w3, w4, w5, w6, w7, w8⟩ := hX2
  obtain ⟨ar1, w2s⟩ := w2.size
  refine r_astore_n (pc := 7) (L' := [_, _, _, _, _]) dX2_cracksOn_7 rfl ?_
  refine r_aload_n (pc := 8) dX2_cracksOn_8 rfl ?_
  refine r_iconst (pc := 9) dX2_cracksOn_9 ?_
  refine r_callV (pc := 10) (kb' := 0) dX2_cracksOn_10 kJ14_nextSetBit q1997 (t_J14_nextSetBit hB (k := 0) (by omega)) hB1 rfl (Nat.le_refl _) (Nat.le_of_ble_eq_true rfl) rfl rfl (Nat.le_of_ble_eq_true rfl) (fun _ _ q => q.elim) (fun _ _ hq => ?_)
  refine go_jE hq ?_
  refine r_istore (pc := 13) (L' := [_, _, _, _, _]) dX2_cracksOn_13 rfl ?_
  have loop15 : ∀ (k15 : Nat) (j : Nat), (j ≤ (r 0).toNat) → (r 0).toNat - j < k15 → Go G "CharterKiln$State" cX2_cracksOn (5, some .int, "cracksOn", []) 6 6 (jP (.int (iZ (crkSh r x))) (Fr pQ h9)) (noX) 0 h 15 [some (.ref s), some (.int (iZ x)), some (.int (iZ (sumZ (fun a => if fA r a 4 = x then fA r a 2 else 0) j))), some (.ref w), some (.int (iZ (nsB (bs (fun i => fA r i 4 = x) (r 0).toNat) j)))] [] := by
    intro k15
    induction k15 with
    | zero => intro j hj hk; omega
    | succ k15 ih15 =>
      intro j hj hk15
      rcases bs_ns (p := (fun i => fA r i 4 = x)) (n := (r 0).toNat) (j := j) (by omega) (by omega) with ⟨e9, e8⟩ | ⟨k, e9, k1, k2, k3, k4⟩
      · rw [e9]
        refine r_iload (pc := 15) dX2_cracksOn_15 rfl ?_
        refine r_if_lt (pc := 17) (tgt := 51) dX2_cracksOn_17 (by decide) (by decide) (fun _ => ?_) (fun q => absurd (by decide) q)
        refine r_iload_n (pc := 51) dX2_cracksOn_51 rfl ?_
        exact r_iret (pc := 52) dX2_cracksOn_52 rfl rfl ⟨congrArg (fun q : Int => some (Value.int (iZ q))) (sumZ_seg hj (fun i g1 g2 => if_neg (e8 i g1 g2))).symm, hF⟩
      · rw [e9, ← sumZ_seg (f := (fun a => if fA r a 4 = x then fA r a 2 else 0)) k1 (fun i g1 g2 => if_neg (k4 i g1 g2))]
        refine r_iload (pc := 15) dX2_cracksOn_15 rfl ?_
        refine r_if_lt (pc := 17) (tgt := 51) dX2_cracksOn_17 (by decide) (by omega) (fun c17 => absurd c17 (by omega)) (fun c17 => ?_)
        refine r_iload_n (pc := 20) dX2_cracksOn_20 rfl ?_
        refine r_aload_n (pc := 21) dX2_cracksOn_21 rfl ?_
        refine gX2_12 (pc := 22) dX2_cracksOn_22 w1 rfl ?_
        refine r_iload (pc := 25) dX2_cracksOn_25 rfl ?_
        refine r_callV (pc := 27) (kb' := 0) dX2_cracksOn_27 kJ2_get q1457 (t_J2_get w2 (by omega) (by omega)) w2s rfl (Nat.le_refl _) (Nat.le_of_ble_eq_true rfl) rfl rfl (Nat.le_of_ble_eq_true rfl) (fun _ _ q => q.elim) (fun _ _ hq => ?_)
        refine go_jE hq ?_
        refine go_cv (w := .ref (E k)) (by first | rfl | exact congrArg (fun q => Value.ref (E q)) (by omega)) ?_
        have ho := hI.2.1 ((k : Nat) : Int) (by omega) (by omega)
        have ho2 := ho
        unfold artOk at ho2
        refine r_cast (pc := 30) dX2_cracksOn_30 q1387 (w5 k (by omega)) rfl ?_
        refine gX2_125 (pc := 33) dX2_cracksOn_33 (w5 k (by omega)) rfl ?_
        refine r_iadd (pc := 36) dX2_cracksOn_36 ?_
        refine go_cz (w := sumZ (fun a => if fA r a 4 = x then fA r a 2 else 0) (k + 1)) (by show _ = sumZ (fun a => if fA r a 4 = x then fA r a 2 else 0) k + (if fA r k 4 = x then fA r k 2 else 0); rw [if_pos k3]) ?_
        refine r_istore_n (pc := 37) (L' := [_, _, _, _, _]) dX2_cracksOn_37 rfl ?_
        refine r_aload_n (pc := 38) dX2_cracksOn_38 rfl ?_
        refine r_iload (pc := 39) dX2_cracksOn_39 rfl ?_
        refine r_iconst (pc := 41) dX2_cracksOn_41 ?_
        refine r_iadd (pc := 42) dX2_cracksOn_42 ?_
        refine r_callV (pc := 43) (kb' := 0) dX2_cracksOn_43 kJ14_nextSetBit q1997 (t_J14_nextSetBit hB (k := k + 1) (by omega)) hB1 rfl (Nat.le_refl _) (Nat.le_of_ble_eq_true rfl) rfl rfl (Nat.le_of_ble_eq_true rfl) (fun _ _ q => q.elim) (fun _ _ hq => ?_)
        refine go_jE hq ?_
        refine r_istore (pc := 46) (L' := [_, _, _, _, _]) dX2_cracksOn_46 rfl ?_
        refine r_goto (pc := 48) (tgt := 15) dX2_cracksOn_48 (by decide) ?_
        exact ih15 (k + 1) (by omega) (by omega)
  exact loop15 _ 0 (by omega) (Nat.lt_succ_self _)
theorem t_X2_cracks {G : Gl} {h9 : Hp} {T s : Nat} {r : Row} (hW : SW G T s r h9) (hI : RI r) : Ct G 3 5 yX2_cracks (Cond.code yX2_cracks cX2_cracks 4 (some .int)) [.ref s] h9 (jP (.int (iZ (sumI (r 0) (fun a => fA r a 2)))) (Fr pQ h9)) noX := by
  have hW0 := hW
  obtain ⟨al, cl, sl, m1, m2, m3, n1, n2, E, F, hX⟩ := hW0
  have b := hI.1
  have hX2 := hX
  obtain ⟨w1, w2, w3, w4, w5, w6, w7, w8⟩ := hX2
  obtain ⟨ar1, w2s⟩ := w2.size
  have hp := PW.nil (h := h9)
  refine Ct.of (own := "CharterKiln$State") (nm := "cracks") (by decide +kernel) rfl rfl (L := [some (.ref s), none, none, none]) rfl (Nat.le_of_ble_eq_true rfl) rfl ?_
  refine r_iconst (pc := 0) dX2_cracks_0 ?_
  refine r_istore_n (pc := 1) (L' := [_, _, _, _]) dX2_cracks_1 rfl ?_
  refine r_aload_n (pc := 2) dX2_cracks_2 rfl ?_
  refine gX2_12 (pc := 3) dX2_cracks_3 w1 rfl ?_
  refine r_callV (pc := 6) (kb' := 0) dX2_cracks_6 kJ2_iterator q1382 (t_J2_iterator (3, 11) (by decide) w2) w2s rfl (Nat.le_of_ble_eq_true rfl) (Nat.le_of_ble_eq_true rfl) rfl rfl (Nat.le_of_ble_eq_true rfl) (fun _ _ q => q.elim) (fun _ h hq => ?_)
  refine go_jX hq (fun it hit => ?_)
  obtain ⟨hit, e9⟩ := hit
  subst e9
  refine go_pw (hp.new hit _) (fun h hp => ?_)
  refine r_astore_n (pc := 9) (L' := [_, _, _, _]) dX2_cracks_9 rfl ?_
  have loop10 : ∀ (k10 : Nat) (k : Nat) (l : Int) (h : Hp), (k ≤ (r 0).toNat) → (PW [(it, (3, 11), ob 9 [.int (iZ k), .int (iZ l), .int m1, .ref al])] h9 h) → (r 0).toNat - k < k10 → Go G "CharterKiln$State" cX2_cracks (4, some .int, "cracks", []) 3 5 (jP (.int (iZ (sumI (r 0) (fun a => fA r a 2)))) (Fr pQ h9)) (noX) 0 h 10 [some (.ref s), some (.int (iZ (sumZ (fun a => fA r a 2) k))), some (.ref it), none] [] := by
    intro k10
    induction k10 with
    | zero => intro k l h hk hp hk; omega
    | succ k10 ih10 =>
      intro k l h hk hp hk10
      have hF := hp.fr (P := pQ) ⟨Or.inl hit, trivial⟩
      have hX2 := hX.q hF
      obtain ⟨w1, w2, w3, w4, w5, w6, w7, w8⟩ := hX2
      obtain ⟨ar1, w2s⟩ := w2.size
      refine r_aload_n (pc := 10) dX2_cracks_10 rfl ?_
      refine r_callF (pc := 11) (kb' := 0) dX2_cracks_11 0 rfl f0 q1384 (t_J26_hasNext (hp.at 0 rfl) w2 (by omega)) (hp.at 0 rfl) rfl (Nat.le_refl _) (Nat.le_of_ble_eq_true rfl) rfl rfl (Nat.le_of_ble_eq_true rfl) (fun _ _ q => q.elim) (fun _ _ hq => ?_)
      refine go_jE hq ?_
      refine r_ifB_eq (pc := 16) (tgt := 39) dX2_cracks_16 (by decide) (fun c16 => ?_) (fun c16 => ?_)
      · refine r_iload_n (pc := 39) dX2_cracks_39 rfl ?_
        exact r_iret (pc := 40) dX2_cracks_40 rfl rfl ⟨congrArg (fun q : Int => some (Value.int (iZ q))) (by show sumZ _ k = sumZ _ (r 0).toNat; rw [show k = (r 0).toNat by omega]), hF⟩
      · refine r_aload_n (pc := 19) dX2_cracks_19 rfl ?_
        refine r_callF (pc := 20) (kb' := 0) dX2_cracks_20 1 rfl f1 q1386 (t_J26_next (hp.at 0 rfl) w2 (by omega) (by decide)) (hp.at 0 rfl) rfl (Nat.le_refl _) (Nat.le_of_ble_eq_true rfl) rfl rfl (Nat.le_of_ble_eq_true rfl) (fun _ _ q => q.elim) (fun _ h hq => ?_)
        refine go_jP hq (fun e9 => ?_)
        subst e9
        refine go_pw (hp.put 0 rfl) (fun h hp => ?_)
        have hF := hp.fr (P := pQ) ⟨Or.inl hit, trivial⟩
        have hX2 := hX.q hF
        obtain ⟨w1, w2, w3, w4, w5, w6, w7, w8⟩ := hX2
        obtain ⟨ar1, w2s⟩ := w2.size
        have ho := hI.2.1 ((k : Nat) : Int) (by omega) (by omega)
        have ho2 := ho
        unfold artOk at ho2
        refine r_cast (pc := 25) dX2_cracks_25 q1387 (w5 k (by omega)) rfl ?_
        refine r_astore_n (pc := 28) (L' := [_, _, _, _]) dX2_cracks_28 rfl ?_
        refine r_iload_n (pc := 29) dX2_cracks_29 rfl ?_
        refine r_aload_n (pc := 30) dX2_cracks_30 rfl ?_
        refine gX2_125 (pc := 31) dX2_cracks_31 (w5 k (by omega)) rfl ?_
        refine r_iadd (pc := 34) dX2_cracks_34 ?_
        refine go_cz (w := sumZ (fun a => fA r a 2) (k + 1)) rfl ?_
        refine r_istore_n (pc := 35) (L' := [_, _, _, _]) dX2_cracks_35 rfl ?_
        refine r_goto (pc := 36) (tgt := 10) dX2_cracks_36 (by decide) ?_
        refine goL (L' := [some (.ref s), some (.int (iZ (sumZ (fun a => fA r a 2) (k + 1)))), some (.ref it), none]) ⟨rfl, rfl, rfl, trivial⟩ ?_
        exact ih10 (k + 1) k h (by omega) hp (by omega)
  exact loop10 _ 0 (-1) _ (by omega) hp (Nat.lt_succ_self _)
theorem t_X2_fired {G : Gl} {h9 : Hp} {T s : Nat} {r : Row} (hW : SW G T s r h9) (hI : RI r) : Ct G 3 5 yX2_fired (Cond.code yX2_fired cX2_fired 4 (some .int)) [.ref s] h9 (jP (.int (iZ (sumI (r 0) (fun a => fA r a 3)))) (Fr pQ h9)) noX := by
  have hW0 := hW
  obtain ⟨al, cl, sl, m1, m2, m3, n1, n2, E, F, hX⟩ := hW0
  have b := hI.1
  have hX2 := hX
  obtain ⟨w1, w2, w3, w4, w5, w6, w7, w8⟩ := hX2
  obtain ⟨ar1, w2s⟩ := w2.size
  have hp := PW.nil (h := h9)
  refine Ct.of (own := "CharterKiln$State") (nm := "fired") (by decide +kernel) rfl rfl (L := [some (.ref s), none, none, none]) rfl (Nat.le_of_ble_eq_true rfl) rfl ?_
  refine r_iconst (pc := 0) dX2_fired_0 ?_
  refine r_istore_n (pc := 1) (L' := [_, _, _, _]) dX2_fired_1 rfl ?_
  refine r_aload_n (pc := 2) dX2_fired_2 rfl ?_
  refine gX2_12 (pc := 3) dX2_fired_3 w1 rfl ?_
  refine r_callV (pc := 6) (kb' := 0) dX2_fired_6 kJ2_iterator q1382 (t_J2_iterator (3, 11) (by decide) w2) w2s rfl (Nat.le_of_ble_eq_true rfl) (Nat.le_of_ble_eq_true rfl) rfl rfl (Nat.le_of_ble_eq_true rfl) (fun _ _ q => q.elim) (fun _ h hq => ?_)
  refine go_jX hq (fun it hit => ?_)
  obtain ⟨hit, e9⟩ := hit
  subst e9
  refine go_pw (hp.new hit _) (fun h hp => ?_)
  refine r_astore_n (pc := 9) (L' := [_, _, _, _]) dX2_fired_9 rfl ?_
  have loop10 : ∀ (k10 : Nat) (k : Nat) (l : Int) (h : Hp), (k ≤ (r 0).toNat) → (PW [(it, (3, 11), ob 9 [.int (iZ k), .int (iZ l), .int m1, .ref al])] h9 h) → (r 0).toNat - k < k10 → Go G "CharterKiln$State" cX2_fired (4, some .int, "fired", []) 3 5 (jP (.int (iZ (sumI (r 0) (fun a => fA r a 3)))) (Fr pQ h9)) (noX) 0 h 10 [some (.ref s), some (.int (iZ (sumZ (fun a => fA r a 3) k))), some (.ref it), none] [] := by
    intro k10
    induction k10 with
    | zero => intro k l h hk hp hk; omega
    | succ k10 ih10 =>
      intro k l h hk hp hk10
      have hF := hp.fr (P := pQ) ⟨Or.inl hit, trivial⟩
      have hX2 := hX.q hF
      obtain ⟨w1, w2, w3, w4, w5, w6, w7, w8⟩ := hX2
      obtain ⟨ar1, w2s⟩ := w2.size
      refine r_aload_n (pc := 10) dX2_fired_10 rfl ?_
      refine r_callF (pc := 11) (kb' := 0) dX2_fired_11 0 rfl f0 q1384 (t_J26_hasNext (hp.at 0 rfl) w2 (by omega)) (hp.at 0 rfl) rfl (Nat.le_refl _) (Nat.le_of_ble_eq_true rfl) rfl rfl (Nat.le_of_ble_eq_true rfl) (fun _ _ q => q.elim) (fun _ _ hq => ?_)
      refine go_jE hq ?_
      refine r_ifB_eq (pc := 16) (tgt := 47) dX2_fired_16 (by decide) (fun c16 => ?_) (fun c16 => ?_)
      · refine r_iload_n (pc := 47) dX2_fired_47 rfl ?_
        exact r_iret (pc := 48) dX2_fired_48 rfl rfl ⟨congrArg (fun q : Int => some (Value.int (iZ q))) (by show sumZ _ k = sumZ _ (r 0).toNat; rw [show k = (r 0).toNat by omega]), hF⟩
      · refine r_aload_n (pc := 19) dX2_fired_19 rfl ?_
        refine r_callF (pc := 20) (kb' := 0) dX2_fired_20 1 rfl f1 q1386 (t_J26_next (hp.at 0 rfl) w2 (by omega) (by decide)) (hp.at 0 rfl) rfl (Nat.le_refl _) (Nat.le_of_ble_eq_true rfl) rfl rfl (Nat.le_of_ble_eq_true rfl) (fun _ _ q => q.elim) (fun _ h hq => ?_)
        refine go_jP hq (fun e9 => ?_)
        subst e9
        refine go_pw (hp.put 0 rfl) (fun h hp => ?_)
        have hF := hp.fr (P := pQ) ⟨Or.inl hit, trivial⟩
        have hX2 := hX.q hF
        obtain ⟨w1, w2, w3, w4, w5, w6, w7, w8⟩ := hX2
        obtain ⟨ar1, w2s⟩ := w2.size
        have ho := hI.2.1 ((k : Nat) : Int) (by omega) (by omega)
        have ho2 := ho
        unfold artOk at ho2
        refine r_cast (pc := 25) dX2_fired_25 q1387 (w5 k (by omega)) rfl ?_
        refine r_astore_n (pc := 28) (L' := [_, _, _, _]) dX2_fired_28 rfl ?_
        refine r_iload_n (pc := 29) dX2_fired_29 rfl ?_
        refine r_aload_n (pc := 30) dX2_fired_30 rfl ?_
        refine gX2_162 (pc := 31) dX2_fired_31 (w5 k (by omega)) rfl ?_
        refine r_if_eq (pc := 34) (tgt := 41) dX2_fired_34 (by decide) (by omega) (fun c34 => ?_) (fun c34 => ?_)
        · refine r_iconst (pc := 41) dX2_fired_41 ?_
          refine go_cz (w := fA r k 3) (by omega) ?_
          refine r_iadd (pc := 42) dX2_fired_42 ?_
          refine go_cz (w := sumZ (fun a => fA r a 3) (k + 1)) rfl ?_
          refine r_istore_n (pc := 43) (L' := [_, _, _, _]) dX2_fired_43 rfl ?_
          refine r_goto (pc := 44) (tgt := 10) dX2_fired_44 (by decide) ?_
          refine goL (L' := [some (.ref s), some (.int (iZ (sumZ (fun a => fA r a 3) (k + 1)))), some (.ref it), none]) ⟨rfl, rfl, rfl, trivial⟩ ?_
          exact ih10 (k + 1) k h (by omega) hp (by omega)
        · refine r_iconst (pc := 37) dX2_fired_37 ?_
          refine go_cz (w := fA r k 3) (by omega) ?_
          refine r_goto (pc := 38) (tgt := 42) dX2_fired_38 (by decide) ?_
          refine r_iadd (pc := 42) dX2_fired_42 ?_
          refine go_cz (w := sumZ (fun a => fA r a 3) (k + 1)) rfl ?_
          refine r_istore_n (pc := 43) (L' := [_, _, _, _]) dX2_fired_43 rfl ?_
          refine r_goto (pc := 44) (tgt := 10) dX2_fired_44 (by decide) ?_
          refine goL (L' := [some (.ref s), some (.int (iZ (sumZ (fun a => fA r a 3) (k + 1)))), some (.ref it), none]) ⟨rfl, rfl, rfl, trivial⟩ ?_
          exact ih10 (k + 1) k h (by omega) hp (by omega)
  exact loop10 _ 0 (-1) _ (by omega) hp (Nat.lt_succ_self _)
