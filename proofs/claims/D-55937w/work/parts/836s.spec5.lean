set_option maxRecDepth 100000
theorem ci_o {r : Row} {s a j : Int} (hs : 0 ≤ s ∧ s < r 2) (h8 : r 2 ≤ 8) (ha : 0 ≤ a) (hj : j < 26 ∨ 50 ≤ j) (h2 : j ≠ 2) (h5 : j ≠ 5) (h6 : j ≠ 6) (h7 : j ≠ 7) (hq : j ≠ 56 + 6 * a + 2) : ciR r s a j = r j := by
  have e : ci1 r s a j = r j := by
    unfold ci1
    rw [if_neg h5, if_neg h6, if_neg hq, if_neg (by omega)]
  unfold ciR
  split
  · rw [sg_o (by rw [ci1_2 hs.1 ha]; exact hs) (by rw [ci1_2 hs.1 ha]; exact h8) hj h2 h7, e]
  · exact e
theorem ci_k {r : Row} {s a : Int} (hs : 0 ≤ s ∧ s < r 2) (h8 : r 2 ≤ 8) (ha : 0 ≤ a) : fA (ciR r s a) a 2 = fA r a 2 - ciN r s a := by
  have e : ci1 r s a (56 + 6 * a + 2) = fA r a 2 - ciN r s a := by
    unfold ci1
    rw [if_neg (by omega), if_neg (by omega), if_pos rfl]
  unfold fA ciR
  split
  · rw [sg_o (by rw [ci1_2 hs.1 ha]; exact hs) (by rw [ci1_2 hs.1 ha]; exact h8) (by omega) (by omega) (by omega), e]; rfl
  · exact e
def ctS (a : Int) : Nat → Row → Int → Row × Int
  | 0, r, n => (r, n)
  | f + 1, r, n => if 0 < fA r a 2 ∧ 0 ≤ bfZ r a then ctS a f (ciR r (bfZ r a) a) (n + 1) else (r, n)
def ctR (r : Row) (a : Int) : Row × Int := ctS a 10 r 0
def kCit (r : Row) (a : Int) : Int := if ¬ (0 ≤ a ∧ a ≤ r 0 - 1) then 1 else if 0 < fA (ctR r a).1 a 2 then 2 else 0
def zCit (r : Row) (a : Int) : Int := if ¬ (0 ≤ a ∧ a ≤ r 0 - 1) then 0 else if 0 < fA (ctR r a).1 a 2 then 0 else (ctR r a).2
theorem ct_t {r : Row} {a n : Int} {f : Nat} {q : Row × Int} (hf : 0 < f) (h : q = ctS a f r n) (h1 : 0 < fA r a 2) (h2 : 0 ≤ bfZ r a) : q = ctS a (f - 1) (ciR r (bfZ r a) a) (n + 1) := by
  obtain ⟨g, rfl⟩ : ∃ g, f = g + 1 := ⟨f - 1, by omega⟩
  rw [h]
  exact if_pos ⟨h1, h2⟩
theorem ct_f {r : Row} {a n : Int} {f : Nat} {q : Row × Int} (hf : 0 < f) (h : q = ctS a f r n) (h1 : ¬ (0 < fA r a 2 ∧ 0 ≤ bfZ r a)) : q = (r, n) := by
  obtain ⟨g, rfl⟩ : ∃ g, f = g + 1 := ⟨f - 1, by omega⟩
  rw [h]
  exact if_neg h1
theorem bfZ_in {r : Row} {a : Int} (hI : RI r) (h : 0 ≤ bfZ r a) : (0 ≤ bfZ r a ∧ bfZ r a < r 2) ∧ (0 ≤ a ∧ a < r 0) ∧ 0 ≤ fA r a 4 ∧ apt r (bfZ r a) a ≤ 2 ∧ (1 ≤ ciN r (bfZ r a) a ∧ ciN r (bfZ r a) a ≤ 3) := by
  have hb := hI.1
  rcases bf_in (r := r) (a := a) (r 2).toNat with e | ⟨_, h2, h3⟩
  · exact absurd (show bfZ r a = -1 from e) (by omega)
  · have h2 : bfZ r a < (r 2).toNat := h2
    have h3 : amZ r (bfZ r a) a ≠ 0 := h3
    unfold amZ at h3
    split at h3
    · rename_i hz
      have hr := refCite_n (rfB_0.mp hz)
      have ho := hI.2.1 a (by omega) (by omega)
      have hs := hI.2.2.1 (bfZ r a) (by omega) (by omega)
      unfold artOk at ho
      unfold shOk at hs
      have h6 : 0 ≤ apt r (bfZ r a) a ∧ apt r (bfZ r a) a ≤ 8 := ap_in (by omega) (by omega)
      refine ⟨by omega, by omega, by omega, by omega, ?_⟩
      unfold ciN leZ
      split <;> omega
    · exact absurd rfl h3
theorem uT_self {T : TM} : uT T (T 0) = T := by
  funext k j
  unfold uT
  split
  · rename_i h; rw [h]
  · rfl
theorem E2.genU {T X : TM} {R R' : Row} {m : Nat} {ad : Nat → Nat} {h0 h : Hp} (hE : E2 T (uT X R)) (hm : TI m ad h0 (uT T R') h) : ∃ T1 : TM, T1 0 = R' ∧ E2 T1 (uT X R') ∧ TI m ad h0 T1 h := by
  refine ⟨_, uT_0, fun q h2 h3 => ?_, hm⟩
  funext j
  unfold uT
  split
  · rfl
  · rename_i hq
    rw [hE q h2 h3]
    exact uT_k hq
theorem E2.genC {T X : TM} {r : Row} {m : Nat} {ad : Nat → Nat} {h0 h : Hp} (e0 : T 0 = r) (hE : E2 T X) (hm : TI m ad h0 (cpT T 0 0 2 0) h) : ∃ T1 : TM, T1 0 = r ∧ E2 T1 (uT (cpT X 0 0 2 0) r) ∧ TI m ad h0 T1 h := by
  have ex : (cpT X 0 0 2 0) 0 = r := by
    rw [← e0, hE.z]; funext j; exact cpN_k (by decide)
  refine ⟨_, ?_, fun q h2 h3 => ?_, hm⟩
  · rw [← e0]; funext j; exact cpN_k (by decide)
  · rw [← ex, uT_self]
    funext j
    unfold cpT cpN
    rw [hE.z, hE q h2 h3]
def E3 (T T' : TM) : Prop := ∀ k, k ≠ 2 → k ≠ 7 → k ≠ 8 → T k = T' k
theorem E2.to3 {T T' : TM} (a : E2 T T') : E3 T T' := fun k _ h2 h3 => a k h2 h3
def RY (m : Nat) (ad : Nat → Nat) (h : Hp) (z : Int) (T' : TM) : Option Value → Hp → Prop := fun v h' => v = some (.int (iZ z)) ∧ ∃ T1, E3 T1 T' ∧ TI m ad h T1 h'
theorem ct_back {T X : TM} {R : Row} (e0 : T 0 = R) (hE : E2 T (uT (cpT X 0 0 2 0) R)) (hO : ∀ j, ¬ (0 ≤ j ∧ j < 140) → R j = X 0 j) : E3 (cpT T 2 0 0 0) X := by
  intro k h1 h2 h3
  funext j
  by_cases hk : k = 0
  · subst hk
    unfold cpT cpN
    by_cases hj : 0 ≤ j ∧ j < 140
    · rw [if_pos ⟨rfl, by omega, by omega⟩, hE 2 (by decide) (by decide), uT_k (by decide)]
      unfold cpT cpN
      rw [if_pos ⟨rfl, by omega, by omega⟩]
      congr 1
      omega
    · rw [if_neg (by omega), e0]
      exact hO j hj
  · unfold cpT cpN
    rw [if_neg (fun q => hk q.1), hE k h2 h3, uT_k hk]
    exact cpN_k h1
theorem E3.put {T X : TM} {k : Nat} {i z : Int} (h : E3 T X) : E3 (sT T k i z) (sT X k i z) := by
  intro q h1 h2 h3
  funext j
  unfold sT
  rw [h q h1 h2 h3]
section TY
variable {G : Gl} {own : String} {cc : ByteArray} {Y : Mt} {d mc : Nat} {Qr : Option Value → Hp → Prop} {Qx : String → Hp → Prop} {kb : Nat} {h h0 h1 h' : Hp} {pc : Nat} {L : List (Option Value)} {st : List Value} {m : Nat} {ad : Nat → Nat} {T T1 T' X : TM} {z z' : Int} {v : Option Value}
theorem e_retY (hd : decode cc pc = .ok (.ireturn, 1)) (hr : Y.2.1 = some .int) (hm : TI m ad h1 T1 h) (hE : E3 T1 X) (hz : z = z') (hT : X = T') : Go G own cc Y d mc (RY m ad h1 z' T') Qx kb h pc L [.int (iZ z)] := r_iret hd hr rfl ⟨by rw [hz], T1, hT ▸ hE, hm⟩
theorem go_Y (hq : RY m ad h z T' v h') (kk : ∀ T1 h', E3 T1 T' → TI m ad h T1 h' → Go G own cc Y d mc Qr Qx kb h' pc L (.int (iZ z) :: st)) : Go G own cc Y d mc Qr Qx kb h' pc L (v.toList ++ st) := by
  obtain ⟨rfl, T1, hE, hm⟩ := hq
  exact kk _ _ hE hm
end TY
