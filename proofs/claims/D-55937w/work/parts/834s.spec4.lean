set_option maxRecDepth 100000
/-! SPEC: sets as bits -/
def btW (p : Int → Prop) [DecidablePred p] : Nat → Int32
  | 0 => iZ 0
  | n + 1 => if p n then btW p n ||| (iZ 1 <<< (iZ n &&& 31)) else btW p n
def btZ (p : Int → Prop) [DecidablePred p] (n : Int) : Int := (btW p n.toNat).toInt
theorem btZ_e {p : Int → Prop} [DecidablePred p] {n : Int} : btW p n.toNat = iZ (btZ p n) := iZ_of _
theorem bt_s {p : Int → Prop} [DecidablePred p] {z : Int} (h : 0 ≤ z) : btW p (z + 1).toNat = if p z then btW p z.toNat ||| (iZ 1 <<< (iZ z &&& 31)) else btW p z.toNat := by
  have e : (z + 1).toNat = z.toNat + 1 := by omega
  rw [e]
  show (if p (z.toNat : Int) then btW p z.toNat ||| (iZ 1 <<< (iZ (z.toNat : Int) &&& 31)) else btW p z.toNat) = _
  rw [Int.toNat_of_nonneg h]
theorem bt_t {p : Int → Prop} [DecidablePred p] {z : Int} {w : Int32} (h : 0 ≤ z) (hw : w = btW p z.toNat) (hp : p z) : w ||| (iZ 1 <<< (iZ z &&& 31)) = btW p (z + 1).toNat := by rw [bt_s h, if_pos hp, hw]
theorem bt_f {p : Int → Prop} [DecidablePred p] {z : Int} {w : Int32} (h : 0 ≤ z) (hw : w = btW p z.toNat) (hp : ¬ p z) : w ||| iZ 0 = btW p (z + 1).toNat := by
  rw [bt_s h, if_neg hp, hw]
  exact Int32.or_zero
theorem e_retTW {G : Gl} {own : String} {cc : ByteArray} {Y : Mt} {d mc : Nat} {Qx : String → Hp → Prop} {kb : Nat} {h h1 : Hp} {pc : Nat} {L : List (Option Value)} {m : Nat} {ad : Nat → Nat} {T1 T' : TM} {z' : Int} {w : Int32} (hd : decode cc pc = .ok (.ireturn, 1)) (hr : Y.2.1 = some .int) (hm : TI m ad h1 T1 h) (hz : w = iZ z') (hT : T1 = T') : Go G own cc Y d mc (RT m ad h1 z' T') Qx kb h pc L [.int w] := r_iret hd hr rfl ⟨by rw [hz], hm.to hT⟩
def kHt (x : Int) : Int := if 10 ≤ x ∧ x ≤ 99 then 0 else 1
def kAr (r : Row) (a : Int) : Int := if 0 ≤ a ∧ a ≤ r 0 - 1 then 0 else 1
def zBur (r : Row) (x : Int) : Int := if kHt x = 0 then btZ (fun a => burP r a x) (r 0) else 0
abbrev rfP (r : Row) (x a : Int) : Prop := fA r a 3 = 0 ∧ firP r a x
def zWfi (r : Row) (x : Int) : Int := if kHt x = 0 then btZ (fun a => rfP r x a) (r 0) else 0
abbrev stdP (r : Row) (a x : Int) : Prop := 0 ≤ fA r a 4 ∧ fA r a 2 + crZ r a x = 0 ∧ (fA r a 3 = 1 ∨ firP r a x)
def zWla (r : Row) (x : Int) : Int := if kHt x = 0 then btZ (fun a => stdP r a x) (r 0) else 0
abbrev likP (r : Row) (b a : Int) : Prop := 0 ≤ fA r a 4 ∧ fA r a 0 = fA r b 0 ∧ fA r a 1 = fA r b 1
def zLik (r : Row) (b : Int) : Int := if kAr r b = 0 then btZ (fun a => likP r b a) (r 0) else 0
/-! SPEC: precedents -/
def amZ (r : Row) (s a : Int) : Int := if rfB (refCite r s a) = 0 then ciN r s a else 0
def kAmd (r : Row) (s a : Int) : Int := if (0 ≤ s ∧ s ≤ r 2 - 1) ∧ (0 ≤ a ∧ a ≤ r 0 - 1) then 0 else 1
def zAmd (r : Row) (s a : Int) : Int := if kAmd r s a = 0 then amZ r s a else 0
abbrev betP (r : Row) (a b s : Int) : Prop := amZ r s a ≠ 0 ∧ (b < 0 ∨ amZ r b a < amZ r s a ∨ (amZ r s a = amZ r b a ∧ fS r b 1 < fS r s 1))
def bfS (r : Row) (a : Int) : Nat → Int
  | 0 => -1
  | n + 1 => if betP r a (bfS r a n) n then n else bfS r a n
def bfZ (r : Row) (a : Int) : Int := bfS r a (r 2).toNat
theorem bf_s {r : Row} {a z : Int} (h : 0 ≤ z) : bfS r a (z + 1).toNat = if betP r a (bfS r a z.toNat) z then z else bfS r a z.toNat := by
  have e : (z + 1).toNat = z.toNat + 1 := by omega
  rw [e]
  show (if betP r a (bfS r a z.toNat) (z.toNat : Int) then (z.toNat : Int) else _) = _
  rw [Int.toNat_of_nonneg h]
theorem bf_t {r : Row} {a z b : Int} (h : 0 ≤ z) (hb : b = bfS r a z.toNat) (hp : betP r a b z) : z = bfS r a (z + 1).toNat := by rw [bf_s h, if_pos (hb ▸ hp)]
theorem bf_f {r : Row} {a z b : Int} (h : 0 ≤ z) (hb : b = bfS r a z.toNat) (hp : ¬ betP r a b z) : b = bfS r a (z + 1).toNat := by rw [bf_s h, if_neg (hb ▸ hp), hb]
theorem bf_in {r : Row} {a : Int} : ∀ n : Nat, bfS r a n = -1 ∨ (0 ≤ bfS r a n ∧ bfS r a n < n ∧ amZ r (bfS r a n) a ≠ 0) := by
  intro n
  induction n with
  | zero => left; rfl
  | succ n ih =>
    by_cases h : betP r a (bfS r a n) n
    · have e : bfS r a (n + 1) = n := if_pos h
      rw [e]
      right
      exact ⟨by omega, by omega, h.1⟩
    · have e : bfS r a (n + 1) = bfS r a n := if_neg h
      rw [e]
      omega
def kBes (r : Row) (a : Int) : Int := if ¬ (0 ≤ a ∧ a ≤ r 0 - 1) then 1 else if bfZ r a < 0 then 2 else 0
def zBes (r : Row) (a : Int) : Int := if ¬ (0 ≤ a ∧ a ≤ r 0 - 1) then 0 else if bfZ r a < 0 then 0 else bfZ r a
def zPre (r : Row) (a : Int) : Int := if kAr r a = 0 then btZ (fun s => 0 < amZ r s a) (r 2) else 0
theorem am_in {r : Row} {s a : Int} (hI : RI r) : 0 ≤ amZ r s a ∧ amZ r s a ≤ 9 := by
  unfold amZ
  split
  · rename_i h
    have hr := refCite_n (rfB_0.mp h)
    have ho := hI.2.1 a (by omega) (by omega)
    have hs := hI.2.2.1 s (by omega) (by omega)
    unfold artOk at ho
    unfold shOk at hs
    have h6 : 0 ≤ apt r s a ∧ apt r s a ≤ 8 := ap_in (by omega) (by omega)
    unfold ciN leZ
    split <;> omega
  · omega
/-- alike but for what nobody reads: why, number -/
def E2 (T T' : TM) : Prop := ∀ k, k ≠ 7 → k ≠ 8 → T k = T' k
theorem E2.rf {T : TM} : E2 T T := fun _ _ _ => rfl
theorem E2.tr {T T' T'' : TM} (a : E2 T T') (b : E2 T' T'') : E2 T T'' := fun k h2 h3 => (a k h2 h3).trans (b k h2 h3)
theorem E2.z {T T' : TM} (a : E2 T T') : T 0 = T' 0 := a 0 (by decide) (by decide)
theorem E2.gen {T X : TM} {r : Row} {m : Nat} {ad : Nat → Nat} {h0 h : Hp} {z : Int} {k : Nat} (e0 : T 0 = r) (hE : E2 T X) (hm : TI m ad h0 (sT T k 0 z) h) (hk : k ≠ 0) : ∃ T1 : TM, T1 0 = r ∧ E2 T1 (sT X k 0 z) ∧ TI m ad h0 T1 h := by
  refine ⟨_, ?_, fun q h2 h3 => ?_, hm⟩
  · rw [← e0]; funext j; exact sT_k (Ne.symm hk)
  · funext j
    unfold sT
    split
    · rfl
    · rw [hE q h2 h3]
theorem E2.genB {T X : TM} {r : Row} {m : Nat} {ad : Nat → Nat} {h0 h : Hp} {o : Rf} (e0 : T 0 = r) (hE : E2 T X) (hm : TI m ad h0 (bdO T o) h) : ∃ T1 : TM, T1 0 = r ∧ E2 T1 X ∧ TI m ad h0 T1 h := by
  refine ⟨_, bdO_0.trans e0, fun q h2 h3 => ?_, hm⟩
  rw [← hE q h2 h3]
  cases o with
  | none => rfl
  | some p =>
    funext j
    show bdT T p.1 p.2 q j = _
    unfold bdT
    rw [sT_k h3, sT_k h2]
def RX (m : Nat) (ad : Nat → Nat) (h : Hp) (z : Int) (T' : TM) : Option Value → Hp → Prop := fun v h' => v = some (.int (iZ z)) ∧ ∃ T1, E2 T1 T' ∧ TI m ad h T1 h'
section TX
variable {G : Gl} {own : String} {cc : ByteArray} {Y : Mt} {d mc : Nat} {Qr : Option Value → Hp → Prop} {Qx : String → Hp → Prop} {kb : Nat} {h h0 h1 h' : Hp} {pc : Nat} {L : List (Option Value)} {st : List Value} {m : Nat} {ad : Nat → Nat} {T T1 T' X : TM} {z z' : Int} {v : Option Value}
theorem e_retX (hd : decode cc pc = .ok (.ireturn, 1)) (hr : Y.2.1 = some .int) (hm : TI m ad h1 T1 h) (hE : E2 T1 X) (hz : z = z') (hT : X = T') : Go G own cc Y d mc (RX m ad h1 z' T') Qx kb h pc L [.int (iZ z)] := r_iret hd hr rfl ⟨by rw [hz], T1, hT ▸ hE, hm⟩
theorem e_retXB (hd : decode cc pc = .ok (.ireturn, 1)) (hr : Y.2.1 = some .boolean) (hb : z = 0 ∨ z = 1) (hm : TI m ad h1 T1 h) (hE : E2 T1 X) (hz : z = z') (hT : X = T') : Go G own cc Y d mc (RX m ad h1 z' T') Qx kb h pc L [.int (iZ z)] := r_iret hd hr (nB hb) ⟨by rw [hz], T1, hT ▸ hE, hm⟩
theorem e_retXW {w : Int32} (hd : decode cc pc = .ok (.ireturn, 1)) (hr : Y.2.1 = some .int) (hm : TI m ad h1 T1 h) (hE : E2 T1 X) (hz : w = iZ z') (hT : X = T') : Go G own cc Y d mc (RX m ad h1 z' T') Qx kb h pc L [.int w] := r_iret hd hr rfl ⟨by rw [hz], T1, hT ▸ hE, hm⟩
theorem go_X (hq : RX m ad h z T' v h') (kk : ∀ T1 h', E2 T1 T' → TI m ad h T1 h' → Go G own cc Y d mc Qr Qx kb h' pc L (.int (iZ z) :: st)) : Go G own cc Y d mc Qr Qx kb h' pc L (v.toList ++ st) := by
  obtain ⟨rfl, T1, hE, hm⟩ := hq
  exact kk _ _ hE hm
end TX
