set_option maxRecDepth 100000
theorem i2cZ {z : Int} (h : 0 ≤ z ∧ z < 65536) : ((iZ z).toUInt32 % 65536).toInt32 = iZ z := by
  have e : (iZ z).toInt = z := iZ_toInt (by omega)
  exact lg_i2c_word (v := iZ z) (by rw [e]; exact h.1) (by rw [e]; exact h.2)
def kChr (T : TM) (i : Int) : Int := if 0 ≤ i ∧ i ≤ T 24 0 - 1 then 0 else 1
def zChr (T : TM) (i : Int) : Int := if kChr T i = 0 then T 23 i else 32
def dMean (s n : Int) : UInt64 := FP.ddiv (FP.i2d (iZ s)) (FP.i2d (iZ n))
def fShare (s n : Int) : UInt32 := FP.fdiv (FP.i2f (iZ s)) (FP.i2f (iZ n))
theorem dMean_F : ∀ s : Fin 109, ∀ n : Fin 13, 0 < n.val → vf_n64 (dMean (s.val : Int) (n.val : Int)) := by
  unfold vf_n64
  decide +kernel
theorem dMean_n {s n : Int} (hs : 0 ≤ s ∧ s ≤ 108) (hn : 1 ≤ n ∧ n ≤ 12) : vf_n64 (dMean s n) := by
  have := dMean_F ⟨s.toNat, by omega⟩ ⟨n.toNat, by omega⟩ (by show 0 < n.toNat; omega)
  rw [show ((⟨s.toNat, by omega⟩ : Fin 109).val : Int) = s from Int.toNat_of_nonneg hs.1, show ((⟨n.toNat, by omega⟩ : Fin 13).val : Int) = n from Int.toNat_of_nonneg (by omega)] at this
  exact this
theorem fShare_F : ∀ s : Fin 13, ∀ n : Fin 13, 0 < n.val → vf_n32 (fShare (s.val : Int) (n.val : Int)) := by
  unfold vf_n32
  decide +kernel
theorem fShare_n {s n : Int} (hs : 0 ≤ s ∧ s ≤ 12) (hn : 1 ≤ n ∧ n ≤ 12) : vf_n32 (fShare s n) := by
  have := fShare_F ⟨s.toNat, by omega⟩ ⟨n.toNat, by omega⟩ (by show 0 < n.toNat; omega)
  rw [show ((⟨s.toNat, by omega⟩ : Fin 13).val : Int) = s from Int.toNat_of_nonneg hs.1, show ((⟨n.toNat, by omega⟩ : Fin 13).val : Int) = n from Int.toNat_of_nonneg (by omega)] at this
  exact this
def RD (m : Nat) (ad : Nat → Nat) (h : Hp) (w : Value) (T' : TM) : Option Value → Hp → Prop := fun v h' => v = some w ∧ TI m ad h T' h'
theorem e_retC {G : Gl} {own : String} {cc : ByteArray} {Y : Mt} {d mc : Nat} {Qx : String → Hp → Prop} {kb : Nat} {h h1 : Hp} {pc : Nat} {L : List (Option Value)} {m : Nat} {ad : Nat → Nat} {T1 T' : TM} {z z' : Int} (hd : decode cc pc = .ok (.ireturn, 1)) (hr : Y.2.1 = some .char) (hb : 0 ≤ z ∧ z < 65536) (hm : TI m ad h1 T1 h) (hz : z = z') (hT : T1 = T') : Go G own cc Y d mc (RT m ad h1 z' T') Qx kb h pc L [.int (iZ z)] := r_iret hd hr (nC hb) ⟨by rw [hz], hm.to hT⟩
theorem e_retDb {G : Gl} {own : String} {cc : ByteArray} {Y : Mt} {d mc : Nat} {Qx : String → Hp → Prop} {kb : Nat} {h h1 : Hp} {pc : Nat} {L : List (Option Value)} {m : Nat} {ad : Nat → Nat} {T1 T' : TM} {x : UInt64} {w : Value} (hd : decode cc pc = .ok (.dreturn, 1)) (hr : Y.2.1 = some .double) (hm : TI m ad h1 T1 h) (hz : .double x = w) (hT : T1 = T') : Go G own cc Y d mc (RD m ad h1 w T') Qx kb h pc L [.double x] := r_dret hd hr ⟨by rw [hz], hm.to hT⟩
theorem e_retFl {G : Gl} {own : String} {cc : ByteArray} {Y : Mt} {d mc : Nat} {Qx : String → Hp → Prop} {kb : Nat} {h h1 : Hp} {pc : Nat} {L : List (Option Value)} {m : Nat} {ad : Nat → Nat} {T1 T' : TM} {x : UInt32} {w : Value} (hd : decode cc pc = .ok (.freturn, 1)) (hr : Y.2.1 = some .float) (hm : TI m ad h1 T1 h) (hz : .float x = w) (hT : T1 = T') : Go G own cc Y d mc (RD m ad h1 w T') Qx kb h pc L [.float x] := r_fret hd hr ⟨by rw [hz], hm.to hT⟩
def kMn (r : Row) : Int := if r 0 = 0 then 1 else 0
def vMn (r : Row) : Value := .double (if r 0 = 0 then FP.dconst0 else dMean (smA r 0) (r 0))
def vSh (r : Row) : Value := .float (if r 0 = 0 then FP.fconst0 else fShare (r 1) (r 0))
theorem sm_in {r : Row} (hI : RI r) : ∀ n : Nat, (n : Int) ≤ r 0 → 0 ≤ sumZ (fun a => fA r a 0) n ∧ sumZ (fun a => fA r a 0) n ≤ 9 * n := by
  intro n
  induction n with
  | zero => intro _; exact ⟨Int.le_refl _, Int.le_refl _⟩
  | succ n ih =>
    intro h
    have := ih (by omega)
    have ho := hI.2.1 n (by omega) (by omega)
    unfold artOk at ho
    show 0 ≤ sumZ (fun a => fA r a 0) n + fA r n 0 ∧ sumZ (fun a => fA r a 0) n + fA r n 0 ≤ 9 * ((n + 1 : Nat) : Int)
    omega
