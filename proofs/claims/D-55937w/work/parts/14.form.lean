set_option maxRecDepth 100000
/-! methods of classes of which some other method is run by the machine itself: java.lang.Object, java.lang.Math -/
theorem vx_ofWF {l : Launch} {y : MethodName} {ws ws' : List Cond} {rm : Room} {Pc : Array Value → State → Prop} {Qc : Array Value → State → Outcome → State → Prop} {XC : String → State → State → Prop} {mc ms : Nat} {free : Addr → Prop} {cc : ByteArray} {maxL : Nat} {ret : Option FieldType}
    (hy : plainFor y = true) (hw : ws = Cond.code y cc maxL ret :: ws')
    (body : ∀ p e s m args below meth c s₁, BodyLoose p l y (headSpec ws rm) cc maxL ret e s m args below meth c s₁ → c.maxLocals = maxL → (∀ x ∈ c.exceptionTable.toList, False) → Pc args s →
      W p l e (headSpec ws rm).room s m args below meth c s.heap [] 0 0 (vx_MQ below Qc XC args s mc ms free) (entryFrame m args maxL)) : vx_Met l y ws rm Pc Qc XC mc ms free := by
  refine MetFree.of_bodySF (code := cc) (maxLocals := maxL) (ret := ret) hy ?_ ?_
  · intro args s m h hn
    obtain ⟨meth, c, h1, h2, h3, h4, h5, h6, -, -⟩ := Cond.code_spec hn (atoms_spec (ws := ws) h _ (by rw [hw]; exact List.mem_cons_self))
    exact ⟨meth, c, h1, h2, h3, h4, h5, h6⟩
  · intro p e s m args below meth c s₁ B hml hP _
    have hh0 : s₁.heap = s.heap := by rw [B.state]; rfl
    have ht : ∀ x ∈ c.exceptionTable.toList, False := by
      obtain ⟨meth9, c9, h1, h2, -, -, -, -, h7, -⟩ := Cond.code_spec B.named (atoms_spec (ws := ws) B.pre _ (by rw [hw]; exact List.mem_cons_self))
      cases Option.some.inj (h1.symm.trans B.method)
      cases Option.some.inj (h2.symm.trans (Stand.of_body B).code)
      intro x hx
      rw [Array.isEmpty_iff.mp h7] at hx
      cases hx
    obtain ⟨t, a1, o, b1, b2, b3⟩ := body p e s m args below meth c s₁ B hml ht hP s₁ hh0 (Stand.of_body B)
    exact ⟨t, o, a1, b1, b2, b3⟩
theorem Ct.ofF {G : Gl} {own : String} {cc : ByteArray} {d mc : Nat} {Qr : Option Value → Hp → Prop} {Qx : String → Hp → Prop} {h : Hp} {L : List (Option Value)} {y : MethodName} {n : Nat} {ret : Option FieldType} {nm : String} {av : List Value} (hy : plainFor y = true) (ho : y.cls = own) (hnm : y.name = nm) (hL : enP av n = L) (hn : (lg_sl av).length ≤ n) (hLn : L.length = n)
    (body : Go G own cc (n, ret, nm, []) d mc Qr Qx mc h 0 L []) : Ct G d mc y (Cond.code y cc n ret) av h Qr Qx := by
  refine vx_ofWF hy rfl ?_
  intro p e s m args below meth c s₁ B hml hh hv
  obtain ⟨rfl, hV, hf⟩ := hv
  have hts := atoms_spec (ws := Cond.code y cc n ret :: lw_all) B.pre
  rw [lg_entry_eq]
  refine body p e s m _ below meth c s.heap [] 0 0 _ ⟨B.exec, B.bytes, hml, B.returns, B.notSynchronized, by rw [← ho]; exact findClass_of_methodNamed B.named, fun w h => hts w (List.mem_cons_of_mem _ h), (name_of_methodNamed B.named B.method).1.trans hnm, ?_, hV, hf.2.1.2, hf.2.2⟩ hf va_S.rf ⟨hLn, enL_has hL hn⟩ (by omega) (by omega)
  cases e : c.exceptionTable.toList with
  | nil => rfl
  | cons x l => exact (hh x (by rw [e]; exact List.mem_cons_self)).elim
section SH
variable {G : Gl} {own : String} {cc : ByteArray} {Y : Mt} {d mc : Nat} {Qr : Option Value → Hp → Prop} {Qx : String → Hp → Prop} {kb : Nat} {h : Hp} {pc : Nat} {L : List (Option Value)} {st : List Value}
theorem r_ishr0 {a : Int} (hd : decode cc pc = .ok (.ishr, 1)) (h0 : 0 ≤ a ∧ a < 2147483648) (kk : Go G own cc Y d mc Qr Qx kb h (pc + 1) L (.int (iZ a) :: st)) : Go G own cc Y d mc Qr Qx kb h pc L (.int (iZ 0) :: .int (iZ a) :: st) := by
  refine q_ishr hd ?_
  have e : iZ a >>> (iZ 0 &&& 31) = iZ a := by
    obtain ⟨n, rfl⟩ := Int.eq_ofNat_of_zero_le h0.1
    rw [iZ_nI (Int.natCast_nonneg _), Int.toNat_natCast]
    exact (pk_shrN (by omega) _ 0 (by decide)).trans (by rw [show 2 ^ 0 = 1 from rfl, Nat.div_one])
  rw [e]; exact kk
theorem r_ishr1 {a : Int} (hd : decode cc pc = .ok (.ishr, 1)) (h0 : 0 ≤ a ∧ a < 2147483648) (kk : Go G own cc Y d mc Qr Qx kb h (pc + 1) L (.int (iZ (a / 2)) :: st)) : Go G own cc Y d mc Qr Qx kb h pc L (.int (iZ 1) :: .int (iZ a) :: st) := by
  refine q_ishr hd ?_
  have e : iZ a >>> (iZ 1 &&& 31) = iZ (a / 2) := by
    obtain ⟨n, rfl⟩ := Int.eq_ofNat_of_zero_le h0.1
    rw [show ((n : Int) / 2) = ((n / 2 : Nat) : Int) from rfl, iZ_nI (Int.natCast_nonneg _), iZ_nI (Int.natCast_nonneg _), Int.toNat_natCast, Int.toNat_natCast]
    exact pk_shrN (by omega) _ 1 (by decide)
  rw [e]; exact kk
theorem r_ishr6 {a : Int} (hd : decode cc pc = .ok (.ishr, 1)) (h0 : 0 ≤ a ∧ a < 2147483648) (kk : Go G own cc Y d mc Qr Qx kb h (pc + 1) L (.int (iZ (a / 64)) :: st)) : Go G own cc Y d mc Qr Qx kb h pc L (.int (iZ 6) :: .int (iZ a) :: st) := by
  refine q_ishr hd ?_
  have e : iZ a >>> (iZ 6 &&& 31) = iZ (a / 64) := by
    obtain ⟨n, rfl⟩ := Int.eq_ofNat_of_zero_le h0.1
    rw [show ((n : Int) / 64) = ((n / 64 : Nat) : Int) from rfl, iZ_nI (Int.natCast_nonneg _), iZ_nI (Int.natCast_nonneg _), Int.toNat_natCast, Int.toNat_natCast]
    exact pk_shrN (by omega) _ 6 (by decide)
  rw [e]; exact kk
theorem r_ishl0 {a : Int} (hd : decode cc pc = .ok (.ishl, 1)) (h0 : 0 ≤ a ∧ a < 2147483648) (kk : Go G own cc Y d mc Qr Qx kb h (pc + 1) L (.int (iZ a) :: st)) : Go G own cc Y d mc Qr Qx kb h pc L (.int (iZ 0) :: .int (iZ a) :: st) := by
  refine q_ishl hd ?_
  have e : iZ a <<< (iZ 0 &&& 31) = iZ a := by
    obtain ⟨n, rfl⟩ := Int.eq_ofNat_of_zero_le h0.1
    rw [iZ_nI (Int.natCast_nonneg _), Int.toNat_natCast]
    exact (pk_shlN _ 0 (by decide) (by simp; omega)).trans (by rw [show 2 ^ 0 = 1 from rfl, Nat.mul_one])
  rw [e]; exact kk
/-- 2 << 0 and its kin: a << 0 at any small a -/
theorem r_and255 {a : Int} (hd : decode cc pc = .ok (.iand, 1)) (h0 : 0 ≤ a ∧ a < 256) (kk : Go G own cc Y d mc Qr Qx kb h (pc + 1) L (.int (iZ a) :: st)) : Go G own cc Y d mc Qr Qx kb h pc L (.int (iZ 255) :: .int (iZ a) :: st) := by
  refine q_iand hd ?_
  have e : iZ a &&& iZ 255 = iZ a := by
    obtain ⟨n, rfl⟩ := Int.eq_ofNat_of_zero_le h0.1
    rw [iZ_nI (Int.natCast_nonneg _), Int.toNat_natCast]
    exact (pk_andN (by omega) 8 (by decide)).trans (by rw [Nat.mod_eq_of_lt (by omega)])
  rw [e]; exact kk
theorem i2cZ2 {a : Int} (h : 0 ≤ a ∧ a < 65536) : ((iZ a).toUInt32 % 65536).toInt32 = iZ a := by
  rw [pk_char, iZ_nI h.1, pk_tn (by omega), Nat.mod_eq_of_lt (by omega)]
theorem i2bZ {a : Int} (h : -128 ≤ a ∧ a < 128) : (iZ a).toInt8.toInt32 = iZ a := by
  rw [← Int32.toInt_inj, Int8.toInt_toInt32, Int32.toInt_toInt8, iZ_toInt ⟨by omega, by omega⟩]
  exact Int.bmod_eq_of_le (by omega) (by omega)
end SH
theorem FA.t {h0 : Hp} {t : Tg} {a : Nat} {o : Cl} (ha : h0 a = some (t, o)) : h0 a = none ∨ ∃ x, h0 a = some x ∧ x.1 = t := Or.inr ⟨_, ha, rfl⟩
section AC
variable {G : Gl} {own : String} {cc : ByteArray} {Y : Mt} {d mc : Nat} {Qr : Option Value → Hp → Prop} {Qx : String → Hp → Prop} {kb : Nat} {h : Hp} {pc : Nat} {L : List (Option Value)} {st : List Value}
theorem r_acmp_neN {y : Nat} {off : Int} {tgt : Nat} (hd : decode cc pc = .ok (.if_acmp .ne off, 3)) (ht : (pc : Int) + off = (tgt : Int)) (kt : Go G own cc Y d mc Qr Qx kb h tgt L st) : Go G own cc Y d mc Qr Qx kb h pc L (.ref y :: .null :: st) := by
  intro p e s m args below meth c H locs cells slots ls C hf hS hL h1 h2
  exact lv_acmp_ne (rx := none) (ry := some y) C.1 C.2.1 hd ht (fun q => kt p e s m args below meth c H locs cells slots ls C hf hS hL h1 h2) (fun q => by cases (show (none : Option Nat) = some y from q))
end AC
def sbL : List (Option Value) → List (Option Value) → Prop
  | [], [] => True
  | none :: l', _ :: l => sbL l' l
  | some v :: l', o :: l => o = some v ∧ sbL l' l
  | _, _ => False
theorem sbL_spec : ∀ {L' L : List (Option Value)}, sbL L' L → L'.length = L.length ∧ ∀ (i : Nat) (v : Value), L'[i]? = some (some v) → L[i]? = some (some v)
  | [], [], _ => ⟨rfl, fun i v h => h⟩
  | none :: l', o :: l, h => by
    have ih := sbL_spec (L' := l') (L := l) h
    refine ⟨by simp [ih.1], fun i v hi => ?_⟩
    cases i with
    | zero => simp at hi
    | succ i => simpa using ih.2 i v (by simpa using hi)
  | some w :: l', o :: l, h => by
    have ih := sbL_spec (L' := l') (L := l) h.2
    refine ⟨by simp [ih.1], fun i v hi => ?_⟩
    cases i with
    | zero => rw [h.1]; simpa using hi
    | succ i => simpa using ih.2 i v (by simpa using hi)
  | [], _ :: _, h => h.elim
  | none :: _, [], h => h.elim
  | some _ :: _, [], h => h.elim
/-- less known of the locals -/
theorem goL {G : Gl} {own : String} {cc : ByteArray} {Y : Mt} {d mc : Nat} {Qr : Option Value → Hp → Prop} {Qx : String → Hp → Prop} {kb : Nat} {h : Hp} {pc : Nat} {L L' : List (Option Value)} {st : List Value} (hs : sbL L' L) (kk : Go G own cc Y d mc Qr Qx kb h pc L' st) : Go G own cc Y d mc Qr Qx kb h pc L st := by
  intro p e s m args below meth c H locs cells slots ls C hf hS hL h1 h2
  have a := sbL_spec hs
  exact kk p e s m args below meth c H locs cells slots ls C hf hS ⟨a.1.trans hL.1, hL.2.1, hL.2.2.1, fun q hq => hL.2.2.2 q (mem_prs.mpr (a.2 _ _ (mem_prs.mp hq)))⟩ h1 h2
theorem go_jv {G : Gl} {own : String} {cc : ByteArray} {Y : Mt} {d mc : Nat} {Qr : Option Value → Hp → Prop} {Qx : String → Hp → Prop} {kb : Nat} {h : Hp} {pc : Nat} {L : List (Option Value)} {st : List Value} {x y : Int64} (e : x = y) (kk : Go G own cc Y d mc Qr Qx kb h pc L (.long y :: st)) : Go G own cc Y d mc Qr Qx kb h pc L (.long x :: st) := by rw [e]; exact kk
