set_option maxRecDepth 100000
/-! ints -/
def iZ (z : Int) : Int32 := Int32.ofInt z
abbrev InR (z : Int) : Prop := -2147483648 ≤ z ∧ z < 2147483648
theorem iZ_toInt {z : Int} (h : InR z) : (iZ z).toInt = z := Int32.toInt_ofInt_of_le (by omega) (by omega)
theorem iZ_of (x : Int32) : x = iZ x.toInt := (Int32.ofInt_toInt x).symm
theorem iR (x : Int32) : InR x.toInt := ⟨Int32.le_toInt x, Int32.toInt_lt x⟩
theorem iZ_add (a b : Int) : iZ a + iZ b = iZ (a + b) := (Int32.ofInt_add a b).symm
theorem iZ_sub (a b : Int) : iZ a - iZ b = iZ (a - b) := (Int32.ofInt_sub a b).symm
theorem iZ_mul (a b : Int) : iZ a * iZ b = iZ (a * b) := (Int32.ofInt_mul a b).symm
theorem iZ_neg (a : Int) : - iZ a = iZ (-a) := (Int32.ofInt_neg a).symm
theorem iZ_inj {a b : Int} (ha : InR a) (hb : InR b) (h : iZ a = iZ b) : a = b := by rw [← iZ_toInt ha, ← iZ_toInt hb, h]
theorem iZ_ne0 {b : Int} (h0 : 0 < b) (h1 : b < 2147483648) : ¬ iZ b = 0 := by
  intro q
  have a := iZ_toInt (z := b) ⟨by omega, h1⟩
  rw [q, Int32.toInt_zero] at a
  omega
theorem iZ_nI {z : Int} (h : 0 ≤ z) : iZ z = nI z.toNat := by
  show Int32.ofInt z = Int32.ofNat z.toNat
  rw [← Int32.ofInt_eq_ofNat, Int.toNat_of_nonneg h]
theorem iZ_div {a b : Int} (h0 : 0 ≤ a) (h1 : a < 2147483648) (h2 : 0 < b) (h3 : b < 2147483648) : iZ a / iZ b = iZ (a / b) := by
  obtain ⟨n, rfl⟩ := Int.eq_ofNat_of_zero_le h0
  obtain ⟨k, rfl⟩ := Int.eq_ofNat_of_zero_le (Int.le_of_lt h2)
  have e : ((n : Int) / (k : Int)) = ((n / k : Nat) : Int) := rfl
  rw [e, iZ_nI (by omega), iZ_nI (by omega), iZ_nI (Int.natCast_nonneg _)]
  exact pk_div (by omega) (by omega) (by omega)
theorem iZ_rem {a b : Int} (h0 : 0 ≤ a) (h1 : a < 2147483648) (h2 : 0 < b) (h3 : b < 2147483648) : iZ a - iZ a / iZ b * iZ b = iZ (a % b) := by
  obtain ⟨n, rfl⟩ := Int.eq_ofNat_of_zero_le h0
  obtain ⟨k, rfl⟩ := Int.eq_ofNat_of_zero_le (Int.le_of_lt h2)
  have e : ((n : Int) % (k : Int)) = ((n % k : Nat) : Int) := rfl
  rw [e, iZ_nI (by omega), iZ_nI (by omega), iZ_nI (Int.natCast_nonneg _)]
  exact pk_rem (by omega) (by omega) (by omega)
theorem iZ_b {n : Int} (h : -128 ≤ n ∧ n < 128) : (Int8.ofInt n).toInt32 = iZ n := by
  rw [← Int32.toInt_inj, Int8.toInt_toInt32, iZ_toInt ⟨by omega, by omega⟩]
  exact Int8.toInt_ofInt_of_le (by omega) (by omega)
theorem iZ_s {n : Int} (h : -32768 ≤ n ∧ n < 32768) : (Int16.ofInt n).toInt32 = iZ n := by
  rw [← Int32.toInt_inj, Int16.toInt_toInt32, iZ_toInt ⟨by omega, by omega⟩]
  exact Int16.toInt_ofInt_of_le (by omega) (by omega)
def bZ (p : Prop) [Decidable p] : Int := if p then 1 else 0
theorem bZ_in (p : Prop) [Decidable p] : InR (bZ p) := by unfold bZ; split <;> omega
theorem bZ_t {p : Prop} [Decidable p] (h : p) : bZ p = 1 := if_pos h
theorem bZ_f {p : Prop} [Decidable p] (h : ¬ p) : bZ p = 0 := if_neg h
/-! the judgement and its rows -/
abbrev Mt : Type := Nat × Option FieldType × String × List (Nat × Nat × Nat × Nat)
def rmF (d k : Nat) : Room := { frames := d, cells := k, slots := k, locals := 40 * d + 12 }
def QcF (G : Gl) (Qr : Option Value → Hp → Prop) : Array Value → State → Outcome → State → Prop := fun _ st o t => (∃ (v : Option Value) (h' : Hp), o = .returned v ∧ Qr v h' ∧ Hf G h' t.heap) ∧ va_F (gW G) st t
def XcF (G : Gl) (Qx : String → Hp → Prop) : String → State → State → Prop := fun E st t => (∃ h' : Hp, Qx E h' ∧ Hf G h' t.heap) ∧ va_F (gW G) st t
def Cx (G : Gl) (own : String) (cc : ByteArray) (Y : Mt) (p : Program) (s : State) (m : MethodId) (args : Array Value) (meth : Method) (c : Code) : Prop :=
  p.tables.exec = Jvm.exec ∧ c.code = cc ∧ c.maxLocals = Y.1 ∧ meth.sig.returnType = Y.2.1 ∧ meth.locks = false ∧ s.vm.findClass own = some m.cls ∧ (∀ w ∈ lw_all, w.before args s = true) ∧ meth.name = Y.2.2.1 ∧ c.exceptionTable.toList = tableOf Y.2.2.2 ∧ VF G s ∧ gB G ≤ s.heap.size ∧ ∀ q : Nat, q < gB G → s.heap[q]? = (gH G)[q]?
def Go (G : Gl) (own : String) (cc : ByteArray) (Y : Mt) (d mc : Nat) (Qr : Option Value → Hp → Prop) (Qx : String → Hp → Prop) (kb : Nat) (h : Hp) (pc : Nat) (L : List (Option Value)) (st : List Value) : Prop :=
  ∀ (p : Program) (e : Env) (s : State) (m : MethodId) (args : Array Value) (below : List Frame) (meth : Method) (c : Code) (H : Heap) (locs : List Loc) (cells slots : Nat) (ls : Array Slot),
    Cx G own cc Y p s m args meth c → Hf G h H → va_S (gW G) s.heap H locs → LH L Y.1 ls → cells + kb ≤ mc → slots + kb ≤ mc →
    W p (gL G) e (rmF d mc) s m args below meth c H locs cells slots (vx_MQ below (QcF G Qr) (XcF G Qx) args s mc mc (gW G)) (F0 m pc ls st)
def GoX (G : Gl) (own : String) (cc : ByteArray) (Y : Mt) (d mc : Nat) (Qr : Option Value → Hp → Prop) (Qx : String → Hp → Prop) (kb : Nat) (h : Hp) (pc : Nat) (L : List (Option Value)) (E : String) : Prop :=
  ∀ (p : Program) (e : Env) (s : State) (m : MethodId) (args : Array Value) (below : List Frame) (meth : Method) (c : Code) (H : Heap) (locs : List Loc) (cells slots : Nat) (ls : Array Slot) (st : List Value) (q : Addr) (ce : Cell),
    Cx G own cc Y p s m args meth c → Hf G h H → va_S (gW G) s.heap H locs → LH L Y.1 ls → cells + kb ≤ mc → slots + kb ≤ mc → H[q]? = some ce → ce.vm = .none → s.vm.findClass E = some ce.cls →
    vx_W p (gL G) e (rmF d mc) s m args below meth c H locs cells slots (vx_MQ below (QcF G Qr) (XcF G Qx) args s mc mc (gW G)) (F0 m pc ls st) q
def Ct (G : Gl) (d mc : Nat) (y : MethodName) (wd : Cond) (av : List Value) (h : Hp) (Qr : Option Value → Hp → Prop) (Qx : String → Hp → Prop) : Prop :=
  vx_Met (gL G) y (wd :: lw_all) (rmF d mc) (va_Pc av (fun U => VF G U ∧ Hf G h U.heap)) (QcF G Qr) (XcF G Qx) mc mc (gW G)
abbrev noX : String → Hp → Prop := fun _ _ => False
theorem ct_blind {G : Gl} {av : List Value} {h : Hp} : FrameBlind (va_Pc av (fun U => VF G U ∧ Hf G h U.heap)) := fun a U g mk q => ⟨q.1, q.2.1.call g mk a, q.2.2⟩
theorem va_ldcSw {p : Program} {l : Launch} {e : Env} {R : Room} {s : State} {m : MethodId} {args : Array Value} {below : List Frame} {meth : Method} {c : Code} {H : Heap} {locs : List Loc} {cells slots : Nat} {Q : State → Prop} {cc : ByteArray} {pc : Nat} {ls : Array Slot} {rest : List Value}
    (hexec : p.tables.exec = Jvm.exec) (hb : c.code = cc) {own tx : String} {index q : Nat} (hown : s.vm.findClass own = some m.cls) (hZ : vk_R own index tx q s) (hdg : decode cc pc = .ok (.ldc_w index, 3))
    (k : W p l e R s m args below meth c H locs cells slots Q (F0 m (pc + 3) ls (.ref q :: rest))) : W p l e R s m args below meth c H locs cells slots Q (F0 m pc ls rest) := by
  intro T hT X
  obtain ⟨t, a1, b1⟩ := k T hT X
  refine ⟨t, ?_, b1⟩
  have hconst : (Cond.stringRef own index tx).before args s = true := hZ.1
  have hev : (Term.string own index).eval args s none [] s = some (.ref q) := hZ.2
  obtain ⟨k0, cf, i, a', hk, hcf, hcp, -, hr, hev'⟩ := Cond.stringRef_spec hown hconst
  cases hev.symm.trans hev'
  obtain ⟨k', hk', he⟩ := X.warmed.alike.2.2 _ _ hk
  have hr' : k'.resolved[index]? = some (some (.string q)) := by
    rcases X.warmed.entry hk hk' index with h | ⟨h, -⟩
    · rw [h]; exact hr
    · rw [hr] at h; cases h
  have hdg' : decode c.code pc = .ok (.ldc_w index, 3) := by rw [hb]; exact hdg
  jvm_step X.here [hexec, hdg', ldc_w.wp_string (e := e) (s := T) (f := F0 m pc ls rest) X.here.top hk' (by rw [he]; exact hcf) hcp hr']
  exact a1
theorem enL_args : ∀ (vs : List Value) (k j : Nat) (w : Value), (enL vs)[j]? = some (some w) → (k + j, w) ∈ lv_args k vs
  | [], k, j, w, h => by simp [enL] at h
  | v :: vs, k, j, w, h => by
    have one : ∀ (hv : v.category = 1) (he : enL (v :: vs) = some v :: enL vs), (k + j, w) ∈ lv_args k (v :: vs) := by
      intro hv he
      rw [he] at h
      have e : lv_args k (v :: vs) = (k, v) :: lv_args (k + 1) vs := by
        show (k, v) :: lv_args (if v.category = 2 then k + 2 else k + 1) vs = _
        rw [if_neg (by rw [hv]; decide)]
      rw [e]
      cases j with
      | zero => simp at h; subst h; exact List.mem_cons_self
      | succ j =>
        simp at h
        have := enL_args vs (k + 1) j w h
        rw [show k + (j + 1) = k + 1 + j by omega]
        exact List.mem_cons_of_mem _ this
    have two : ∀ (hv : v.category = 2) (he : enL (v :: vs) = some v :: none :: enL vs), (k + j, w) ∈ lv_args k (v :: vs) := by
      intro hv he
      rw [he] at h
      have e : lv_args k (v :: vs) = (k, v) :: lv_args (k + 2) vs := by
        show (k, v) :: lv_args (if v.category = 2 then k + 2 else k + 1) vs = _
        rw [if_pos hv]
      rw [e]
      match j, h with
      | 0, h => simp at h; subst h; exact List.mem_cons_self
      | 1, h => simp at h
      | j + 2, h =>
        simp at h
        have := enL_args vs (k + 2) j w h
        rw [show k + (j + 2) = k + 2 + j by omega]
        exact List.mem_cons_of_mem _ this
    cases v <;> first | exact one rfl rfl | exact two rfl rfl
theorem enL_has {av : List Value} {n : Nat} {L : List (Option Value)} (hL : enP av n = L) (hn : (lg_sl av).length ≤ n) : lv_has ((lg_sl av ++ List.replicate (n - (lg_sl av).length) Slot.unset).toArray) n (prs L) := by
  have h := lv_entry av hn
  refine ⟨h.1, h.2.1, fun q hq => ?_⟩
  obtain ⟨j, w⟩ := q
  have hj := mem_prs.mp hq
  rw [← hL] at hj
  unfold enP at hj
  have h2 : (enL av)[j]? = some (some w) := by
    by_cases hl : j < (enL av).length
    · rw [List.getElem?_append_left hl] at hj; exact hj
    · rw [List.getElem?_append_right (by omega)] at hj
      have := List.eq_of_mem_replicate (List.mem_of_getElem? hj)
      cases this
  have := enL_args av 0 j w h2
  rw [Nat.zero_add] at this
  exact h.2.2 _ this
section RW
variable {G : Gl} {own : String} {cc : ByteArray} {Y : Mt} {d mc : Nat} {Qr : Option Value → Hp → Prop} {Qx : String → Hp → Prop} {kb : Nat} {h : Hp} {pc : Nat} {L : List (Option Value)} {st : List Value}
theorem Ct.of {y : MethodName} {n : Nat} {ret : Option FieldType} {nm : String} {av : List Value} (hy : plainName own = true) (ho : y.cls = own) (hnm : y.name = nm) (hL : enP av n = L) (hn : (lg_sl av).length ≤ n) (hLn : L.length = n)
    (body : Go G own cc (n, ret, nm, []) d mc Qr Qx mc h 0 L []) : Ct G d mc y (Cond.code y cc n ret) av h Qr Qx := by
  refine vx_ofW (by rw [ho]; exact hy) rfl ?_
  intro p e s m args below meth c s₁ B hml hh hv
  obtain ⟨rfl, hV, hf⟩ := hv
  have hts := atoms_spec (ws := Cond.code y cc n ret :: lw_all) B.pre
  rw [lg_entry_eq]
  refine body p e s m _ below meth c s.heap [] 0 0 _ ⟨B.exec, B.bytes, hml, B.returns, B.notSynchronized, by rw [← ho]; exact findClass_of_methodNamed B.named, fun w h => hts w (List.mem_cons_of_mem _ h), (name_of_methodNamed B.named B.method).1.trans hnm, ?_, hV, hf.2.1.2, hf.2.2⟩ hf va_S.rf ⟨hLn, enL_has hL hn⟩ (by omega) (by omega)
  cases e : c.exceptionTable.toList with
  | nil => rfl
  | cons x l => exact (hh x (by rw [e]; exact List.mem_cons_self)).elim
theorem Ct.ofH {y : MethodName} {n : Nat} {ret : Option FieldType} {nm : String} {hh : List (Nat × Nat × Nat × Nat)} {av : List Value} (hy : plainName own = true) (ho : y.cls = own) (hnm : y.name = nm) (hL : enP av n = L) (hn : (lg_sl av).length ≤ n) (hLn : L.length = n)
    (body : Go G own cc (n, ret, nm, hh) d mc Qr Qx mc h 0 L []) : Ct G d mc y (Cond.codeWith y cc n ret hh) av h Qr Qx := by
  refine vx_ofWH (by rw [ho]; exact hy) rfl ?_
  intro p e s m args below meth c s₁ B hml hv
  obtain ⟨rfl, hV, hf⟩ := hv
  have hts := atoms_spec (ws := Cond.codeWith y cc n ret hh :: lw_all) B.pre
  rw [lg_entry_eq]
  exact body p e s m _ below meth c s.heap [] 0 0 _ ⟨B.exec, B.bytes, hml, B.returns, B.notSynchronized, by rw [← ho]; exact findClass_of_methodNamed B.named, fun w h => hts w (List.mem_cons_of_mem _ h), (name_of_methodNamed B.named B.method).1.trans hnm, vx_table (x := y) B (hts _ List.mem_cons_self), hV, hf.2.1.2, hf.2.2⟩ hf va_S.rf ⟨hLn, enL_has hL hn⟩ (by omega) (by omega)
theorem st_to {nL : Nat} {ls : Array Slot} {L' : List (Option Value)} {i : Nat} {v : Value} (hL : LH L nL ls) (hs : stL L i v = some L') : i < nL ∧ ∀ ls' : Array Slot, lv_has ls' nL ((i, v) :: (prs L).filter (fun q => !(q.1 == i) && !(q.1 + 1 == i && q.2.category == 2))) → LH L' nL ls' := by
  obtain ⟨h1, h2, h3⟩ := stL_spec hs
  refine ⟨by rw [← hL.1]; exact h2, fun ls' hl => ⟨h1.trans hL.1, hl.1, hl.2.1, fun q hq => ?_⟩⟩
  obtain ⟨j, w⟩ := q
  rcases h3 j w (mem_prs.mp hq) with ⟨q1, q2⟩ | ⟨q1, q2, q3⟩
  · subst q1; subst q2
    exact hl.2.2 _ List.mem_cons_self
  · refine hl.2.2 (j, w) (List.mem_cons_of_mem _ (List.mem_filter.mpr ⟨mem_prs.mpr q1, ?_⟩))
    simp only [Bool.and_eq_true, Bool.not_eq_true', beq_eq_false_iff_ne, Bool.and_eq_false_iff, ne_eq]
    refine ⟨q2, ?_⟩
    by_cases e1 : j + 1 = i
    · right; exact fun e2 => q3 ⟨e1, e2⟩
    · left; exact e1
theorem st2_to {nL : Nat} {ls : Array Slot} {L' : List (Option Value)} {i : Nat} {v : Value} (hL : LH L nL ls) (hs : stL2 L i v = some L') : i + 1 < nL ∧ ∀ ls' : Array Slot, lv_has ls' nL ((i, v) :: (prs L).filter (fun q => !(q.1 == i) && (!(q.1 == i + 1) && !(q.1 + 1 == i && q.2.category == 2)))) → LH L' nL ls' := by
  obtain ⟨h1, h2, h3⟩ := stL2_spec hs
  refine ⟨by rw [← hL.1]; exact h2, fun ls' hl => ⟨h1.trans hL.1, hl.1, hl.2.1, fun q hq => ?_⟩⟩
  obtain ⟨j, w⟩ := q
  rcases h3 j w (mem_prs.mp hq) with ⟨q1, q2⟩ | ⟨q1, q2, q4, q3⟩
  · subst q1; subst q2
    exact hl.2.2 _ List.mem_cons_self
  · refine hl.2.2 (j, w) (List.mem_cons_of_mem _ (List.mem_filter.mpr ⟨mem_prs.mpr q1, ?_⟩))
    simp only [Bool.and_eq_true, Bool.not_eq_true', beq_eq_false_iff_ne, Bool.and_eq_false_iff, ne_eq]
    refine ⟨q2, q4, ?_⟩
    by_cases e1 : j + 1 = i
    · right; exact fun e2 => q3 ⟨e1, e2⟩
    · left; exact e1

theorem r_iconst {n : Int} (hd : decode cc pc = .ok (.iconst n, 1)) (kk : Go G own cc Y d mc Qr Qx kb h (pc + 1) L (.int (iZ n) :: st)) : Go G own cc Y d mc Qr Qx kb h pc L st := by
  intro p e s m args below meth c H locs cells slots ls C hf hS hL h1 h2
  exact lv_iconst C.1 C.2.1 hd rfl (kk p e s m args below meth c H locs cells slots ls C hf hS hL h1 h2)
theorem r_bipush {n : Int} (hd : decode cc pc = .ok (.bipush n, 2)) (hn : -128 ≤ n ∧ n < 128) (kk : Go G own cc Y d mc Qr Qx kb h (pc + 2) L (.int (iZ n) :: st)) : Go G own cc Y d mc Qr Qx kb h pc L st := by
  intro p e s m args below meth c H locs cells slots ls C hf hS hL h1 h2
  exact lv_bipush C.1 C.2.1 hd (iZ_b hn) (kk p e s m args below meth c H locs cells slots ls C hf hS hL h1 h2)
theorem r_sipush {n : Int} (hd : decode cc pc = .ok (.sipush n, 3)) (hn : -32768 ≤ n ∧ n < 32768) (kk : Go G own cc Y d mc Qr Qx kb h (pc + 3) L (.int (iZ n) :: st)) : Go G own cc Y d mc Qr Qx kb h pc L st := by
  intro p e s m args below meth c H locs cells slots ls C hf hS hL h1 h2
  exact lv_sipush C.1 C.2.1 hd (iZ_s hn) (kk p e s m args below meth c H locs cells slots ls C hf hS hL h1 h2)
theorem r_lconst {n : Fin 2} (hd : decode cc pc = .ok (.lconst n, 1)) (kk : Go G own cc Y d mc Qr Qx kb h (pc + 1) L (.long (Int64.ofNat (n : Nat)) :: st)) : Go G own cc Y d mc Qr Qx kb h pc L st := by
  intro p e s m args below meth c H locs cells slots ls C hf hS hL h1 h2
  exact lv_lconst C.1 C.2.1 hd rfl (kk p e s m args below meth c H locs cells slots ls C hf hS hL h1 h2)
theorem r_null  (hd : decode cc pc = .ok (.aconst_null, 1)) (kk : Go G own cc Y d mc Qr Qx kb h (pc + 1) L (.null :: st)) : Go G own cc Y d mc Qr Qx kb h pc L st := by
  intro p e s m args below meth c H locs cells slots ls C hf hS hL h1 h2
  exact lv_null C.1 C.2.1 hd (kk p e s m args below meth c H locs cells slots ls C hf hS hL h1 h2)
theorem r_fconst0  (hd : decode cc pc = .ok (.fconst 0, 1)) (kk : Go G own cc Y d mc Qr Qx kb h (pc + 1) L (.float FP.fconst0 :: st)) : Go G own cc Y d mc Qr Qx kb h pc L st := by
  intro p e s m args below meth c H locs cells slots ls C hf hS hL h1 h2
  exact lv_fconst0 C.1 C.2.1 hd (kk p e s m args below meth c H locs cells slots ls C hf hS hL h1 h2)
theorem r_dconst0  (hd : decode cc pc = .ok (.dconst 0, 1)) (kk : Go G own cc Y d mc Qr Qx kb h (pc + 1) L (.double FP.dconst0 :: st)) : Go G own cc Y d mc Qr Qx kb h pc L st := by
  intro p e s m args below meth c H locs cells slots ls C hf hS hL h1 h2
  exact lv_dconst0 C.1 C.2.1 hd (kk p e s m args below meth c H locs cells slots ls C hf hS hL h1 h2)
theorem r_ldc {idx : Nat} {v : Int32} (hd : decode cc pc = .ok (.ldc idx, 2)) (hw : Jvm.Cond.constant own idx v ∈ lw_all) (kk : Go G own cc Y d mc Qr Qx kb h (pc + 2) L (.int v :: st)) : Go G own cc Y d mc Qr Qx kb h pc L st := by
  intro p e s m args below meth c H locs cells slots ls C hf hS hL h1 h2
  exact lv_ldc C.1 C.2.1 C.2.2.2.2.2.1 (C.2.2.2.2.2.2.1 _ hw) hd (kk p e s m args below meth c H locs cells slots ls C hf hS hL h1 h2)
theorem r_ldc2 {idx : Nat} {v : Int64} (hd : decode cc pc = .ok (.ldc2_w idx, 3)) (hw : Jvm.Cond.constantLong own idx v ∈ lw_all) (kk : Go G own cc Y d mc Qr Qx kb h (pc + 3) L (.long v :: st)) : Go G own cc Y d mc Qr Qx kb h pc L st := by
  intro p e s m args below meth c H locs cells slots ls C hf hS hL h1 h2
  exact lv_ldc2 C.1 C.2.1 C.2.2.2.2.2.1 (C.2.2.2.2.2.2.1 _ hw) hd (kk p e s m args below meth c H locs cells slots ls C hf hS hL h1 h2)
theorem r_ldcw {idx : Nat} {v : Int32} (hd : decode cc pc = .ok (.ldc_w idx, 3)) (hw : Jvm.Cond.constant own idx v ∈ lw_all) (kk : Go G own cc Y d mc Qr Qx kb h (pc + 3) L (.int v :: st)) : Go G own cc Y d mc Qr Qx kb h pc L st := by
  intro p e s m args below meth c H locs cells slots ls C hf hS hL h1 h2
  exact lv_ldcw C.1 C.2.1 C.2.2.2.2.2.1 (C.2.2.2.2.2.2.1 _ hw) hd (kk p e s m args below meth c H locs cells slots ls C hf hS hL h1 h2)
theorem r_ldcS {idx k : Nat} {tx : String} (hd : decode cc pc = .ok (.ldc idx, 2)) (k0 : Nat) (hz : strTab[k0]? = some (own, idx, tx, k)) (kk : Go G own cc Y d mc Qr Qx kb h (pc + 2) L (.ref (gS G k) :: st)) : Go G own cc Y d mc Qr Qx kb h pc L st := by
  intro p e s m args below meth c H locs cells slots ls C hf hS hL h1 h2
  exact va_ldcS C.1 C.2.1 C.2.2.2.2.2.1 (C.2.2.2.2.2.2.2.2.2.1.2.2.2.2.2.1 _ (List.mem_of_getElem? hz)) hd (kk p e s m args below meth c H locs cells slots ls C hf hS hL h1 h2)
theorem r_ldcSw {idx k : Nat} {tx : String} (hd : decode cc pc = .ok (.ldc_w idx, 3)) (k0 : Nat) (hz : strTab[k0]? = some (own, idx, tx, k)) (kk : Go G own cc Y d mc Qr Qx kb h (pc + 3) L (.ref (gS G k) :: st)) : Go G own cc Y d mc Qr Qx kb h pc L st := by
  intro p e s m args below meth c H locs cells slots ls C hf hS hL h1 h2
  exact va_ldcSw C.1 C.2.1 C.2.2.2.2.2.1 (C.2.2.2.2.2.2.2.2.2.1.2.2.2.2.2.1 _ (List.mem_of_getElem? hz)) hd (kk p e s m args below meth c H locs cells slots ls C hf hS hL h1 h2)
theorem r_iload_n {k : Fin 4} {x : Int32} (hd : decode cc pc = .ok (.iload_n k, 1)) (hl : L[(k : Nat)]? = some (some (.int x))) (kk : Go G own cc Y d mc Qr Qx kb h (pc + 1) L (.int x :: st)) : Go G own cc Y d mc Qr Qx kb h pc L st := by
  intro p e s m args below meth c H locs cells slots ls C hf hS hL h1 h2
  exact lv_iload_n C.1 C.2.1 hd rfl (hL.at hl) (kk p e s m args below meth c H locs cells slots ls C hf hS hL h1 h2)
theorem r_iload {k : Nat} {x : Int32} (hd : decode cc pc = .ok (.iload k, 2)) (hl : L[k]? = some (some (.int x))) (kk : Go G own cc Y d mc Qr Qx kb h (pc + 2) L (.int x :: st)) : Go G own cc Y d mc Qr Qx kb h pc L st := by
  intro p e s m args below meth c H locs cells slots ls C hf hS hL h1 h2
  exact lv_iload C.1 C.2.1 hd (hL.at hl) (kk p e s m args below meth c H locs cells slots ls C hf hS hL h1 h2)
theorem r_lload_n {k : Fin 4} {x : Int64} (hd : decode cc pc = .ok (.lload_n k, 1)) (hl : L[(k : Nat)]? = some (some (.long x))) (kk : Go G own cc Y d mc Qr Qx kb h (pc + 1) L (.long x :: st)) : Go G own cc Y d mc Qr Qx kb h pc L st := by
  intro p e s m args below meth c H locs cells slots ls C hf hS hL h1 h2
  exact lv_lload_n C.1 C.2.1 hd rfl (hL.at hl) (kk p e s m args below meth c H locs cells slots ls C hf hS hL h1 h2)
theorem r_lload {k : Nat} {x : Int64} (hd : decode cc pc = .ok (.lload k, 2)) (hl : L[k]? = some (some (.long x))) (kk : Go G own cc Y d mc Qr Qx kb h (pc + 2) L (.long x :: st)) : Go G own cc Y d mc Qr Qx kb h pc L st := by
  intro p e s m args below meth c H locs cells slots ls C hf hS hL h1 h2
  exact lv_lload C.1 C.2.1 hd (hL.at hl) (kk p e s m args below meth c H locs cells slots ls C hf hS hL h1 h2)
theorem r_fload_n {k : Fin 4} {x : UInt32} (hd : decode cc pc = .ok (.fload_n k, 1)) (hl : L[(k : Nat)]? = some (some (.float x))) (kk : Go G own cc Y d mc Qr Qx kb h (pc + 1) L (.float x :: st)) : Go G own cc Y d mc Qr Qx kb h pc L st := by
  intro p e s m args below meth c H locs cells slots ls C hf hS hL h1 h2
  exact lv_fload_n C.1 C.2.1 hd rfl (hL.at hl) (kk p e s m args below meth c H locs cells slots ls C hf hS hL h1 h2)
theorem r_fload {k : Nat} {x : UInt32} (hd : decode cc pc = .ok (.fload k, 2)) (hl : L[k]? = some (some (.float x))) (kk : Go G own cc Y d mc Qr Qx kb h (pc + 2) L (.float x :: st)) : Go G own cc Y d mc Qr Qx kb h pc L st := by
  intro p e s m args below meth c H locs cells slots ls C hf hS hL h1 h2
  exact lv_fload C.1 C.2.1 hd (hL.at hl) (kk p e s m args below meth c H locs cells slots ls C hf hS hL h1 h2)
theorem r_dload_n {k : Fin 4} {x : UInt64} (hd : decode cc pc = .ok (.dload_n k, 1)) (hl : L[(k : Nat)]? = some (some (.double x))) (kk : Go G own cc Y d mc Qr Qx kb h (pc + 1) L (.double x :: st)) : Go G own cc Y d mc Qr Qx kb h pc L st := by
  intro p e s m args below meth c H locs cells slots ls C hf hS hL h1 h2
  exact lv_dload_n C.1 C.2.1 hd rfl (hL.at hl) (kk p e s m args below meth c H locs cells slots ls C hf hS hL h1 h2)
theorem r_dload {k : Nat} {x : UInt64} (hd : decode cc pc = .ok (.dload k, 2)) (hl : L[k]? = some (some (.double x))) (kk : Go G own cc Y d mc Qr Qx kb h (pc + 2) L (.double x :: st)) : Go G own cc Y d mc Qr Qx kb h pc L st := by
  intro p e s m args below meth c H locs cells slots ls C hf hS hL h1 h2
  exact lv_dload C.1 C.2.1 hd (hL.at hl) (kk p e s m args below meth c H locs cells slots ls C hf hS hL h1 h2)
theorem r_aload_n {k : Fin 4} {x : Nat} (hd : decode cc pc = .ok (.aload_n k, 1)) (hl : L[(k : Nat)]? = some (some (.ref x))) (kk : Go G own cc Y d mc Qr Qx kb h (pc + 1) L (.ref x :: st)) : Go G own cc Y d mc Qr Qx kb h pc L st := by
  intro p e s m args below meth c H locs cells slots ls C hf hS hL h1 h2
  exact lv_aload_n C.1 C.2.1 hd rfl (hL.at hl) (kk p e s m args below meth c H locs cells slots ls C hf hS hL h1 h2)
theorem r_aload {k : Nat} {x : Nat} (hd : decode cc pc = .ok (.aload k, 2)) (hl : L[k]? = some (some (.ref x))) (kk : Go G own cc Y d mc Qr Qx kb h (pc + 2) L (.ref x :: st)) : Go G own cc Y d mc Qr Qx kb h pc L st := by
  intro p e s m args below meth c H locs cells slots ls C hf hS hL h1 h2
  exact lv_aload C.1 C.2.1 hd (hL.at hl) (kk p e s m args below meth c H locs cells slots ls C hf hS hL h1 h2)
theorem r_aload_nN {k : Fin 4} (hd : decode cc pc = .ok (.aload_n k, 1)) (hl : L[(k : Nat)]? = some (some .null)) (kk : Go G own cc Y d mc Qr Qx kb h (pc + 1) L (.null :: st)) : Go G own cc Y d mc Qr Qx kb h pc L st := by
  intro p e s m args below meth c H locs cells slots ls C hf hS hL h1 h2
  exact lv_aload_nN C.1 C.2.1 hd rfl (hL.at hl) (kk p e s m args below meth c H locs cells slots ls C hf hS hL h1 h2)
theorem r_aloadN {k : Nat} (hd : decode cc pc = .ok (.aload k, 2)) (hl : L[k]? = some (some .null)) (kk : Go G own cc Y d mc Qr Qx kb h (pc + 2) L (.null :: st)) : Go G own cc Y d mc Qr Qx kb h pc L st := by
  intro p e s m args below meth c H locs cells slots ls C hf hS hL h1 h2
  exact lv_aloadN C.1 C.2.1 hd (hL.at hl) (kk p e s m args below meth c H locs cells slots ls C hf hS hL h1 h2)
theorem r_istore_n {k : Fin 4} {x : Int32} {L' : List (Option Value)} (hd : decode cc pc = .ok (.istore_n k, 1)) (hs : stL L (k : Nat) (.int x) = some L') (kk : Go G own cc Y d mc Qr Qx kb h (pc + 1) L' st) : Go G own cc Y d mc Qr Qx kb h pc L (.int x :: st) := by
  intro p e s m args below meth c H locs cells slots ls C hf hS hL h1 h2
  obtain ⟨g1, g2⟩ := st_to hL hs
  exact lv_istore_n C.1 C.2.1 hd rfl hL.2 g1 rfl (fun ls' hl => kk p e s m args below meth c H locs cells slots ls' C hf hS (g2 ls' hl) h1 h2)
theorem r_istore {k : Nat} {x : Int32} {L' : List (Option Value)} (hd : decode cc pc = .ok (.istore k, 2)) (hs : stL L k (.int x) = some L') (kk : Go G own cc Y d mc Qr Qx kb h (pc + 2) L' st) : Go G own cc Y d mc Qr Qx kb h pc L (.int x :: st) := by
  intro p e s m args below meth c H locs cells slots ls C hf hS hL h1 h2
  obtain ⟨g1, g2⟩ := st_to hL hs
  exact lv_istore C.1 C.2.1 hd hL.2 g1 rfl (fun ls' hl => kk p e s m args below meth c H locs cells slots ls' C hf hS (g2 ls' hl) h1 h2)
theorem r_lstore_n {k : Fin 4} {x : Int64} {L' : List (Option Value)} (hd : decode cc pc = .ok (.lstore_n k, 1)) (hs : stL2 L (k : Nat) (.long x) = some L') (kk : Go G own cc Y d mc Qr Qx kb h (pc + 1) L' st) : Go G own cc Y d mc Qr Qx kb h pc L (.long x :: st) := by
  intro p e s m args below meth c H locs cells slots ls C hf hS hL h1 h2
  obtain ⟨g1, g2⟩ := st2_to hL hs
  exact lv_lstore_n C.1 C.2.1 hd rfl hL.2 g1 rfl (fun ls' hl => kk p e s m args below meth c H locs cells slots ls' C hf hS (g2 ls' hl) h1 h2)
theorem r_lstore {k : Nat} {x : Int64} {L' : List (Option Value)} (hd : decode cc pc = .ok (.lstore k, 2)) (hs : stL2 L k (.long x) = some L') (kk : Go G own cc Y d mc Qr Qx kb h (pc + 2) L' st) : Go G own cc Y d mc Qr Qx kb h pc L (.long x :: st) := by
  intro p e s m args below meth c H locs cells slots ls C hf hS hL h1 h2
  obtain ⟨g1, g2⟩ := st2_to hL hs
  exact lv_lstore C.1 C.2.1 hd hL.2 g1 rfl (fun ls' hl => kk p e s m args below meth c H locs cells slots ls' C hf hS (g2 ls' hl) h1 h2)
theorem r_fstore_n {k : Fin 4} {x : UInt32} {L' : List (Option Value)} (hd : decode cc pc = .ok (.fstore_n k, 1)) (hs : stL L (k : Nat) (.float x) = some L') (kk : Go G own cc Y d mc Qr Qx kb h (pc + 1) L' st) : Go G own cc Y d mc Qr Qx kb h pc L (.float x :: st) := by
  intro p e s m args below meth c H locs cells slots ls C hf hS hL h1 h2
  obtain ⟨g1, g2⟩ := st_to hL hs
  exact lv_fstore_n C.1 C.2.1 hd rfl hL.2 g1 rfl (fun ls' hl => kk p e s m args below meth c H locs cells slots ls' C hf hS (g2 ls' hl) h1 h2)
theorem r_fstore {k : Nat} {x : UInt32} {L' : List (Option Value)} (hd : decode cc pc = .ok (.fstore k, 2)) (hs : stL L k (.float x) = some L') (kk : Go G own cc Y d mc Qr Qx kb h (pc + 2) L' st) : Go G own cc Y d mc Qr Qx kb h pc L (.float x :: st) := by
  intro p e s m args below meth c H locs cells slots ls C hf hS hL h1 h2
  obtain ⟨g1, g2⟩ := st_to hL hs
  exact lv_fstore C.1 C.2.1 hd hL.2 g1 rfl (fun ls' hl => kk p e s m args below meth c H locs cells slots ls' C hf hS (g2 ls' hl) h1 h2)
theorem r_dstore_n {k : Fin 4} {x : UInt64} {L' : List (Option Value)} (hd : decode cc pc = .ok (.dstore_n k, 1)) (hs : stL2 L (k : Nat) (.double x) = some L') (kk : Go G own cc Y d mc Qr Qx kb h (pc + 1) L' st) : Go G own cc Y d mc Qr Qx kb h pc L (.double x :: st) := by
  intro p e s m args below meth c H locs cells slots ls C hf hS hL h1 h2
  obtain ⟨g1, g2⟩ := st2_to hL hs
  exact lv_dstore_n C.1 C.2.1 hd rfl hL.2 g1 rfl (fun ls' hl => kk p e s m args below meth c H locs cells slots ls' C hf hS (g2 ls' hl) h1 h2)
theorem r_dstore {k : Nat} {x : UInt64} {L' : List (Option Value)} (hd : decode cc pc = .ok (.dstore k, 2)) (hs : stL2 L k (.double x) = some L') (kk : Go G own cc Y d mc Qr Qx kb h (pc + 2) L' st) : Go G own cc Y d mc Qr Qx kb h pc L (.double x :: st) := by
  intro p e s m args below meth c H locs cells slots ls C hf hS hL h1 h2
  obtain ⟨g1, g2⟩ := st2_to hL hs
  exact lv_dstore C.1 C.2.1 hd hL.2 g1 rfl (fun ls' hl => kk p e s m args below meth c H locs cells slots ls' C hf hS (g2 ls' hl) h1 h2)
theorem r_astore_n {k : Fin 4} {x : Nat} {L' : List (Option Value)} (hd : decode cc pc = .ok (.astore_n k, 1)) (hs : stL L (k : Nat) (.ref x) = some L') (kk : Go G own cc Y d mc Qr Qx kb h (pc + 1) L' st) : Go G own cc Y d mc Qr Qx kb h pc L (.ref x :: st) := by
  intro p e s m args below meth c H locs cells slots ls C hf hS hL h1 h2
  obtain ⟨g1, g2⟩ := st_to hL hs
  exact lv_astore_n C.1 C.2.1 hd rfl hL.2 g1 rfl (fun ls' hl => kk p e s m args below meth c H locs cells slots ls' C hf hS (g2 ls' hl) h1 h2)
theorem r_astore {k : Nat} {x : Nat} {L' : List (Option Value)} (hd : decode cc pc = .ok (.astore k, 2)) (hs : stL L k (.ref x) = some L') (kk : Go G own cc Y d mc Qr Qx kb h (pc + 2) L' st) : Go G own cc Y d mc Qr Qx kb h pc L (.ref x :: st) := by
  intro p e s m args below meth c H locs cells slots ls C hf hS hL h1 h2
  obtain ⟨g1, g2⟩ := st_to hL hs
  exact lv_astore C.1 C.2.1 hd hL.2 g1 rfl (fun ls' hl => kk p e s m args below meth c H locs cells slots ls' C hf hS (g2 ls' hl) h1 h2)
theorem r_astore_nN {k : Fin 4} {L' : List (Option Value)} (hd : decode cc pc = .ok (.astore_n k, 1)) (hs : stL L (k : Nat) (.null) = some L') (kk : Go G own cc Y d mc Qr Qx kb h (pc + 1) L' st) : Go G own cc Y d mc Qr Qx kb h pc L (.null :: st) := by
  intro p e s m args below meth c H locs cells slots ls C hf hS hL h1 h2
  obtain ⟨g1, g2⟩ := st_to hL hs
  exact lv_astore_nN C.1 C.2.1 hd rfl hL.2 g1 rfl (fun ls' hl => kk p e s m args below meth c H locs cells slots ls' C hf hS (g2 ls' hl) h1 h2)
theorem r_astoreN {k : Nat} {L' : List (Option Value)} (hd : decode cc pc = .ok (.astore k, 2)) (hs : stL L k (.null) = some L') (kk : Go G own cc Y d mc Qr Qx kb h (pc + 2) L' st) : Go G own cc Y d mc Qr Qx kb h pc L (.null :: st) := by
  intro p e s m args below meth c H locs cells slots ls C hf hS hL h1 h2
  obtain ⟨g1, g2⟩ := st_to hL hs
  exact lv_astoreN C.1 C.2.1 hd hL.2 g1 rfl (fun ls' hl => kk p e s m args below meth c H locs cells slots ls' C hf hS (g2 ls' hl) h1 h2)
theorem r_iinc {k : Nat} {n a : Int} {L' : List (Option Value)} (hd : decode cc pc = .ok (.iinc k n, 3)) (hl : L[k]? = some (some (.int (iZ a)))) (hs : stL L k (.int (iZ (a + n))) = some L') (kk : Go G own cc Y d mc Qr Qx kb h (pc + 3) L' st) : Go G own cc Y d mc Qr Qx kb h pc L st := by
  intro p e s m args below meth c H locs cells slots ls C hf hS hL h1 h2
  obtain ⟨g1, g2⟩ := st_to hL hs
  obtain ⟨j, hj⟩ := List.getElem?_of_mem (mem_prs.mpr hl)
  exact lv_iinc C.1 C.2.1 hd hL.2 hj (by rw [← iZ_add]; rfl) g1 rfl (fun ls' hl => kk p e s m args below meth c H locs cells slots ls' C hf hS (g2 ls' hl) h1 h2)
theorem q_iadd {x y : Int32} (hd : decode cc pc = .ok (.iadd, 1)) (kk : Go G own cc Y d mc Qr Qx kb h (pc + 1) L (.int (x + y) :: st)) : Go G own cc Y d mc Qr Qx kb h pc L (.int y :: .int x :: st) := by
  intro p e s m args below meth c H locs cells slots ls C hf hS hL h1 h2
  exact lv_iadd C.1 C.2.1 hd (kk p e s m args below meth c H locs cells slots ls C hf hS hL h1 h2)
theorem r_iadd {a b : Int} (hd : decode cc pc = .ok (.iadd, 1)) (kk : Go G own cc Y d mc Qr Qx kb h (pc + 1) L (.int (iZ (a + b)) :: st)) : Go G own cc Y d mc Qr Qx kb h pc L (.int (iZ b) :: .int (iZ a) :: st) := q_iadd hd (by rw [iZ_add]; exact kk)
theorem q_isub {x y : Int32} (hd : decode cc pc = .ok (.isub, 1)) (kk : Go G own cc Y d mc Qr Qx kb h (pc + 1) L (.int (x - y) :: st)) : Go G own cc Y d mc Qr Qx kb h pc L (.int y :: .int x :: st) := by
  intro p e s m args below meth c H locs cells slots ls C hf hS hL h1 h2
  exact lv_isub C.1 C.2.1 hd (kk p e s m args below meth c H locs cells slots ls C hf hS hL h1 h2)
theorem r_isub {a b : Int} (hd : decode cc pc = .ok (.isub, 1)) (kk : Go G own cc Y d mc Qr Qx kb h (pc + 1) L (.int (iZ (a - b)) :: st)) : Go G own cc Y d mc Qr Qx kb h pc L (.int (iZ b) :: .int (iZ a) :: st) := q_isub hd (by rw [iZ_sub]; exact kk)
theorem q_imul {x y : Int32} (hd : decode cc pc = .ok (.imul, 1)) (kk : Go G own cc Y d mc Qr Qx kb h (pc + 1) L (.int (x * y) :: st)) : Go G own cc Y d mc Qr Qx kb h pc L (.int y :: .int x :: st) := by
  intro p e s m args below meth c H locs cells slots ls C hf hS hL h1 h2
  exact lv_imul C.1 C.2.1 hd (kk p e s m args below meth c H locs cells slots ls C hf hS hL h1 h2)
theorem r_imul {a b : Int} (hd : decode cc pc = .ok (.imul, 1)) (kk : Go G own cc Y d mc Qr Qx kb h (pc + 1) L (.int (iZ (a * b)) :: st)) : Go G own cc Y d mc Qr Qx kb h pc L (.int (iZ b) :: .int (iZ a) :: st) := q_imul hd (by rw [iZ_mul]; exact kk)
theorem q_iand {x y : Int32} (hd : decode cc pc = .ok (.iand, 1)) (kk : Go G own cc Y d mc Qr Qx kb h (pc + 1) L (.int (x &&& y) :: st)) : Go G own cc Y d mc Qr Qx kb h pc L (.int y :: .int x :: st) := by
  intro p e s m args below meth c H locs cells slots ls C hf hS hL h1 h2
  exact lv_iand C.1 C.2.1 hd (kk p e s m args below meth c H locs cells slots ls C hf hS hL h1 h2)
theorem q_ior {x y : Int32} (hd : decode cc pc = .ok (.ior, 1)) (kk : Go G own cc Y d mc Qr Qx kb h (pc + 1) L (.int (x ||| y) :: st)) : Go G own cc Y d mc Qr Qx kb h pc L (.int y :: .int x :: st) := by
  intro p e s m args below meth c H locs cells slots ls C hf hS hL h1 h2
  exact lv_ior C.1 C.2.1 hd (kk p e s m args below meth c H locs cells slots ls C hf hS hL h1 h2)
theorem q_ixor {x y : Int32} (hd : decode cc pc = .ok (.ixor, 1)) (kk : Go G own cc Y d mc Qr Qx kb h (pc + 1) L (.int (x ^^^ y) :: st)) : Go G own cc Y d mc Qr Qx kb h pc L (.int y :: .int x :: st) := by
  intro p e s m args below meth c H locs cells slots ls C hf hS hL h1 h2
  exact lv_ixor C.1 C.2.1 hd (kk p e s m args below meth c H locs cells slots ls C hf hS hL h1 h2)
theorem q_ladd {x y : Int64} (hd : decode cc pc = .ok (.ladd, 1)) (kk : Go G own cc Y d mc Qr Qx kb h (pc + 1) L (.long (x + y) :: st)) : Go G own cc Y d mc Qr Qx kb h pc L (.long y :: .long x :: st) := by
  intro p e s m args below meth c H locs cells slots ls C hf hS hL h1 h2
  exact lv_ladd C.1 C.2.1 hd (kk p e s m args below meth c H locs cells slots ls C hf hS hL h1 h2)
theorem q_lsub {x y : Int64} (hd : decode cc pc = .ok (.lsub, 1)) (kk : Go G own cc Y d mc Qr Qx kb h (pc + 1) L (.long (x - y) :: st)) : Go G own cc Y d mc Qr Qx kb h pc L (.long y :: .long x :: st) := by
  intro p e s m args below meth c H locs cells slots ls C hf hS hL h1 h2
  exact lv_lsub C.1 C.2.1 hd (kk p e s m args below meth c H locs cells slots ls C hf hS hL h1 h2)
theorem q_land {x y : Int64} (hd : decode cc pc = .ok (.land, 1)) (kk : Go G own cc Y d mc Qr Qx kb h (pc + 1) L (.long (x &&& y) :: st)) : Go G own cc Y d mc Qr Qx kb h pc L (.long y :: .long x :: st) := by
  intro p e s m args below meth c H locs cells slots ls C hf hS hL h1 h2
  exact lv_land C.1 C.2.1 hd (kk p e s m args below meth c H locs cells slots ls C hf hS hL h1 h2)
theorem q_lor {x y : Int64} (hd : decode cc pc = .ok (.lor, 1)) (kk : Go G own cc Y d mc Qr Qx kb h (pc + 1) L (.long (x ||| y) :: st)) : Go G own cc Y d mc Qr Qx kb h pc L (.long y :: .long x :: st) := by
  intro p e s m args below meth c H locs cells slots ls C hf hS hL h1 h2
  exact lv_lor C.1 C.2.1 hd (kk p e s m args below meth c H locs cells slots ls C hf hS hL h1 h2)
theorem q_lxor {x y : Int64} (hd : decode cc pc = .ok (.lxor, 1)) (kk : Go G own cc Y d mc Qr Qx kb h (pc + 1) L (.long (x ^^^ y) :: st)) : Go G own cc Y d mc Qr Qx kb h pc L (.long y :: .long x :: st) := by
  intro p e s m args below meth c H locs cells slots ls C hf hS hL h1 h2
  exact lv_lxor C.1 C.2.1 hd (kk p e s m args below meth c H locs cells slots ls C hf hS hL h1 h2)
theorem q_idiv {x y : Int32} (hd : decode cc pc = .ok (.idiv, 1)) (hn : ¬ y = 0) (kk : Go G own cc Y d mc Qr Qx kb h (pc + 1) L (.int (x / y) :: st)) : Go G own cc Y d mc Qr Qx kb h pc L (.int y :: .int x :: st) := by
  intro p e s m args below meth c H locs cells slots ls C hf hS hL h1 h2
  exact lv_idiv C.1 C.2.1 hd hn (kk p e s m args below meth c H locs cells slots ls C hf hS hL h1 h2)
theorem q_irem {x y : Int32} (hd : decode cc pc = .ok (.irem, 1)) (hn : ¬ y = 0) (kk : Go G own cc Y d mc Qr Qx kb h (pc + 1) L (.int (x - x / y * y) :: st)) : Go G own cc Y d mc Qr Qx kb h pc L (.int y :: .int x :: st) := by
  intro p e s m args below meth c H locs cells slots ls C hf hS hL h1 h2
  exact lv_irem C.1 C.2.1 hd hn (kk p e s m args below meth c H locs cells slots ls C hf hS hL h1 h2)
theorem q_ineg {x : Int32} (hd : decode cc pc = .ok (.ineg, 1)) (kk : Go G own cc Y d mc Qr Qx kb h (pc + 1) L (.int (-x) :: st)) : Go G own cc Y d mc Qr Qx kb h pc L (.int x :: st) := by
  intro p e s m args below meth c H locs cells slots ls C hf hS hL h1 h2
  exact lv_ineg C.1 C.2.1 hd (kk p e s m args below meth c H locs cells slots ls C hf hS hL h1 h2)
theorem r_ineg {a : Int} (hd : decode cc pc = .ok (.ineg, 1)) (kk : Go G own cc Y d mc Qr Qx kb h (pc + 1) L (.int (iZ (-a)) :: st)) : Go G own cc Y d mc Qr Qx kb h pc L (.int (iZ a) :: st) := q_ineg hd (by rw [iZ_neg]; exact kk)
theorem r_idiv {a b : Int} (hd : decode cc pc = .ok (.idiv, 1)) (ha : InR a) (h0 : 0 ≤ a) (hb : 0 < b ∧ b < 2147483648) (kk : Go G own cc Y d mc Qr Qx kb h (pc + 1) L (.int (iZ (a / b)) :: st)) : Go G own cc Y d mc Qr Qx kb h pc L (.int (iZ b) :: .int (iZ a) :: st) := q_idiv hd (iZ_ne0 hb.1 hb.2) (by rw [iZ_div h0 ha.2 hb.1 hb.2]; exact kk)
theorem r_irem {a b : Int} (hd : decode cc pc = .ok (.irem, 1)) (ha : InR a) (h0 : 0 ≤ a) (hb : 0 < b ∧ b < 2147483648) (kk : Go G own cc Y d mc Qr Qx kb h (pc + 1) L (.int (iZ (a % b)) :: st)) : Go G own cc Y d mc Qr Qx kb h pc L (.int (iZ b) :: .int (iZ a) :: st) := q_irem hd (iZ_ne0 hb.1 hb.2) (by rw [iZ_rem h0 ha.2 hb.1 hb.2]; exact kk)
theorem q_ishl {x y : Int32} (hd : decode cc pc = .ok (.ishl, 1)) (kk : Go G own cc Y d mc Qr Qx kb h (pc + 1) L (.int (x <<< (y &&& 31)) :: st)) : Go G own cc Y d mc Qr Qx kb h pc L (.int y :: .int x :: st) := by
  intro p e s m args below meth c H locs cells slots ls C hf hS hL h1 h2
  exact lv_ishl C.1 C.2.1 hd (kk p e s m args below meth c H locs cells slots ls C hf hS hL h1 h2)
theorem q_ishr {x y : Int32} (hd : decode cc pc = .ok (.ishr, 1)) (kk : Go G own cc Y d mc Qr Qx kb h (pc + 1) L (.int (x >>> (y &&& 31)) :: st)) : Go G own cc Y d mc Qr Qx kb h pc L (.int y :: .int x :: st) := by
  intro p e s m args below meth c H locs cells slots ls C hf hS hL h1 h2
  exact lv_ishr C.1 C.2.1 hd (kk p e s m args below meth c H locs cells slots ls C hf hS hL h1 h2)
theorem q_iushr {x y v : Int32} (hd : decode cc pc = .ok (.iushr, 1)) (hv : (x.toUInt32 >>> (y.toUInt32 &&& Int32.toUInt32 31)).toInt32 = v) (kk : Go G own cc Y d mc Qr Qx kb h (pc + 1) L (.int v :: st)) : Go G own cc Y d mc Qr Qx kb h pc L (.int y :: .int x :: st) := by
  intro p e s m args below meth c H locs cells slots ls C hf hS hL h1 h2
  exact lv_iushr C.1 C.2.1 hd hv (kk p e s m args below meth c H locs cells slots ls C hf hS hL h1 h2)
theorem q_lushr {x v : Int64} {y : Int32} (hd : decode cc pc = .ok (.lushr, 1)) (hv : (x.toUInt64 >>> (y.toInt64.toUInt64 &&& Int64.toUInt64 63)).toInt64 = v) (kk : Go G own cc Y d mc Qr Qx kb h (pc + 1) L (.long v :: st)) : Go G own cc Y d mc Qr Qx kb h pc L (.int y :: .long x :: st) := by
  intro p e s m args below meth c H locs cells slots ls C hf hS hL h1 h2
  exact lv_lushr C.1 C.2.1 hd hv (kk p e s m args below meth c H locs cells slots ls C hf hS hL h1 h2)
theorem q_lshl {x v : Int64} {y : Int32} (hd : decode cc pc = .ok (.lshl, 1)) (hv : x <<< (y.toInt64 &&& 63) = v) (kk : Go G own cc Y d mc Qr Qx kb h (pc + 1) L (.long v :: st)) : Go G own cc Y d mc Qr Qx kb h pc L (.int y :: .long x :: st) := by
  intro p e s m args below meth c H locs cells slots ls C hf hS hL h1 h2
  exact lv_lshl C.1 C.2.1 hd hv (kk p e s m args below meth c H locs cells slots ls C hf hS hL h1 h2)
theorem r_i2l {x : Int32} {v : Int64} (hd : decode cc pc = .ok (.i2l, 1)) (hv : x.toInt64 = v) (kk : Go G own cc Y d mc Qr Qx kb h (pc + 1) L (.long v :: st)) : Go G own cc Y d mc Qr Qx kb h pc L (.int x :: st) := by
  intro p e s m args below meth c H locs cells slots ls C hf hS hL h1 h2
  exact lv_i2l C.1 C.2.1 hd hv (kk p e s m args below meth c H locs cells slots ls C hf hS hL h1 h2)
theorem r_l2i {x : Int64} {v : Int32} (hd : decode cc pc = .ok (.l2i, 1)) (hv : x.toInt32 = v) (kk : Go G own cc Y d mc Qr Qx kb h (pc + 1) L (.int v :: st)) : Go G own cc Y d mc Qr Qx kb h pc L (.long x :: st) := by
  intro p e s m args below meth c H locs cells slots ls C hf hS hL h1 h2
  exact lv_l2i C.1 C.2.1 hd hv (kk p e s m args below meth c H locs cells slots ls C hf hS hL h1 h2)
theorem r_i2b {x v : Int32} (hd : decode cc pc = .ok (.i2b, 1)) (hv : x.toInt8.toInt32 = v) (kk : Go G own cc Y d mc Qr Qx kb h (pc + 1) L (.int v :: st)) : Go G own cc Y d mc Qr Qx kb h pc L (.int x :: st) := by
  intro p e s m args below meth c H locs cells slots ls C hf hS hL h1 h2
  exact lv_i2b C.1 C.2.1 hd hv (kk p e s m args below meth c H locs cells slots ls C hf hS hL h1 h2)
theorem r_i2c {x v : Int32} (hd : decode cc pc = .ok (.i2c, 1)) (hv : (x.toUInt32 % 65536).toInt32 = v) (kk : Go G own cc Y d mc Qr Qx kb h (pc + 1) L (.int v :: st)) : Go G own cc Y d mc Qr Qx kb h pc L (.int x :: st) := by
  intro p e s m args below meth c H locs cells slots ls C hf hS hL h1 h2
  exact lv_i2c C.1 C.2.1 hd hv (kk p e s m args below meth c H locs cells slots ls C hf hS hL h1 h2)
theorem r_i2d {x : Int32} (hd : decode cc pc = .ok (.i2d, 1)) (kk : Go G own cc Y d mc Qr Qx kb h (pc + 1) L (.double (FP.i2d x) :: st)) : Go G own cc Y d mc Qr Qx kb h pc L (.int x :: st) := by
  intro p e s m args below meth c H locs cells slots ls C hf hS hL h1 h2
  exact lv_i2d C.1 C.2.1 hd (kk p e s m args below meth c H locs cells slots ls C hf hS hL h1 h2)
theorem r_i2f {x : Int32} (hd : decode cc pc = .ok (.i2f, 1)) (kk : Go G own cc Y d mc Qr Qx kb h (pc + 1) L (.float (FP.i2f x) :: st)) : Go G own cc Y d mc Qr Qx kb h pc L (.int x :: st) := by
  intro p e s m args below meth c H locs cells slots ls C hf hS hL h1 h2
  exact lv_i2f C.1 C.2.1 hd (kk p e s m args below meth c H locs cells slots ls C hf hS hL h1 h2)
theorem r_f2d {x : UInt32} (hd : decode cc pc = .ok (.f2d, 1)) (hn : vf_n64 (FP.f2d x)) (kk : Go G own cc Y d mc Qr Qx kb h (pc + 1) L (.double (FP.f2d x) :: st)) : Go G own cc Y d mc Qr Qx kb h pc L (.float x :: st) := by
  intro p e s m args below meth c H locs cells slots ls C hf hS hL h1 h2
  exact lv_f2d C.1 C.2.1 hd hn (kk p e s m args below meth c H locs cells slots ls C hf hS hL h1 h2)
theorem r_ddiv {x y : UInt64} (hd : decode cc pc = .ok (.ddiv, 1)) (hn : vf_n64 (FP.ddiv x y)) (kk : Go G own cc Y d mc Qr Qx kb h (pc + 1) L (.double (FP.ddiv x y) :: st)) : Go G own cc Y d mc Qr Qx kb h pc L (.double y :: .double x :: st) := by
  intro p e s m args below meth c H locs cells slots ls C hf hS hL h1 h2
  exact lv_ddiv C.1 C.2.1 hd hn (kk p e s m args below meth c H locs cells slots ls C hf hS hL h1 h2)
theorem r_fdiv {x y : UInt32} (hd : decode cc pc = .ok (.fdiv, 1)) (hn : vf_n32 (FP.fdiv x y)) (kk : Go G own cc Y d mc Qr Qx kb h (pc + 1) L (.float (FP.fdiv x y) :: st)) : Go G own cc Y d mc Qr Qx kb h pc L (.float y :: .float x :: st) := by
  intro p e s m args below meth c H locs cells slots ls C hf hS hL h1 h2
  exact lv_fdiv C.1 C.2.1 hd hn (kk p e s m args below meth c H locs cells slots ls C hf hS hL h1 h2)
theorem r_dcmp {x y : UInt64} {op : CmpOp} (hd : decode cc pc = .ok (.dcmp op, 1)) (kk : Go G own cc Y d mc Qr Qx kb h (pc + 1) L (.int (Op.cmpValue (FP.dcmp x y) op) :: st)) : Go G own cc Y d mc Qr Qx kb h pc L (.double y :: .double x :: st) := by
  intro p e s m args below meth c H locs cells slots ls C hf hS hL h1 h2
  exact lv_dcmp C.1 C.2.1 hd (kk p e s m args below meth c H locs cells slots ls C hf hS hL h1 h2)
theorem r_fcmp {x y : UInt32} {op : CmpOp} (hd : decode cc pc = .ok (.fcmp op, 1)) (kk : Go G own cc Y d mc Qr Qx kb h (pc + 1) L (.int (Op.cmpValue (FP.fcmp x y) op) :: st)) : Go G own cc Y d mc Qr Qx kb h pc L (.float y :: .float x :: st) := by
  intro p e s m args below meth c H locs cells slots ls C hf hS hL h1 h2
  exact lv_fcmp C.1 C.2.1 hd (kk p e s m args below meth c H locs cells slots ls C hf hS hL h1 h2)
theorem r_dup {v : Value} (hd : decode cc pc = .ok (.dup, 1)) (hv : v.category = 1) (kk : Go G own cc Y d mc Qr Qx kb h (pc + 1) L (v :: v :: st)) : Go G own cc Y d mc Qr Qx kb h pc L (v :: st) := by
  intro p e s m args below meth c H locs cells slots ls C hf hS hL h1 h2
  exact lv_dup C.1 C.2.1 hd hv (kk p e s m args below meth c H locs cells slots ls C hf hS hL h1 h2)
theorem r_pop {v : Value} (hd : decode cc pc = .ok (.pop, 1)) (hv : v.category = 1) (kk : Go G own cc Y d mc Qr Qx kb h (pc + 1) L st) : Go G own cc Y d mc Qr Qx kb h pc L (v :: st) := by
  intro p e s m args below meth c H locs cells slots ls C hf hS hL h1 h2
  exact lv_pop C.1 C.2.1 hd hv (kk p e s m args below meth c H locs cells slots ls C hf hS hL h1 h2)
theorem r_dup_x1 {v w : Value} (hd : decode cc pc = .ok (.dup_x1, 1)) (hv : v.category = 1) (hw : w.category = 1) (kk : Go G own cc Y d mc Qr Qx kb h (pc + 1) L (v :: w :: v :: st)) : Go G own cc Y d mc Qr Qx kb h pc L (v :: w :: st) := by
  intro p e s m args below meth c H locs cells slots ls C hf hS hL h1 h2
  exact lv_dup_x1 C.1 C.2.1 hd hv hw (kk p e s m args below meth c H locs cells slots ls C hf hS hL h1 h2)
theorem r_dup2 {v w : Value} (hd : decode cc pc = .ok (.dup2, 1)) (hv : v.category = 1) (hw : w.category = 1) (kk : Go G own cc Y d mc Qr Qx kb h (pc + 1) L (v :: w :: v :: w :: st)) : Go G own cc Y d mc Qr Qx kb h pc L (v :: w :: st) := by
  intro p e s m args below meth c H locs cells slots ls C hf hS hL h1 h2
  exact lv_dup2_11 C.1 C.2.1 hd hv hw (kk p e s m args below meth c H locs cells slots ls C hf hS hL h1 h2)
theorem r_dup2L {v : Value} (hd : decode cc pc = .ok (.dup2, 1)) (hv : v.category = 2) (kk : Go G own cc Y d mc Qr Qx kb h (pc + 1) L (v :: v :: st)) : Go G own cc Y d mc Qr Qx kb h pc L (v :: st) := by
  intro p e s m args below meth c H locs cells slots ls C hf hS hL h1 h2
  exact lv_dup2_2 C.1 C.2.1 hd hv (kk p e s m args below meth c H locs cells slots ls C hf hS hL h1 h2)
theorem r_goto {off : Int} {tgt : Nat} (hd : decode cc pc = .ok (.goto off, 3)) (ht : (pc : Int) + off = (tgt : Int)) (kk : Go G own cc Y d mc Qr Qx kb h tgt L st) : Go G own cc Y d mc Qr Qx kb h pc L st := by
  intro p e s m args below meth c H locs cells slots ls C hf hS hL h1 h2
  exact lv_goto C.1 C.2.1 hd ht (kk p e s m args below meth c H locs cells slots ls C hf hS hL h1 h2)
theorem r_icmp_eq {a b off : Int} {tgt : Nat} (hd : decode cc pc = .ok (.if_icmp .eq off, 3)) (ht : (pc : Int) + off = (tgt : Int)) (ha : InR a) (hb : InR b) (kt : a = b → Go G own cc Y d mc Qr Qx kb h tgt L st) (kf : ¬ (a = b) → Go G own cc Y d mc Qr Qx kb h (pc + 3) L st) : Go G own cc Y d mc Qr Qx kb h pc L (.int (iZ b) :: .int (iZ a) :: st) := by
  intro p e s m args below meth c H locs cells slots ls C hf hS hL h1 h2
  exact lv_icmp_eq C.1 C.2.1 hd ht (fun q => kt (by have e := iZ_toInt ha; have f := iZ_toInt hb; have q1 := q; (first | exact iZ_cmp e f q1 | (simp only [Int32.lt_iff_toInt_lt, Int32.le_iff_toInt_le, ← Int32.toInt_inj, Int32.toInt_zero] at q1; omega))) p e s m args below meth c H locs cells slots ls C hf hS hL h1 h2) (fun q => kf (by have e := iZ_toInt ha; have f := iZ_toInt hb; have q1 := q; (first | exact iZ_cmp e f q1 | (simp only [Int32.lt_iff_toInt_lt, Int32.le_iff_toInt_le, ← Int32.toInt_inj, Int32.toInt_zero] at q1; omega))) p e s m args below meth c H locs cells slots ls C hf hS hL h1 h2)
theorem r_if_eq {a off : Int} {tgt : Nat} (hd : decode cc pc = .ok (.ifCond .eq off, 3)) (ht : (pc : Int) + off = (tgt : Int)) (ha : InR a) (kt : a = 0 → Go G own cc Y d mc Qr Qx kb h tgt L st) (kf : ¬ (a = 0) → Go G own cc Y d mc Qr Qx kb h (pc + 3) L st) : Go G own cc Y d mc Qr Qx kb h pc L (.int (iZ a) :: st) := by
  intro p e s m args below meth c H locs cells slots ls C hf hS hL h1 h2
  exact lv_if_eq C.1 C.2.1 hd ht (fun q => kt (by have e := iZ_toInt ha; have q1 := q; (first | exact iZ_cmp e f q1 | (simp only [Int32.lt_iff_toInt_lt, Int32.le_iff_toInt_le, ← Int32.toInt_inj, Int32.toInt_zero] at q1; omega))) p e s m args below meth c H locs cells slots ls C hf hS hL h1 h2) (fun q => kf (by have e := iZ_toInt ha; have q1 := q; (first | exact iZ_cmp e f q1 | (simp only [Int32.lt_iff_toInt_lt, Int32.le_iff_toInt_le, ← Int32.toInt_inj, Int32.toInt_zero] at q1; omega))) p e s m args below meth c H locs cells slots ls C hf hS hL h1 h2)
theorem r_icmp_ne {a b off : Int} {tgt : Nat} (hd : decode cc pc = .ok (.if_icmp .ne off, 3)) (ht : (pc : Int) + off = (tgt : Int)) (ha : InR a) (hb : InR b) (kt : ¬ a = b → Go G own cc Y d mc Qr Qx kb h tgt L st) (kf : ¬ (¬ a = b) → Go G own cc Y d mc Qr Qx kb h (pc + 3) L st) : Go G own cc Y d mc Qr Qx kb h pc L (.int (iZ b) :: .int (iZ a) :: st) := by
  intro p e s m args below meth c H locs cells slots ls C hf hS hL h1 h2
  exact lv_icmp_ne C.1 C.2.1 hd ht (fun q => kt (by have e := iZ_toInt ha; have f := iZ_toInt hb; have q1 := q; (first | exact iZ_cmp e f q1 | (simp only [Int32.lt_iff_toInt_lt, Int32.le_iff_toInt_le, ← Int32.toInt_inj, Int32.toInt_zero] at q1; omega))) p e s m args below meth c H locs cells slots ls C hf hS hL h1 h2) (fun q => kf (by have e := iZ_toInt ha; have f := iZ_toInt hb; have q1 := q; (first | exact iZ_cmp e f q1 | (simp only [Int32.lt_iff_toInt_lt, Int32.le_iff_toInt_le, ← Int32.toInt_inj, Int32.toInt_zero] at q1; omega))) p e s m args below meth c H locs cells slots ls C hf hS hL h1 h2)
theorem r_if_ne {a off : Int} {tgt : Nat} (hd : decode cc pc = .ok (.ifCond .ne off, 3)) (ht : (pc : Int) + off = (tgt : Int)) (ha : InR a) (kt : ¬ a = 0 → Go G own cc Y d mc Qr Qx kb h tgt L st) (kf : ¬ (¬ a = 0) → Go G own cc Y d mc Qr Qx kb h (pc + 3) L st) : Go G own cc Y d mc Qr Qx kb h pc L (.int (iZ a) :: st) := by
  intro p e s m args below meth c H locs cells slots ls C hf hS hL h1 h2
  exact lv_if_ne C.1 C.2.1 hd ht (fun q => kt (by have e := iZ_toInt ha; have q1 := q; (first | exact iZ_cmp e f q1 | (simp only [Int32.lt_iff_toInt_lt, Int32.le_iff_toInt_le, ← Int32.toInt_inj, Int32.toInt_zero] at q1; omega))) p e s m args below meth c H locs cells slots ls C hf hS hL h1 h2) (fun q => kf (by have e := iZ_toInt ha; have q1 := q; (first | exact iZ_cmp e f q1 | (simp only [Int32.lt_iff_toInt_lt, Int32.le_iff_toInt_le, ← Int32.toInt_inj, Int32.toInt_zero] at q1; omega))) p e s m args below meth c H locs cells slots ls C hf hS hL h1 h2)
theorem r_icmp_lt {a b off : Int} {tgt : Nat} (hd : decode cc pc = .ok (.if_icmp .lt off, 3)) (ht : (pc : Int) + off = (tgt : Int)) (ha : InR a) (hb : InR b) (kt : a < b → Go G own cc Y d mc Qr Qx kb h tgt L st) (kf : ¬ (a < b) → Go G own cc Y d mc Qr Qx kb h (pc + 3) L st) : Go G own cc Y d mc Qr Qx kb h pc L (.int (iZ b) :: .int (iZ a) :: st) := by
  intro p e s m args below meth c H locs cells slots ls C hf hS hL h1 h2
  exact lv_icmp_lt C.1 C.2.1 hd ht (fun q => kt (by have e := iZ_toInt ha; have f := iZ_toInt hb; have q1 := q; (first | exact iZ_cmp e f q1 | (simp only [Int32.lt_iff_toInt_lt, Int32.le_iff_toInt_le, ← Int32.toInt_inj, Int32.toInt_zero] at q1; omega))) p e s m args below meth c H locs cells slots ls C hf hS hL h1 h2) (fun q => kf (by have e := iZ_toInt ha; have f := iZ_toInt hb; have q1 := q; (first | exact iZ_cmp e f q1 | (simp only [Int32.lt_iff_toInt_lt, Int32.le_iff_toInt_le, ← Int32.toInt_inj, Int32.toInt_zero] at q1; omega))) p e s m args below meth c H locs cells slots ls C hf hS hL h1 h2)
theorem r_if_lt {a off : Int} {tgt : Nat} (hd : decode cc pc = .ok (.ifCond .lt off, 3)) (ht : (pc : Int) + off = (tgt : Int)) (ha : InR a) (kt : a < 0 → Go G own cc Y d mc Qr Qx kb h tgt L st) (kf : ¬ (a < 0) → Go G own cc Y d mc Qr Qx kb h (pc + 3) L st) : Go G own cc Y d mc Qr Qx kb h pc L (.int (iZ a) :: st) := by
  intro p e s m args below meth c H locs cells slots ls C hf hS hL h1 h2
  exact lv_if_lt C.1 C.2.1 hd ht (fun q => kt (by have e := iZ_toInt ha; have q1 := q; (first | exact iZ_cmp e f q1 | (simp only [Int32.lt_iff_toInt_lt, Int32.le_iff_toInt_le, ← Int32.toInt_inj, Int32.toInt_zero] at q1; omega))) p e s m args below meth c H locs cells slots ls C hf hS hL h1 h2) (fun q => kf (by have e := iZ_toInt ha; have q1 := q; (first | exact iZ_cmp e f q1 | (simp only [Int32.lt_iff_toInt_lt, Int32.le_iff_toInt_le, ← Int32.toInt_inj, Int32.toInt_zero] at q1; omega))) p e s m args below meth c H locs cells slots ls C hf hS hL h1 h2)
theorem r_icmp_ge {a b off : Int} {tgt : Nat} (hd : decode cc pc = .ok (.if_icmp .ge off, 3)) (ht : (pc : Int) + off = (tgt : Int)) (ha : InR a) (hb : InR b) (kt : b ≤ a → Go G own cc Y d mc Qr Qx kb h tgt L st) (kf : ¬ (b ≤ a) → Go G own cc Y d mc Qr Qx kb h (pc + 3) L st) : Go G own cc Y d mc Qr Qx kb h pc L (.int (iZ b) :: .int (iZ a) :: st) := by
  intro p e s m args below meth c H locs cells slots ls C hf hS hL h1 h2
  exact lv_icmp_ge C.1 C.2.1 hd ht (fun q => kt (by have e := iZ_toInt ha; have f := iZ_toInt hb; have q1 := q; (first | exact iZ_cmp e f q1 | (simp only [Int32.lt_iff_toInt_lt, Int32.le_iff_toInt_le, ← Int32.toInt_inj, Int32.toInt_zero] at q1; omega))) p e s m args below meth c H locs cells slots ls C hf hS hL h1 h2) (fun q => kf (by have e := iZ_toInt ha; have f := iZ_toInt hb; have q1 := q; (first | exact iZ_cmp e f q1 | (simp only [Int32.lt_iff_toInt_lt, Int32.le_iff_toInt_le, ← Int32.toInt_inj, Int32.toInt_zero] at q1; omega))) p e s m args below meth c H locs cells slots ls C hf hS hL h1 h2)
theorem r_if_ge {a off : Int} {tgt : Nat} (hd : decode cc pc = .ok (.ifCond .ge off, 3)) (ht : (pc : Int) + off = (tgt : Int)) (ha : InR a) (kt : 0 ≤ a → Go G own cc Y d mc Qr Qx kb h tgt L st) (kf : ¬ (0 ≤ a) → Go G own cc Y d mc Qr Qx kb h (pc + 3) L st) : Go G own cc Y d mc Qr Qx kb h pc L (.int (iZ a) :: st) := by
  intro p e s m args below meth c H locs cells slots ls C hf hS hL h1 h2
  exact lv_if_ge C.1 C.2.1 hd ht (fun q => kt (by have e := iZ_toInt ha; have q1 := q; (first | exact iZ_cmp e f q1 | (simp only [Int32.lt_iff_toInt_lt, Int32.le_iff_toInt_le, ← Int32.toInt_inj, Int32.toInt_zero] at q1; omega))) p e s m args below meth c H locs cells slots ls C hf hS hL h1 h2) (fun q => kf (by have e := iZ_toInt ha; have q1 := q; (first | exact iZ_cmp e f q1 | (simp only [Int32.lt_iff_toInt_lt, Int32.le_iff_toInt_le, ← Int32.toInt_inj, Int32.toInt_zero] at q1; omega))) p e s m args below meth c H locs cells slots ls C hf hS hL h1 h2)
theorem r_icmp_gt {a b off : Int} {tgt : Nat} (hd : decode cc pc = .ok (.if_icmp .gt off, 3)) (ht : (pc : Int) + off = (tgt : Int)) (ha : InR a) (hb : InR b) (kt : b < a → Go G own cc Y d mc Qr Qx kb h tgt L st) (kf : ¬ (b < a) → Go G own cc Y d mc Qr Qx kb h (pc + 3) L st) : Go G own cc Y d mc Qr Qx kb h pc L (.int (iZ b) :: .int (iZ a) :: st) := by
  intro p e s m args below meth c H locs cells slots ls C hf hS hL h1 h2
  exact lv_icmp_gt C.1 C.2.1 hd ht (fun q => kt (by have e := iZ_toInt ha; have f := iZ_toInt hb; have q1 := q; (first | exact iZ_cmp e f q1 | (simp only [Int32.lt_iff_toInt_lt, Int32.le_iff_toInt_le, ← Int32.toInt_inj, Int32.toInt_zero] at q1; omega))) p e s m args below meth c H locs cells slots ls C hf hS hL h1 h2) (fun q => kf (by have e := iZ_toInt ha; have f := iZ_toInt hb; have q1 := q; (first | exact iZ_cmp e f q1 | (simp only [Int32.lt_iff_toInt_lt, Int32.le_iff_toInt_le, ← Int32.toInt_inj, Int32.toInt_zero] at q1; omega))) p e s m args below meth c H locs cells slots ls C hf hS hL h1 h2)
theorem r_if_gt {a off : Int} {tgt : Nat} (hd : decode cc pc = .ok (.ifCond .gt off, 3)) (ht : (pc : Int) + off = (tgt : Int)) (ha : InR a) (kt : 0 < a → Go G own cc Y d mc Qr Qx kb h tgt L st) (kf : ¬ (0 < a) → Go G own cc Y d mc Qr Qx kb h (pc + 3) L st) : Go G own cc Y d mc Qr Qx kb h pc L (.int (iZ a) :: st) := by
  intro p e s m args below meth c H locs cells slots ls C hf hS hL h1 h2
  exact lv_if_gt C.1 C.2.1 hd ht (fun q => kt (by have e := iZ_toInt ha; have q1 := q; (first | exact iZ_cmp e f q1 | (simp only [Int32.lt_iff_toInt_lt, Int32.le_iff_toInt_le, ← Int32.toInt_inj, Int32.toInt_zero] at q1; omega))) p e s m args below meth c H locs cells slots ls C hf hS hL h1 h2) (fun q => kf (by have e := iZ_toInt ha; have q1 := q; (first | exact iZ_cmp e f q1 | (simp only [Int32.lt_iff_toInt_lt, Int32.le_iff_toInt_le, ← Int32.toInt_inj, Int32.toInt_zero] at q1; omega))) p e s m args below meth c H locs cells slots ls C hf hS hL h1 h2)
theorem r_icmp_le {a b off : Int} {tgt : Nat} (hd : decode cc pc = .ok (.if_icmp .le off, 3)) (ht : (pc : Int) + off = (tgt : Int)) (ha : InR a) (hb : InR b) (kt : a ≤ b → Go G own cc Y d mc Qr Qx kb h tgt L st) (kf : ¬ (a ≤ b) → Go G own cc Y d mc Qr Qx kb h (pc + 3) L st) : Go G own cc Y d mc Qr Qx kb h pc L (.int (iZ b) :: .int (iZ a) :: st) := by
  intro p e s m args below meth c H locs cells slots ls C hf hS hL h1 h2
  exact lv_icmp_le C.1 C.2.1 hd ht (fun q => kt (by have e := iZ_toInt ha; have f := iZ_toInt hb; have q1 := q; (first | exact iZ_cmp e f q1 | (simp only [Int32.lt_iff_toInt_lt, Int32.le_iff_toInt_le, ← Int32.toInt_inj, Int32.toInt_zero] at q1; omega))) p e s m args below meth c H locs cells slots ls C hf hS hL h1 h2) (fun q => kf (by have e := iZ_toInt ha; have f := iZ_toInt hb; have q1 := q; (first | exact iZ_cmp e f q1 | (simp only [Int32.lt_iff_toInt_lt, Int32.le_iff_toInt_le, ← Int32.toInt_inj, Int32.toInt_zero] at q1; omega))) p e s m args below meth c H locs cells slots ls C hf hS hL h1 h2)
theorem r_if_le {a off : Int} {tgt : Nat} (hd : decode cc pc = .ok (.ifCond .le off, 3)) (ht : (pc : Int) + off = (tgt : Int)) (ha : InR a) (kt : a ≤ 0 → Go G own cc Y d mc Qr Qx kb h tgt L st) (kf : ¬ (a ≤ 0) → Go G own cc Y d mc Qr Qx kb h (pc + 3) L st) : Go G own cc Y d mc Qr Qx kb h pc L (.int (iZ a) :: st) := by
  intro p e s m args below meth c H locs cells slots ls C hf hS hL h1 h2
  exact lv_if_le C.1 C.2.1 hd ht (fun q => kt (by have e := iZ_toInt ha; have q1 := q; (first | exact iZ_cmp e f q1 | (simp only [Int32.lt_iff_toInt_lt, Int32.le_iff_toInt_le, ← Int32.toInt_inj, Int32.toInt_zero] at q1; omega))) p e s m args below meth c H locs cells slots ls C hf hS hL h1 h2) (fun q => kf (by have e := iZ_toInt ha; have q1 := q; (first | exact iZ_cmp e f q1 | (simp only [Int32.lt_iff_toInt_lt, Int32.le_iff_toInt_le, ← Int32.toInt_inj, Int32.toInt_zero] at q1; omega))) p e s m args below meth c H locs cells slots ls C hf hS hL h1 h2)
theorem r_ifB_eq {pp : Prop} [Decidable pp] {off : Int} {tgt : Nat} (hd : decode cc pc = .ok (.ifCond .eq off, 3)) (ht : (pc : Int) + off = (tgt : Int)) (kt : ¬ pp → Go G own cc Y d mc Qr Qx kb h tgt L st) (kf : pp → Go G own cc Y d mc Qr Qx kb h (pc + 3) L st) : Go G own cc Y d mc Qr Qx kb h pc L (.int (iZ (bZ pp)) :: st) := by
  refine r_if_eq hd ht (bZ_in pp) (fun q => kt ?_) (fun q => kf ?_) <;> (by_cases z : pp <;> simp_all [bZ])
theorem r_ifB_ne {pp : Prop} [Decidable pp] {off : Int} {tgt : Nat} (hd : decode cc pc = .ok (.ifCond .ne off, 3)) (ht : (pc : Int) + off = (tgt : Int)) (kt : pp → Go G own cc Y d mc Qr Qx kb h tgt L st) (kf : ¬ pp → Go G own cc Y d mc Qr Qx kb h (pc + 3) L st) : Go G own cc Y d mc Qr Qx kb h pc L (.int (iZ (bZ pp)) :: st) := by
  refine r_if_ne hd ht (bZ_in pp) (fun q => kt ?_) (fun q => kf ?_) <;> (by_cases z : pp <;> simp_all [bZ])
theorem r_ifnonnull {x : Nat} {off : Int} {tgt : Nat} (hd : decode cc pc = .ok (.ifnonnull off, 3)) (ht : (pc : Int) + off = (tgt : Int)) (kk : Go G own cc Y d mc Qr Qx kb h tgt L st) : Go G own cc Y d mc Qr Qx kb h pc L (.ref x :: st) := by
  intro p e s m args below meth c H locs cells slots ls C hf hS hL h1 h2
  exact lv_ifnonnull C.1 C.2.1 hd ht (kk p e s m args below meth c H locs cells slots ls C hf hS hL h1 h2)
theorem r_ifnull {x : Nat} {off : Int} (hd : decode cc pc = .ok (.ifnull off, 3)) (kk : Go G own cc Y d mc Qr Qx kb h (pc + 3) L st) : Go G own cc Y d mc Qr Qx kb h pc L (.ref x :: st) := by
  intro p e s m args below meth c H locs cells slots ls C hf hS hL h1 h2
  exact lv_ifnull C.1 C.2.1 hd (kk p e s m args below meth c H locs cells slots ls C hf hS hL h1 h2)
theorem r_ifnullN {off : Int} {tgt : Nat} (hd : decode cc pc = .ok (.ifnull off, 3)) (ht : (pc : Int) + off = (tgt : Int)) (kk : Go G own cc Y d mc Qr Qx kb h tgt L st) : Go G own cc Y d mc Qr Qx kb h pc L (.null :: st) := by
  intro p e s m args below meth c H locs cells slots ls C hf hS hL h1 h2
  exact lv_ifnullN C.1 C.2.1 hd ht (kk p e s m args below meth c H locs cells slots ls C hf hS hL h1 h2)
theorem r_ifnonnullN {off : Int} (hd : decode cc pc = .ok (.ifnonnull off, 3)) (kk : Go G own cc Y d mc Qr Qx kb h (pc + 3) L st) : Go G own cc Y d mc Qr Qx kb h pc L (.null :: st) := by
  intro p e s m args below meth c H locs cells slots ls C hf hS hL h1 h2
  exact lv_ifnonnullN C.1 C.2.1 hd (kk p e s m args below meth c H locs cells slots ls C hf hS hL h1 h2)
theorem r_acmp_eq {x y : Nat} {off : Int} {tgt : Nat} (hd : decode cc pc = .ok (.if_acmp .eq off, 3)) (ht : (pc : Int) + off = (tgt : Int)) (kt : x = y → Go G own cc Y d mc Qr Qx kb h tgt L st) (kf : ¬ x = y → Go G own cc Y d mc Qr Qx kb h (pc + 3) L st) : Go G own cc Y d mc Qr Qx kb h pc L (.ref y :: .ref x :: st) := by
  intro p e s m args below meth c H locs cells slots ls C hf hS hL h1 h2
  exact lv_acmp_eq (rx := some x) (ry := some y) C.1 C.2.1 hd ht (fun q => kt (Option.some.inj q) p e s m args below meth c H locs cells slots ls C hf hS hL h1 h2) (fun q => kf (fun z => q (congrArg some z)) p e s m args below meth c H locs cells slots ls C hf hS hL h1 h2)
theorem r_acmp_ne {x y : Nat} {off : Int} {tgt : Nat} (hd : decode cc pc = .ok (.if_acmp .ne off, 3)) (ht : (pc : Int) + off = (tgt : Int)) (kt : ¬ x = y → Go G own cc Y d mc Qr Qx kb h tgt L st) (kf : x = y → Go G own cc Y d mc Qr Qx kb h (pc + 3) L st) : Go G own cc Y d mc Qr Qx kb h pc L (.ref y :: .ref x :: st) := by
  intro p e s m args below meth c H locs cells slots ls C hf hS hL h1 h2
  exact lv_acmp_ne (rx := some x) (ry := some y) C.1 C.2.1 hd ht (fun q => kt (fun z => q (congrArg some z)) p e s m args below meth c H locs cells slots ls C hf hS hL h1 h2) (fun q => kf (Option.some.inj q) p e s m args below meth c H locs cells slots ls C hf hS hL h1 h2)
theorem r_castN {idx : Nat} (hd : decode cc pc = .ok (.checkcast idx, 3)) (kk : Go G own cc Y d mc Qr Qx kb h (pc + 3) L (.null :: st)) : Go G own cc Y d mc Qr Qx kb h pc L (.null :: st) := by
  intro p e s m args below meth c H locs cells slots ls C hf hS hL h1 h2
  exact lv_castN C.1 C.2.1 hd (kk p e s m args below meth c H locs cells slots ls C hf hS hL h1 h2)
theorem r_lookup {dflt : Int} {ps : Array (Int × Int)} {len : Nat} {a off : Int} {tgt : Nat} (hd : decode cc pc = .ok (.lookupswitch dflt ps, len)) (hp : (ps.toList.zip (ps.toList.drop 1)).all (fun (a, next) => a.1 < next.1) = true) (ha : InR a) (ho : Op.lookupswitch.offset ps.toList dflt a = off) (ht : (pc : Int) + off = (tgt : Int)) (kk : Go G own cc Y d mc Qr Qx kb h tgt L st) : Go G own cc Y d mc Qr Qx kb h pc L (.int (iZ a) :: st) := by
  intro p e s m args below meth c H locs cells slots ls C hf hS hL h1 h2
  exact lv_lookup C.1 C.2.1 hd hp (by rw [iZ_toInt ha]; exact ho) ht (kk p e s m args below meth c H locs cells slots ls C hf hS hL h1 h2)
theorem r_tableOut {dflt lo hi : Int} {offs : Array Int} {len : Nat} {a : Int} {tgt : Nat} (hd : decode cc pc = .ok (.tableswitch dflt lo hi offs, len)) (ha : InR a) (ho : a < lo ∨ hi < a) (ht : (pc : Int) + dflt = (tgt : Int)) (kk : Go G own cc Y d mc Qr Qx kb h tgt L st) : Go G own cc Y d mc Qr Qx kb h pc L (.int (iZ a) :: st) := by
  intro p e s m args below meth c H locs cells slots ls C hf hS hL h1 h2
  exact lv_tableOut C.1 C.2.1 hd (by rw [iZ_toInt ha]; exact ho) ht (kk p e s m args below meth c H locs cells slots ls C hf hS hL h1 h2)
theorem r_tableIn {dflt lo hi : Int} {offs : Array Int} {len : Nat} {a off : Int} {tgt : Nat} (hd : decode cc pc = .ok (.tableswitch dflt lo hi offs, len)) (ha : InR a) (h1 : lo ≤ a) (h2 : a ≤ hi) (ho : offs[(a - lo).toNat]? = some off) (ht : (pc : Int) + off = (tgt : Int)) (kk : Go G own cc Y d mc Qr Qx kb h tgt L st) : Go G own cc Y d mc Qr Qx kb h pc L (.int (iZ a) :: st) := by
  intro p e s m args below meth c H locs cells slots ls C hf hS hL h1 h2
  exact lv_tableIn C.1 C.2.1 hd (by rw [iZ_toInt ha]; omega) (by rw [iZ_toInt ha]; omega) (by rw [iZ_toInt ha]; exact ho) ht (kk p e s m args below meth c H locs cells slots ls C hf hS hL ‹_› ‹_›)
/-! fields -/
theorem cAt_ob {H : Heap} {a ci : Nat} {fs : List Value} (hc : cAt G H a (ob ci fs)) : va_P (gD G) vwCl [(a, .inr (ci, fs))] H := by
  intro k q hk
  have hz : k < 1 := (List.getElem?_eq_some_iff.mp hk).1
  rw [show k = 0 by omega] at hk
  cases hk
  exact hc
theorem r_getf {index ci k N a : Nat} {ref C : String} {T : u_T} {t : Tg} {fs : List Value} {v : Value} (hd : decode cc pc = .ok (.getfield index, 3)) (hc : vwCl[ci]? = some (C, T, N)) (hk : k < N) (hl : Cond.fieldLink own index ref (T k).2.1 (T k).2.2.1 ∈ lw_all) (hr : ref = (T k).1)
    (ha : h a = some (t, ob ci fs)) (hv : fs[k]? = some v) (kk : Go G own cc Y d mc Qr Qx kb h (pc + 3) L (v :: st)) : Go G own cc Y d mc Qr Qx kb h pc L (.ref a :: st) := by
  intro p e s m args below meth c H locs cells slots ls C hf hS hL h1 h2
  obtain ⟨ty, o1, o2, o3⟩ := vw_ok _ (List.mem_of_getElem? hc)
  exact va_get C.1 C.2.1 C.2.2.2.2.2.2.1 o1 C.2.2.2.2.2.1 C.2.2.2.2.2.2.2.2.2.1.1 (cAt_ob (hf.1 a _ _ ha).1) 0 rfl hc k hk (C.2.2.2.2.2.2.1 _ hl) (by rw [hr]; exact fun _ q => q) hv hd (kk p e s m args below meth c H locs cells slots ls C hf hS hL h1 h2)
theorem r_putf {index ci k N a : Nat} {ref C : String} {T : u_T} {t : Tg} {fs : List Value} {ty0 : FieldType} {v : Value} (hd : decode cc pc = .ok (.putfield index, 3)) (hc : vwCl[ci]? = some (C, T, N)) (hk : k < N) (hl : Cond.fieldLink own index ref (T k).2.1 (T k).2.2.1 ∈ lw_all) (hr : ref = (T k).1) (hfin : (T k).2.2.2 = false)
    (hty : parseFieldDescriptor (T k).2.2.1 = some ty0) (hn : narrow ty0 v = v) (hfit : fits ty0 v = true) (ha : h a = some (t, ob ci fs)) (ht : t ≠ frz) (hkl : k < fs.length) (kk : Go G own cc Y d mc Qr Qx kb (up h a (t, ob ci (fs.set k v))) (pc + 3) L st) : Go G own cc Y d mc Qr Qx kb h pc L (v :: .ref a :: st) := by
  intro p e s m args below meth c H locs cells slots ls C hf hS hL h1 h2
  obtain ⟨ty, o1, o2, o3⟩ := vw_ok _ (List.mem_of_getElem? hc)
  have hts := C.2.2.2.2.2.2.1
  have hK := C.2.2.2.2.2.2.2.2.2.1.1
  have hap := va_apart (own := own) hts o1 ty o2 o3 hK hc
  obtain ⟨r, e1, cell, q1, q2, q3, q4⟩ := (hf.1 a _ _ ha).1
  have hr0 : r = (_, T, N) := Option.some.inj (e1.symm.trans hc)
  subst hr0
  obtain ⟨hSl, hfc, kC, hkC, hkind⟩ := hK.1 ci _ hc
  obtain ⟨cf, kf, fi, f, hi, hsl⟩ := hSl k hk
  have hlay := hts _ (o1 _ (u_in_lay hk))
  unfold u_lay at hlay
  rw [if_neg (by rw [hfin]; decide)] at hlay
  have hst := (u_facts hfc hkC (u_lays hts o1 hk) hi).1
  have h6 := u_store hfc hkC hkind hlay hi hty hn hfit
  refine W.putK C.1 C.2.1 (f := f) ⟨C.2.2.2.2.2.1, hts _ hl, ⟨_, _, _, by rw [hr]; exact hi⟩, hst⟩ (by rw [q2]; exact h6) q1 q3 (by rw [hsl]; exact k2_hasslot (q4 k hk)) rfl rfl hd fun H' w1 w2 w3 => ?_
  rw [hsl] at w1 ⊢
  have hx : cAt G H' a (ob ci (fs.set k v)) := ⟨_, hc, t_OB.to (V := updV (vp_V fs) k v) ⟨_, w1, q2, q3, t_set q4 hap hk v⟩ (fun j _ => vp_updV_set hkl v j)⟩
  exact kk p e s m args below meth c H' _ cells slots ls C (hf.upd ha ht w2 hx w3) (hS.put w2 w3 ((hf.1 a _ _ ha).2 ht)) hL h1 h2
theorem r_putfF {index ci k N a : Nat} {ref C : String} {T : u_T} {t : Tg} {fs : List Value} {ty0 : FieldType} {v : Value} (hd : decode cc pc = .ok (.putfield index, 3)) (hc : vwCl[ci]? = some (C, T, N)) (hk : k < N) (hl : Cond.fieldLink own index ref (T k).2.1 (T k).2.2.1 ∈ lw_all) (hr : ref = (T k).1) (hfin : (T k).2.2.2 = true) (hin : Y.2.2.1 = "<init>") (hdecl : (T k).1 = own)
    (hty : parseFieldDescriptor (T k).2.2.1 = some ty0) (hn : narrow ty0 v = v) (hfit : fits ty0 v = true) (ha : h a = some (t, ob ci fs)) (ht : t ≠ frz) (hkl : k < fs.length) (kk : Go G own cc Y d mc Qr Qx kb (up h a (t, ob ci (fs.set k v))) (pc + 3) L st) : Go G own cc Y d mc Qr Qx kb h pc L (v :: .ref a :: st) := by
  intro p e s m args below meth c H locs cells slots ls C hf hS hL h1 h2
  obtain ⟨ty, o1, o2, o3⟩ := vw_ok _ (List.mem_of_getElem? hc)
  have hts := C.2.2.2.2.2.2.1
  have hown := C.2.2.2.2.2.1
  have hK := C.2.2.2.2.2.2.2.2.2.1.1
  have hap := va_apart (own := own) hts o1 ty o2 o3 hK hc
  obtain ⟨r, e1, cell, q1, q2, q3, q4⟩ := (hf.1 a _ _ ha).1
  have hr0 : r = (_, T, N) := Option.some.inj (e1.symm.trans hc)
  subst hr0
  obtain ⟨hSl, hfc, kC, hkC, hkind⟩ := hK.1 ci _ hc
  obtain ⟨cf, kf, fi, f, hi, hsl⟩ := hSl k hk
  have hlay := hts _ (o1 _ (u_in_lay hk))
  unfold u_lay at hlay
  rw [if_pos hfin] at hlay
  have hst := (u_facts hfc hkC (u_lays hts o1 hk) hi).1
  have hcf : m.cls = cf := by
    obtain ⟨_, _, c', _, _, _, -, -, hf', -, -, -, hown2, -⟩ := Cond.laysFinal_spec hlay
    have e1 : c' = cf := by have := hi.symm.trans hf'; simp at this; exact this.1.symm
    rw [hdecl] at hown2
    rw [← e1]; exact Option.some.inj (hown.symm.trans hown2)
  have h6 := u_fits hfc hkC hkind (Or.inr hlay) hi hty hn hfit
  refine W.putFinK C.1 C.2.1 hown (hts _ hl) (by rw [hr]; exact hi) hst hcf (C.2.2.2.2.2.2.2.1.trans hin) (by rw [q2]; exact h6) q1 q3 (by rw [hsl]; exact k2_hasslot (q4 k hk)) rfl rfl hd fun H' w1 w2 w3 => ?_
  rw [hsl] at w1 ⊢
  have hx : cAt G H' a (ob ci (fs.set k v)) := ⟨_, hc, t_OB.to (V := updV (vp_V fs) k v) ⟨_, w1, q2, q3, t_set q4 hap hk v⟩ (fun j _ => vp_updV_set hkl v j)⟩
  exact kk p e s m args below meth c H' _ cells slots ls C (hf.upd ha ht w2 hx w3) (hS.put w2 w3 ((hf.1 a _ _ ha).2 ht)) hL h1 h2
/-! static fields -/
theorem old_kept {s : State} (hz : gB G ≤ s.heap.size ∧ ∀ q : Nat, q < gB G → s.heap[q]? = (gH G)[q]?) : ∀ a : Nat, a < (gH G).size → ¬ gW G a → s.heap[a]? = (gH G)[a]? := fun a _ h => hz.2 a (Nat.not_le.mp h)
theorem r_gets {index : Nat} {C n dd ref : String} {v : Value} (hd : decode cc pc = .ok (.getstatic index, 3)) (k0 : Nat) (hz : (statTab G)[k0]? = some (C, n, dd, v)) (hl : Cond.fieldLink own index ref n dd ∈ lw_all) (hr : ref = C)
    (kk : Go G own cc Y d mc Qr Qx kb h (pc + 3) L (v :: st)) : Go G own cc Y d mc Qr Qx kb h pc L st := by
  intro p e s m args below meth c H locs cells slots ls C hf hS hL h1 h2
  have hV := C.2.2.2.2.2.2.2.2.2.1
  exact va_gets C.1 C.2.1 ((hV.2.2.2.1 _ (List.mem_of_getElem? hz)).kept (old_kept C.2.2.2.2.2.2.2.2.2.2)) hS C.2.2.2.2.2.1 (C.2.2.2.2.2.2.1 _ hl) (by rw [hr]; exact fun _ q => q) hd (kk p e s m args below meth c H locs cells slots ls C hf hS hL h1 h2)
/-! arrays -/
theorem va_P1 {D : va_G} {cl : List vw_C} {a : Nat} {e : va_E} {H : Heap} (hc : va_at D cl (a, e) H) : va_P D cl [(a, e)] H := by
  intro k q hk
  have hz : k < 1 := (List.getElem?_eq_some_iff.mp hk).1
  rw [show k = 0 by omega] at hk
  cases hk
  exact hc
theorem va_K1 {s : State} (hV : VF G s) {ty : FieldType} (ht : ty ∈ arTys) : va_K (gD G) vwCl [(gA G ty, ty)] s := by
  refine ⟨hV.1.1, fun k q hk => ?_⟩
  have hz : k < 1 := (List.getElem?_eq_some_iff.mp hk).1
  rw [show k = 0 by omega] at hk
  cases hk
  exact hV.2.1 ty ht
theorem vpin {i : Int} {n : Nat} (h0 : 0 ≤ i) (h1 : i < n) (h2 : i < 2147483648) : vp_in (iZ i) n ∧ (iZ i).toNatClampNeg = i.toNat := by
  rw [iZ_nI h0]
  refine ⟨fun q => ?_, nI_clamp (by omega)⟩
  rcases q with q | q
  · exact nI_pos (n := i.toNat) (by omega) q
  · rw [nI_clamp (by omega)] at q
    omega
theorem r_iald {a n : Nat} {t : Tg} {f : Nat → Int32} {i : Int} (hd : decode cc pc = .ok (.iaload, 1)) (ha : h a = some (t, aI .int n f)) (h0 : 0 ≤ i) (hi : i < n) (hi2 : i < 2147483648) (kk : Go G own cc Y d mc Qr Qx kb h (pc + 1) L (.int (f i.toNat) :: st)) : Go G own cc Y d mc Qr Qx kb h pc L (.int (iZ i) :: .ref a :: st) := by
  intro p e s m args below meth c H locs cells slots ls C hf hS hL h1 h2
  have hb := vpin h0 hi hi2
  refine va_iald C.1 C.2.1 (va_K1 C.2.2.2.2.2.2.2.2.2.1 (ty := .int) (by decide)) (va_P1 (e := .inl (gA G .int, n, .inl f)) (hf.1 a _ _ ha).1) 0 0 rfl rfl hb.1 hd ?_
  rw [hb.2]
  exact kk p e s m args below meth c H locs cells slots ls C hf hS hL h1 h2
theorem r_bald {a n : Nat} {t : Tg} {f : Nat → Int32} {i : Int} (hd : decode cc pc = .ok (.baload, 1)) (ha : h a = some (t, aI .byte n f)) (h0 : 0 ≤ i) (hi : i < n) (hi2 : i < 2147483648) (kk : Go G own cc Y d mc Qr Qx kb h (pc + 1) L (.int (f i.toNat) :: st)) : Go G own cc Y d mc Qr Qx kb h pc L (.int (iZ i) :: .ref a :: st) := by
  intro p e s m args below meth c H locs cells slots ls C hf hS hL h1 h2
  have hb := vpin h0 hi hi2
  refine va_bald C.1 C.2.1 (va_K1 C.2.2.2.2.2.2.2.2.2.1 (ty := .byte) (by decide)) (va_P1 (e := .inl (gA G .byte, n, .inl f)) (hf.1 a _ _ ha).1) 0 0 rfl rfl hb.1 hd ?_
  rw [hb.2]
  exact kk p e s m args below meth c H locs cells slots ls C hf hS hL h1 h2
theorem r_lald {a n : Nat} {t : Tg} {f : Nat → Int64} {i : Int} (hd : decode cc pc = .ok (.laload, 1)) (ha : h a = some (t, aJ n f)) (h0 : 0 ≤ i) (hi : i < n) (hi2 : i < 2147483648) (kk : Go G own cc Y d mc Qr Qx kb h (pc + 1) L (.long (f i.toNat) :: st)) : Go G own cc Y d mc Qr Qx kb h pc L (.int (iZ i) :: .ref a :: st) := by
  intro p e s m args below meth c H locs cells slots ls C hf hS hL h1 h2
  have hb := vpin h0 hi hi2
  refine va_lald C.1 C.2.1 (va_K1 C.2.2.2.2.2.2.2.2.2.1 (ty := .long) (by decide)) (va_P1 (e := .inl (gA G .long, n, .inr (.inl f))) (hf.1 a _ _ ha).1) 0 0 rfl rfl hb.1 hd ?_
  rw [hb.2]
  exact kk p e s m args below meth c H locs cells slots ls C hf hS hL h1 h2
theorem r_dald {a n : Nat} {t : Tg} {f : Nat → UInt64} {i : Int} (hd : decode cc pc = .ok (.daload, 1)) (ha : h a = some (t, aD n f)) (h0 : 0 ≤ i) (hi : i < n) (hi2 : i < 2147483648) (kk : Go G own cc Y d mc Qr Qx kb h (pc + 1) L (.double (f i.toNat) :: st)) : Go G own cc Y d mc Qr Qx kb h pc L (.int (iZ i) :: .ref a :: st) := by
  intro p e s m args below meth c H locs cells slots ls C hf hS hL h1 h2
  have hb := vpin h0 hi hi2
  refine va_dald C.1 C.2.1 (va_K1 C.2.2.2.2.2.2.2.2.2.1 (ty := .double) (by decide)) (va_P1 (e := .inl (gA G .double, n, .inr (.inr (.inr (.inl f))))) (hf.1 a _ _ ha).1) 0 0 rfl rfl hb.1 hd ?_
  rw [hb.2]
  exact kk p e s m args below meth c H locs cells slots ls C hf hS hL h1 h2
theorem r_aald {a n : Nat} {C : String} {t : Tg} {f : Nat → Option Nat} {i : Int} (hd : decode cc pc = .ok (.aaload, 1)) (hC : FieldType.object C ∈ arTys) (ha : h a = some (t, aQ C n f)) (h0 : 0 ≤ i) (hi : i < n) (hi2 : i < 2147483648) (kk : Go G own cc Y d mc Qr Qx kb h (pc + 1) L (va_rf (f i.toNat) :: st)) : Go G own cc Y d mc Qr Qx kb h pc L (.int (iZ i) :: .ref a :: st) := by
  intro p e s m args below meth c H locs cells slots ls C hf hS hL h1 h2
  have hb := vpin h0 hi hi2
  refine va_aldq C.1 C.2.1 (va_K1 C.2.2.2.2.2.2.2.2.2.1 hC) (va_P1 (e := .inl (gA G _, n, .inr (.inr (.inr (.inr f))))) (hf.1 a _ _ ha).1) 0 0 rfl rfl hb.1 hd ?_
  rw [hb.2]
  exact kk p e s m args below meth c H locs cells slots ls C hf hS hL h1 h2
theorem vlen {n : Nat} (h : n < 2147483648) : Int32.ofNat n = iZ n := by
  rw [iZ_nI (Int.natCast_nonneg _)]; rfl
theorem r_alen {a n : Nat} {t : Tg} {ty : FieldType} {x : (Nat → Int32) ⊕ (Nat → Int64) ⊕ (Nat → UInt32) ⊕ (Nat → UInt64) ⊕ (Nat → Option Nat)} (hd : decode cc pc = .ok (.arraylength, 1)) (hC : ty ∈ arTys) (ha : h a = some (t, .inl (.inl (ty, n, x)))) (hn : n < 2147483648) (kk : Go G own cc Y d mc Qr Qx kb h (pc + 1) L (.int (iZ n) :: st)) : Go G own cc Y d mc Qr Qx kb h pc L (.ref a :: st) := by
  intro p e s m args below meth c H locs cells slots ls C hf hS hL h1 h2
  exact va_alen C.1 C.2.1 (va_K1 C.2.2.2.2.2.2.2.2.2.1 hC) (va_P1 (e := .inl (gA G ty, n, x)) (hf.1 a _ _ ha).1) 0 0 rfl rfl (vlen hn) hd (kk p e s m args below meth c H locs cells slots ls C hf hS hL h1 h2)
theorem r_iast {a n : Nat} {t : Tg} {f : Nat → Int32} {i : Int} {x : Int32} (hd : decode cc pc = .ok (.iastore, 1)) (ha : h a = some (t, aI .int n f)) (ht : t ≠ frz) (h0 : 0 ≤ i) (hi : i < n) (hi2 : i < 2147483648) (kk : Go G own cc Y d mc Qr Qx kb (up h a (t, aI .int n (va_up f i.toNat x))) (pc + 1) L st) : Go G own cc Y d mc Qr Qx kb h pc L (.int x :: .int (iZ i) :: .ref a :: st) := by
  intro p e s m args below meth c H locs cells slots ls C hf hS hL h1 h2
  have hb := vpin h0 hi hi2
  have hK := (C.2.2.2.2.2.2.2.2.2.1.2.1 .int (by decide)).1
  refine W.iast C.1 C.2.1 (hf.1 a _ _ ha).1 (hK n (fun j => .int (f j))) (fun q => by cases q) (by show ¬ (iZ i < 0 ∨ (arrV _ _ _).slots.size ≤ _); rw [arrV_size]; exact hb.1) rfl rfl hd fun H1 w1 w2 w3 => ?_
  refine kk p e s m args below meth c H1 _ cells slots ls C (hf.upd ha ht w2 ?_ w3) (hS.put w2 w3 ((hf.1 a _ _ ha).2 ht)) hL h1 h2
  show H1[a]? = some (vp_cell _ _)
  rw [w1, hb.2]
  rw [vp_cell_i, vp_cell_i, arrV_store]
  congr 2
  funext q
  by_cases hq : q = i.toNat
  · subst hq
    simp [updV, va_up]
  · simp [updV, va_up, hq]
theorem r_bast {a n : Nat} {t : Tg} {f : Nat → Int32} {i : Int} {x : Int32} (hd : decode cc pc = .ok (.bastore, 1)) (ha : h a = some (t, aI .byte n f)) (ht : t ≠ frz) (h0 : 0 ≤ i) (hi : i < n) (hi2 : i < 2147483648) (kk : Go G own cc Y d mc Qr Qx kb (up h a (t, aI .byte n (va_up f i.toNat (vp_nar .byte x)))) (pc + 1) L st) : Go G own cc Y d mc Qr Qx kb h pc L (.int x :: .int (iZ i) :: .ref a :: st) := by
  intro p e s m args below meth c H locs cells slots ls C hf hS hL h1 h2
  have hb := vpin h0 hi hi2
  have hK := (C.2.2.2.2.2.2.2.2.2.1.2.1 .byte (by decide)).1
  refine W.bast C.1 C.2.1 (hf.1 a _ _ ha).1 (hK n (fun j => .int (f j))) (fun q => by cases q) (by show ¬ (iZ i < 0 ∨ (arrV _ _ _).slots.size ≤ _); rw [arrV_size]; exact hb.1) rfl rfl hd fun H1 w1 w2 w3 => ?_
  refine kk p e s m args below meth c H1 _ cells slots ls C (hf.upd ha ht w2 ?_ w3) (hS.put w2 w3 ((hf.1 a _ _ ha).2 ht)) hL h1 h2
  show H1[a]? = some (vp_cell _ _)
  rw [w1, hb.2]
  rw [vp_cell_i, vp_cell_i, arrV_store]
  congr 2
  funext q
  by_cases hq : q = i.toNat
  · subst hq
    simp [updV, va_up, vp_nar, narrow]
  · simp [updV, va_up, hq]
theorem r_last {a n : Nat} {t : Tg} {f : Nat → Int64} {i : Int} {x : Int64} (hd : decode cc pc = .ok (.lastore, 1)) (ha : h a = some (t, aJ n f)) (ht : t ≠ frz) (h0 : 0 ≤ i) (hi : i < n) (hi2 : i < 2147483648) (kk : Go G own cc Y d mc Qr Qx kb (up h a (t, aJ n (va_up f i.toNat x))) (pc + 1) L st) : Go G own cc Y d mc Qr Qx kb h pc L (.long x :: .int (iZ i) :: .ref a :: st) := by
  intro p e s m args below meth c H locs cells slots ls C hf hS hL h1 h2
  have hb := vpin h0 hi hi2
  have hK := (C.2.2.2.2.2.2.2.2.2.1.2.1 .long (by decide)).1
  refine W.last C.1 C.2.1 (hf.1 a _ _ ha).1 (hK n (fun j => .long (f j))) (fun q => by cases q) (by show ¬ (iZ i < 0 ∨ (arrV _ _ _).slots.size ≤ _); rw [arrV_size]; exact hb.1) rfl rfl hd fun H1 w1 w2 w3 => ?_
  refine kk p e s m args below meth c H1 _ cells slots ls C (hf.upd ha ht w2 ?_ w3) (hS.put w2 w3 ((hf.1 a _ _ ha).2 ht)) hL h1 h2
  show H1[a]? = some (vp_cell _ _)
  rw [w1, hb.2]
  rw [vp_cell_l, vp_cell_l, arrV_store]
  congr 2
  funext q
  by_cases hq : q = i.toNat
  · subst hq
    simp [updV, va_up]
  · simp [updV, va_up, hq]
theorem r_dast {a n : Nat} {t : Tg} {f : Nat → UInt64} {i : Int} {x : UInt64} (hd : decode cc pc = .ok (.dastore, 1)) (ha : h a = some (t, aD n f)) (ht : t ≠ frz) (h0 : 0 ≤ i) (hi : i < n) (hi2 : i < 2147483648) (kk : Go G own cc Y d mc Qr Qx kb (up h a (t, aD n (va_up f i.toNat x))) (pc + 1) L st) : Go G own cc Y d mc Qr Qx kb h pc L (.double x :: .int (iZ i) :: .ref a :: st) := by
  intro p e s m args below meth c H locs cells slots ls C hf hS hL h1 h2
  have hb := vpin h0 hi hi2
  have hK := (C.2.2.2.2.2.2.2.2.2.1.2.1 .double (by decide)).1
  refine W.dast C.1 C.2.1 (hf.1 a _ _ ha).1 (hK n (fun j => .double (f j))) (fun q => by cases q) (by show ¬ (iZ i < 0 ∨ (arrV _ _ _).slots.size ≤ _); rw [arrV_size]; exact hb.1) rfl rfl hd fun H1 w1 w2 w3 => ?_
  refine kk p e s m args below meth c H1 _ cells slots ls C (hf.upd ha ht w2 ?_ w3) (hS.put w2 w3 ((hf.1 a _ _ ha).2 ht)) hL h1 h2
  show H1[a]? = some (vp_cell _ _)
  rw [w1, hb.2]
  rw [vp_cell_d, vp_cell_d, arrV_store]
  congr 2
  funext q
  by_cases hq : q = i.toNat
  · subst hq
    simp [updV, va_up]
  · simp [updV, va_up, hq]
/-! references to objects -/
theorem cast_obj : ∀ q ∈ vwCl, Cond.castable q.1 "java/lang/Object" ∈ lw_tbl := by
  intro q hq
  simp only [vwCl, List.mem_cons, List.not_mem_nil, or_false] at hq
  rcases hq with rfl | rfl | rfl | rfl | rfl | rfl | rfl | rfl | rfl | rfl | rfl | rfl | rfl | rfl | rfl | rfl | rfl | rfl | rfl | rfl
  · exact q3249
  · exact q3250
  · exact q3255
  · exact q3256
  · exact q3264
  · exact q3269
  · exact q3277
  · exact q3279
  · exact q3251
  · exact q3262
  · exact q3252
  · exact q3267
  · exact q3268
  · exact q3253
  · exact q3254
  · exact q3260
  · exact q3258
  · exact q3273
  · exact q3274
  · exact q3276
theorem ob_recv {s : State} {H : Heap} {a ci : Nat} {fs : List Value} {r : vw_C} (hV : VF G s) (hc : cAt G H a (ob ci fs)) (hr : vwCl[ci]? = some r) : ∃ cell : Cell, H[a]? = some cell ∧ cell.vm.isStatics = false ∧ s.vm.findClass r.1 = some cell.cls := va_recv (q0 := 0) hV.1 (cAt_ob hc) hr rfl
theorem ob_any {s : State} {H : Heap} {a : Nat} {t : Tg} {ci : Nat} {fs : List Value} (hV : VF G s) (hf : Hf G h H) (ha : h a = some (t, ob ci fs)) : va_Any "java/lang/Object" s H a := by
  have hc := (hf.1 a _ _ ha).1
  obtain ⟨r, hr, -⟩ := (show va_at (gD G) vwCl (a, .inr (ci, fs)) H from hc)
  obtain ⟨cell, g1, g2, g3⟩ := ob_recv hV hc hr
  obtain ⟨kC, hkC, -⟩ := Vm.findClass_spec g3
  refine ⟨cell, g1, g2, ⟨kC, hkC⟩, fun comp hcomp => ?_⟩
  obtain ⟨x, t1, f1, f2, f3⟩ := Cond.castable_spec (va_Nw.use (A := #[]) rfl (hV.2.2.1 _ (cast_obj r (List.mem_of_getElem? hr)) rfl))
  cases hcomp.symm.trans f2
  cases g3.symm.trans f1
  exact f3
theorem r_aast {a n v : Nat} {t tv : Tg} {f : Nat → Option Nat} {i : Int} {ci : Nat} {fs : List Value} (hd : decode cc pc = .ok (.aastore, 1)) (ha : h a = some (t, aQ "java/lang/Object" n f)) (ht : t ≠ frz) (hv : h v = some (tv, ob ci fs)) (h0 : 0 ≤ i) (hi : i < n) (hi2 : i < 2147483648) (kk : Go G own cc Y d mc Qr Qx kb (up h a (t, aQ "java/lang/Object" n (va_up f i.toNat (some v)))) (pc + 1) L st) : Go G own cc Y d mc Qr Qx kb h pc L (.ref v :: .int (iZ i) :: .ref a :: st) := by
  intro p e s m args below meth c H locs cells slots ls C hf hS hL h1 h2
  have hb := vpin h0 hi hi2
  have hV := C.2.2.2.2.2.2.2.2.2.1
  obtain ⟨cellV, g1, g3, ⟨kC, hkC⟩, hasg⟩ := ob_any hV hf hv
  obtain ⟨kA, comp, k1, k2, k3, -⟩ := (hV.2.1 (.object "java/lang/Object") (by decide)).2
  obtain ⟨kE, hkE, -⟩ := Vm.findClass_spec k3
  have hb0 : ¬ iZ i < 0 := fun q => hb.1 (Or.inl q)
  refine W.aast C.1 C.2.1 (hf.1 a _ _ ha).1 (fun q h => by cases h) (fun h => by cases h) k1 k2 rfl hkE ⟨hb0, by show _ < (arrV _ _ _).slots.size; rw [arrV_size, hb.2]; omega⟩ g1 (fun q h => by rw [h] at g3; cases g3) hkC (hasg _ k3) rfl rfl hd fun H1 w1 w2 w3 => ?_
  refine kk p e s m args below meth c H1 _ cells slots ls C (hf.upd ha ht w2 ?_ w3) (hS.put w2 w3 ((hf.1 a _ _ ha).2 ht)) hL h1 h2
  show H1[a]? = some (vp_cell _ _)
  rw [w1, hb.2]
  rw [vp_cell_q, vp_cell_q, arrV_store]
  congr 2
  funext q
  by_cases hq : q = i.toNat
  · subst hq
    simp [updV, va_up, va_rf]
  · simp [updV, va_up, hq]
/-! new cells -/
theorem r_new {index ci N : Nat} {Cn : String} {T : u_T} (tg : Tg) (fs : List Value) {kb' : Nat} (hd : decode cc pc = .ok (.new index, 3)) (hc : vwCl[ci]? = some (Cn, T, N)) (hcl : Cond.classLink own index Cn ∈ lw_all) (hin : Cond.instantiable Cn N ∈ lw_all) (hini : Cond.initialized Cn ∈ lw_all)
    (hfs : ∀ j, j < N → ∃ ty, parseFieldDescriptor (T j).2.2.1 = some ty ∧ defaultValue ty = vp_V fs j) (hk : kb' + (N + 1) ≤ kb) (kk : ∀ q, h q = none → 0 < q → Go G own cc Y d mc Qr Qx kb' (up h q (tg, ob ci fs)) (pc + 3) L (.ref q :: st)) : Go G own cc Y d mc Qr Qx kb h pc L st := by
  intro p e s m args below meth c H locs cells slots ls C hf hS hL h1 h2
  obtain ⟨ty, o1, o2, o3⟩ := vw_ok _ (List.mem_of_getElem? hc)
  have hts := C.2.2.2.2.2.2.1
  have hK := C.2.2.2.2.2.2.2.2.2.1.1
  have hKn := hK.1 ci _ hc
  refine W.newcK C.1 C.2.1 C.2.2.2.2.2.1 (hts _ hcl) (hts _ hin) (hts _ hini) rfl hd (by show cells + 1 ≤ mc; omega) (by show slots + N ≤ mc; omega) hKn.2.1 rfl fun H1 kC hkC e1 z1 o5 => ?_
  have hx : cAt G H1 H.size (ob ci fs) := ⟨_, hc, (u_born ty hts o1 hKn hkC e1 o2).to (fun j hj => by
    obtain ⟨ty', w1, w2⟩ := hfs j hj
    rw [← w2]
    have := (o2 j hj).symm.trans w1
    cases this
    rfl)⟩
  obtain ⟨hf', hn⟩ := hf.new (t := tg) z1 hx o5
  exact kk H.size hn (by have := hf.2.1; omega) p e s m args below meth c H1 locs (cells + 1) (slots + N) ls C hf' ⟨Nat.le_trans hS.1 (by omega), fun x g1 g2 => (o5 x (Nat.lt_of_lt_of_le g1 hS.1)).trans (hS.2.1 x g1 g2), hS.2.2⟩ hL (by omega) (by omega)
theorem r_newa_go {atype : ArrayType} {ty : FieldType} {n : Int} {N kb' : Nat} {o : Cl} (tg : Tg) (hd : decode cc pc = .ok (.newarray atype, 2)) (hty : newarray.typeOf atype = ty) (ht : ty ∈ arTys) (hpr : ∀ C, ty ≠ .object C) (harr : Cond.arrayClass ty ∈ lw_all) (hn : n = (N : Int)) (hN : N < 2147483648) (hbytes : N * componentBytes ty ≤ 536870912) (hk : kb' + (N + 1) ≤ kb)
    (ho : ∀ (H : Heap) (q : Nat), H[q]? = some (arrV (gA G ty) N (fun _ => defaultValue ty)) → cAt G H q o) (kk : ∀ q, h q = none → 0 < q → Go G own cc Y d mc Qr Qx kb' (up h q (tg, o)) (pc + 2) L (.ref q :: st)) : Go G own cc Y d mc Qr Qx kb h pc L (.int (iZ n) :: st) := by
  intro p e s m args below meth c H locs cells slots ls C hf hS hL h1 h2
  subst hty
  subst hn
  have hV := C.2.2.2.2.2.2.2.2.2.1
  have hnn : iZ (N : Int) = nI N := by rw [iZ_nI (Int.natCast_nonneg _)]; rfl
  refine va_newaK C.1 C.2.1 (C.2.2.2.2.2.2.1 _ harr) rfl hd rfl (N := N) (by rw [hnn]; exact nI_pos (by omega)) (by rw [hnn]; exact nI_clamp (by omega)) hbytes (by show cells + 1 ≤ mc; omega) (by show slots + N ≤ mc; omega) rfl fun H1 cA e1 z1 o5 _ hfc => ?_
  have hcA : cA = gA G (newarray.typeOf atype) := by
    have hr := (hV.2.1 _ ht).2
    have : s.vm.findClass ("[" ++ (newarray.typeOf atype).toString) = some (gA G (newarray.typeOf atype)) := by
      cases atype <;> exact hr
    exact Option.some.inj (hfc.symm.trans this)
  subst hcA
  obtain ⟨hf', hn⟩ := hf.new (t := tg) z1 (ho H1 H.size e1) o5
  exact kk H.size hn (by have := hf.2.1; omega) p e s m args below meth c H1 locs (cells + 1) (slots + N) ls C hf' ⟨Nat.le_trans hS.1 (by omega), fun x g1 g2 => (o5 x (Nat.lt_of_lt_of_le g1 hS.1)).trans (hS.2.1 x g1 g2), hS.2.2⟩ hL (by omega) (by omega)
theorem r_newI {n : Int} {N kb' : Nat} (tg : Tg) (hd : decode cc pc = .ok (.newarray .int, 2)) (harr : Cond.arrayClass .int ∈ lw_all) (hn : n = (N : Int)) (hN : N ≤ 134217728) (hk : kb' + (N + 1) ≤ kb) (kk : ∀ q, h q = none → 0 < q → Go G own cc Y d mc Qr Qx kb' (up h q (tg, aI .int N (fun _ => 0))) (pc + 2) L (.ref q :: st)) : Go G own cc Y d mc Qr Qx kb h pc L (.int (iZ n) :: st) :=
  r_newa_go (o := aI .int N (fun _ => 0)) tg hd rfl (by decide) (fun C q => by cases q) harr hn (by omega) (by show N * 4 ≤ _; omega) hk (fun H q e => e) kk
theorem r_newB {n : Int} {N kb' : Nat} (tg : Tg) (hd : decode cc pc = .ok (.newarray .byte, 2)) (harr : Cond.arrayClass .byte ∈ lw_all) (hn : n = (N : Int)) (hN : N ≤ 134217728) (hk : kb' + (N + 1) ≤ kb) (kk : ∀ q, h q = none → 0 < q → Go G own cc Y d mc Qr Qx kb' (up h q (tg, aI .byte N (fun _ => 0))) (pc + 2) L (.ref q :: st)) : Go G own cc Y d mc Qr Qx kb h pc L (.int (iZ n) :: st) :=
  r_newa_go (o := aI .byte N (fun _ => 0)) tg hd rfl (by decide) (fun C q => by cases q) harr hn (by omega) (by show N * 1 ≤ _; omega) hk (fun H q e => e) kk
theorem r_newJ {n : Int} {N kb' : Nat} (tg : Tg) (hd : decode cc pc = .ok (.newarray .long, 2)) (harr : Cond.arrayClass .long ∈ lw_all) (hn : n = (N : Int)) (hN : N ≤ 67108864) (hk : kb' + (N + 1) ≤ kb) (kk : ∀ q, h q = none → 0 < q → Go G own cc Y d mc Qr Qx kb' (up h q (tg, aJ N (fun _ => 0))) (pc + 2) L (.ref q :: st)) : Go G own cc Y d mc Qr Qx kb h pc L (.int (iZ n) :: st) :=
  r_newa_go (o := aJ N (fun _ => 0)) tg hd rfl (by decide) (fun C q => by cases q) harr hn (by omega) (by show N * 8 ≤ _; omega) hk (fun H q e => e) kk
theorem r_newD {n : Int} {N kb' : Nat} (tg : Tg) (hd : decode cc pc = .ok (.newarray .double, 2)) (harr : Cond.arrayClass .double ∈ lw_all) (hn : n = (N : Int)) (hN : N ≤ 67108864) (hk : kb' + (N + 1) ≤ kb) (kk : ∀ q, h q = none → 0 < q → Go G own cc Y d mc Qr Qx kb' (up h q (tg, aD N (fun _ => 0))) (pc + 2) L (.ref q :: st)) : Go G own cc Y d mc Qr Qx kb h pc L (.int (iZ n) :: st) :=
  r_newa_go (o := aD N (fun _ => 0)) tg hd rfl (by decide) (fun C q => by cases q) harr hn (by omega) (by show N * 8 ≤ _; omega) hk (fun H q e => e) kk
theorem r_newQ {index : Nat} {n : Int} {N kb' : Nat} (tg : Tg) (hd : decode cc pc = .ok (.anewarray index, 3)) (hcl : Cond.classLink own index "java/lang/Object" ∈ lw_all) (hao : Cond.arrayOver (.object "java/lang/Object") ∈ lw_tbl) (hn : n = (N : Int)) (hN : N ≤ 134217728) (hk : kb' + (N + 1) ≤ kb) (kk : ∀ q, h q = none → 0 < q → Go G own cc Y d mc Qr Qx kb' (up h q (tg, aQ "java/lang/Object" N (fun _ => none))) (pc + 3) L (.ref q :: st)) : Go G own cc Y d mc Qr Qx kb h pc L (.int (iZ n) :: st) := by
  intro p e s m args below meth c H locs cells slots ls C hf hS hL h1 h2
  subst hn
  have hV := C.2.2.2.2.2.2.2.2.2.1
  have hnn : iZ (N : Int) = nI N := by rw [iZ_nI (Int.natCast_nonneg _)]; rfl
  have hcl0 : (nI N).toNatClampNeg = N := nI_clamp (by omega)
  rw [hnn]
  refine W.anew C.1 C.2.1 C.2.2.2.2.2.1 (C.2.2.2.2.2.2.1 _ hcl) (va_AO.use (hV.2.2.1 _ hao rfl)) rfl hd rfl (nI_pos (by omega)) (by rw [hcl0]; omega) (by show cells + 1 ≤ mc; omega) (by show slots + _ ≤ mc; rw [hcl0]; omega) fun cA kA comp f1 f2 f3 f4 => ?_
  have hcA : cA = gA G (.object "java/lang/Object") := by
    obtain ⟨kA', comp', -, -, -, g4⟩ := (hV.2.1 (.object "java/lang/Object") (by decide)).2
    exact Option.some.inj (f1.symm.trans g4)
  subst hcA
  rw [hcl0]
  generalize hH1 : H.push ({ cls := gA G (.object "java/lang/Object"), slots := Array.replicate N .null, vm := .none } : Cell) = H1
  have z1 : H1.size = H.size + 1 := by rw [← hH1, Array.size_push]
  have e1 : H1[H.size]? = some (arrV (gA G (.object "java/lang/Object")) N (fun _ => .null)) := by rw [← hH1, Array.getElem?_push_size, ← arrV_new]
  have o5 : ∀ q : Nat, q < H.size → H1[q]? = H[q]? := fun q hq => by rw [← hH1, Array.getElem?_push, if_neg (Nat.ne_of_lt hq)]
  obtain ⟨hf', hn⟩ := hf.new (t := tg) (o := aQ "java/lang/Object" N (fun _ => none)) z1 e1 o5
  exact kk H.size hn (by have := hf.2.1; omega) p e s m args below meth c H1 locs (cells + 1) (slots + N) ls C hf' ⟨Nat.le_trans hS.1 (by omega), fun x g1 g2 => (o5 x (Nat.lt_of_lt_of_le g1 hS.1)).trans (hS.2.1 x g1 g2), hS.2.2⟩ hL (by omega) (by omega)
/-! casts -/
theorem r_cast {index a ci N : Nat} {Cn : String} {T : u_T} {t : Tg} {fs : List Value} (hd : decode cc pc = .ok (.checkcast index, 3)) (hcl : Cond.classLink own index Cn ∈ lw_all) (ha : h a = some (t, ob ci fs)) (hc : vwCl[ci]? = some (Cn, T, N)) (kk : Go G own cc Y d mc Qr Qx kb h (pc + 3) L (.ref a :: st)) : Go G own cc Y d mc Qr Qx kb h pc L (.ref a :: st) := by
  intro p e s m args below meth c H locs cells slots ls C hf hS hL h1 h2
  have hV := C.2.2.2.2.2.2.2.2.2.1
  exact va_castS C.1 C.2.1 C.2.2.2.2.2.1 (C.2.2.2.2.2.2.1 _ hcl) (hV.1.1 ci _ hc).2 (ob_recv hV (hf.1 a _ _ ha).1 hc) hd (kk p e s m args below meth c H locs cells slots ls C hf hS hL h1 h2)
theorem r_inst {index a ci N : Nat} {Cn : String} {T : u_T} {t : Tg} {fs : List Value} (hd : decode cc pc = .ok (.instanceof index, 3)) (hcl : Cond.classLink own index Cn ∈ lw_all) (ha : h a = some (t, ob ci fs)) (hc : vwCl[ci]? = some (Cn, T, N)) (kk : Go G own cc Y d mc Qr Qx kb h (pc + 3) L (.int (iZ 1) :: st)) : Go G own cc Y d mc Qr Qx kb h pc L (.ref a :: st) := by
  intro p e s m args below meth c H locs cells slots ls C hf hS hL h1 h2
  have hV := C.2.2.2.2.2.2.2.2.2.1
  exact va_instS C.1 C.2.1 C.2.2.2.2.2.1 (C.2.2.2.2.2.2.1 _ hcl) (hV.1.1 ci _ hc).2 (ob_recv hV (hf.1 a _ _ ha).1 hc) hd (kk p e s m args below meth c H locs cells slots ls C hf hS hL h1 h2)
/-! returns -/
theorem r_iret {ty : FieldType} {x : Int32} (hd : decode cc pc = .ok (.ireturn, 1)) (hr : Y.2.1 = some ty) (hn : narrow ty (.int x) = .int x) (hq : Qr (some (.int x)) h) : Go G own cc Y d mc Qr Qx kb h pc L [.int x] := by
  intro p e s m args below meth c H locs cells slots ls C hf hS hL h1 h2
  refine W.widen (k := mc) (n := mc) (by omega) (by omega) (vx_ret ?_)
  exact W.zret C.1 C.2.1 (C.2.2.2.1.trans hr) hn (fun t ht hW => ⟨⟨_, h, rfl, hq, by rw [ht]; exact hf⟩, hS.F ht⟩) hS.2.2 hd C.2.2.2.2.1
theorem r_lret {x : Int64} (hd : decode cc pc = .ok (.lreturn, 1)) (hr : Y.2.1 = some .long) (hq : Qr (some (.long x)) h) : Go G own cc Y d mc Qr Qx kb h pc L [.long x] := by
  intro p e s m args below meth c H locs cells slots ls C hf hS hL h1 h2
  refine W.widen (k := mc) (n := mc) (by omega) (by omega) (vx_ret ?_)
  exact W.lret C.1 C.2.1 (C.2.2.2.1.trans hr) (fun t ht hW => ⟨⟨_, h, rfl, hq, by rw [ht]; exact hf⟩, hS.F ht⟩) hS.2.2 hd C.2.2.2.2.1
theorem r_fret {x : UInt32} (hd : decode cc pc = .ok (.freturn, 1)) (hr : Y.2.1 = some .float) (hq : Qr (some (.float x)) h) : Go G own cc Y d mc Qr Qx kb h pc L [.float x] := by
  intro p e s m args below meth c H locs cells slots ls C hf hS hL h1 h2
  refine W.widen (k := mc) (n := mc) (by omega) (by omega) (vx_ret ?_)
  exact W.fret C.1 C.2.1 (C.2.2.2.1.trans hr) (fun t ht hW => ⟨⟨_, h, rfl, hq, by rw [ht]; exact hf⟩, hS.F ht⟩) hS.2.2 hd C.2.2.2.2.1
theorem r_dret {x : UInt64} (hd : decode cc pc = .ok (.dreturn, 1)) (hr : Y.2.1 = some .double) (hq : Qr (some (.double x)) h) : Go G own cc Y d mc Qr Qx kb h pc L [.double x] := by
  intro p e s m args below meth c H locs cells slots ls C hf hS hL h1 h2
  refine W.widen (k := mc) (n := mc) (by omega) (by omega) (vx_ret ?_)
  exact W.dret C.1 C.2.1 (C.2.2.2.1.trans hr) (fun t ht hW => ⟨⟨_, h, rfl, hq, by rw [ht]; exact hf⟩, hS.F ht⟩) hS.2.2 hd C.2.2.2.2.1
theorem r_vret (hd : decode cc pc = .ok (.return_, 1)) (hr : Y.2.1 = none) (hq : Qr none h) : Go G own cc Y d mc Qr Qx kb h pc L [] := by
  intro p e s m args below meth c H locs cells slots ls C hf hS hL h1 h2
  refine W.widen (k := mc) (n := mc) (by omega) (by omega) (vx_ret ?_)
  exact W.vret C.1 C.2.1 (C.2.2.2.1.trans hr) (fun t ht hW => ⟨⟨_, h, rfl, hq, by rw [ht]; exact hf⟩, hS.F ht⟩) hS.2.2 hd C.2.2.2.2.1
abbrev isRT (ty : FieldType) : Prop := (∃ n, ty = .object n) ∨ ∃ t, ty = .array t
theorem r_aret {ty : FieldType} {v : Value} (hd : decode cc pc = .ok (.areturn, 1)) (hr : Y.2.1 = some ty) (hn : isRT ty) (hv : v = .null ∨ ∃ a, v = .ref a) (hq : Qr (some v) h) : Go G own cc Y d mc Qr Qx kb h pc L [v] := by
  intro p e s m args below meth c H locs cells slots ls C hf hS hL h1 h2
  refine W.widen (k := mc) (n := mc) (by omega) (by omega) (vx_ret ?_)
  exact W.aret C.1 C.2.1 (C.2.2.2.1.trans hr) hn hv (fun t ht hW => ⟨⟨_, h, rfl, hq, by rw [ht]; exact hf⟩, hS.F ht⟩) hS.2.2 hd C.2.2.2.2.1

end RW
