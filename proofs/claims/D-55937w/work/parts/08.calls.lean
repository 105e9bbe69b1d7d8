set_option maxRecDepth 100000
section RC
variable {G : Gl} {own : String} {cc : ByteArray} {Y : Mt} {d mc : Nat} {Qr : Option Value → Hp → Prop} {Qx : String → Hp → Prop} {kb : Nat} {h : Hp} {pc : Nat} {L : List (Option Value)} {st : List Value}
/-! private fields of a nest mate -/
theorem r_getfN {index ci k N a : Nat} {ref C host : String} {T : u_T} {t : Tg} {fs : List Value} {v : Value} (hd : decode cc pc = .ok (.getfield index, 3)) (hc : vwCl[ci]? = some (C, T, N)) (hk : k < N) (hl : Cond.fieldLinkNest own index ref (T k).2.1 (T k).2.2.1 host ∈ lw_tbl) (hr : ref = (T k).1)
    (ha : h a = some (t, ob ci fs)) (hv : fs[k]? = some v) (kk : Go G own cc Y d mc Qr Qx kb h (pc + 3) L (v :: st)) : Go G own cc Y d mc Qr Qx kb h pc L (.ref a :: st) := by
  intro p e s m args below meth c H locs cells slots ls C hf hS hL h1 h2
  obtain ⟨ty, o1, o2, o3⟩ := vw_ok _ (List.mem_of_getElem? hc)
  have hV := C.2.2.2.2.2.2.2.2.2.1
  exact va_getN C.1 C.2.1 C.2.2.2.2.2.2.1 o1 C.2.2.2.2.2.1 hV.1 (cAt_ob (hf.1 a _ _ ha).1) 0 rfl hc k hk (va_Nw.use rfl (hV.2.2.1 _ hl rfl)) (by rw [hr]; exact fun _ q => q) hv hd (kk p e s m args below meth c H locs cells slots ls C hf hS hL h1 h2)
theorem r_putfN {index ci k N a : Nat} {ref C host : String} {T : u_T} {t : Tg} {fs : List Value} {ty0 : FieldType} {v : Value} (hd : decode cc pc = .ok (.putfield index, 3)) (hc : vwCl[ci]? = some (C, T, N)) (hk : k < N) (hl : Cond.fieldLinkNest own index ref (T k).2.1 (T k).2.2.1 host ∈ lw_tbl) (hr : ref = (T k).1) (hfin : (T k).2.2.2 = false)
    (hty : parseFieldDescriptor (T k).2.2.1 = some ty0) (hn : narrow ty0 v = v) (hfit : fits ty0 v = true) (ha : h a = some (t, ob ci fs)) (ht : t ≠ frz) (hkl : k < fs.length) (kk : Go G own cc Y d mc Qr Qx kb (up h a (t, ob ci (fs.set k v))) (pc + 3) L st) : Go G own cc Y d mc Qr Qx kb h pc L (v :: .ref a :: st) := by
  intro p e s m args below meth c H locs cells slots ls C hf hS hL h1 h2
  obtain ⟨ty, o1, o2, o3⟩ := vw_ok _ (List.mem_of_getElem? hc)
  have hts := C.2.2.2.2.2.2.1
  have hV := C.2.2.2.2.2.2.2.2.2.1
  have hK := hV.1
  have hap := va_apart (own := own) hts o1 ty o2 o3 hK hc
  obtain ⟨r, e1, cell, q1, q2, q3, q4⟩ := (hf.1 a _ _ ha).1
  have hr0 : r = (_, T, N) := Option.some.inj (e1.symm.trans hc)
  subst hr0
  obtain ⟨hSl, hfc, kC, hkC, hkind⟩ := hK.1 ci _ hc
  obtain ⟨cf, kf, fi, f, hi, hsl⟩ := hSl k hk
  have hlay := hts _ (o1 _ (u_in_lay hk))
  unfold u_lay at hlay
  rw [if_neg (by rw [hfin]; decide)] at hlay
  have hst := (u_facts hfc hkC (u_lays hts o1 hk) hi).1
  have h6 := u_store hfc hkC hkind hlay hi hty hn hfit
  refine va_WputK C.1 C.2.1 (f := f) C.2.2.2.2.2.1 (va_Nw.use rfl (hV.2.2.1 _ hl rfl)) (by rw [hr]; exact hi) hst (by rw [q2]; exact h6) q1 q3 (by rw [hsl]; exact k2_hasslot (q4 k hk)) rfl rfl hd fun H' w1 w2 w3 => ?_
  rw [hsl] at w1 ⊢
  have hx : cAt G H' a (ob ci (fs.set k v)) := ⟨_, hc, t_OB.to (V := updV (vp_V fs) k v) ⟨_, w1, q2, q3, t_set q4 hap hk v⟩ (fun j _ => vp_updV_set hkl v j)⟩
  exact kk p e s m args below meth c H' _ cells slots ls C (hf.upd ha ht w2 hx w3) (hS.put w2 w3 ((hf.1 a _ _ ha).2 ht)) hL h1 h2
/-! calls -/
theorem run_go {nn k1 kb' : Nat} {Qr1 : Option Value → Hp → Prop} {Qx1 : String → Hp → Prop} {a : Array Value} {st0 : List Value}
    (kx : ∀ E h', Qx1 E h' → GoX G own cc Y d mc Qr Qx kb' h' pc L E) (kk : ∀ v h', Qr1 v h' → Go G own cc Y d mc Qr Qx kb' h' (pc + nn) L (v.toList ++ st)) (hk : kb' + k1 ≤ kb)
    {p : Program} {e : Env} {s : State} {m : MethodId} {args : Array Value} {below : List Frame} {meth : Method} {c : Code} {H : Heap} {locs : List Loc} {cells slots : Nat} {ls : Array Slot}
    (C : Cx G own cc Y p s m args meth c) (hS : va_S (gW G) s.heap H locs) (hL : LH L Y.1 ls) (h1 : cells + kb ≤ mc) (h2 : slots + kb ≤ mc)
    (hr : ∀ T : State, T.heap = H → Stand p (gL G) e (rmF d mc) s m args below meth c T locs cells slots →
      (∃ (v : Option Value) (st₀ t T' : State) (L : List Loc), st₀.heap = H ∧ Stand p (gL G) e (rmF d mc) s m args below meth c T' (locs ++ L) (cells + k1) (slots + k1) ∧ (∀ q ∈ L, gW G q.base) ∧ T'.heap = t.heap ∧ T'.vm = t.vm ∧ QcF G Qr1 a st₀ (.returned v) t ∧
        Goes p e below T (F0 m pc ls st0) T' { (F0 m pc ls st0) with pc := (F0 m pc ls st0).pc + nn, stack := v.toList ++ st }) ∨
      (∃ (q : Addr) (st₀ t T' : State) (L : List Loc) (E : String) (ce : Cell), st₀.heap = H ∧ Stand p (gL G) e (rmF d mc) s m args below meth c T' (locs ++ L) (cells + k1) (slots + k1) ∧ (∀ z ∈ L, gW G z.base) ∧ T'.heap = t.heap ∧ T'.vm = t.vm ∧ XcF G Qx1 E st₀ t ∧ t.heap[q]? = some ce ∧ ce.vm = .none ∧ s.vm.findClass E = some ce.cls ∧
        Steps p.tables e below (T.setTop (F0 m pc ls st0)) ((T'.setTop { (F0 m pc ls st0) with stack := st }).pushFrame (.throwing q)))) :
    W p (gL G) e (rmF d mc) s m args below meth c H locs cells slots (vx_MQ below (QcF G Qr) (XcF G Qx) args s mc mc (gW G)) (F0 m pc ls st0) := by
  intro T hT X
  have hS' : ∀ (st₀ t : State) (Ls : List Loc), st₀.heap = H → va_F (gW G) st₀ t → (∀ q ∈ Ls, gW G q.base) → va_S (gW G) s.heap t.heap (locs ++ Ls) := by
    intro st₀ t Ls e0 hF hLs
    refine ⟨Nat.le_trans hS.1 (by rw [← e0]; exact hF.1), fun q g1 g2 => ?_, fun q hq => ?_⟩
    · rw [hF.2 q (by rw [e0]; exact Nat.lt_of_lt_of_le g1 hS.1) g2, e0]
      exact hS.2.1 q g1 g2
    · rcases List.mem_append.mp hq with g | g
      · exact hS.2.2 q g
      · exact hLs q g
  rcases hr T hT X with ⟨v, st₀, t, T', Ls, e0, X', hLs, e1, e2, ⟨⟨v', h', ev, hq, hf'⟩, hF⟩, hg⟩ | ⟨q, st₀, t, T', Ls, E, ce, e0, X', hLs, e1, e2, ⟨⟨h', hq, hf'⟩, hF⟩, hce, hcv, hcl, hg⟩
  · cases ev
    obtain ⟨tt, a1, b1⟩ := kk v h' hq p e s m args below meth c t.heap (locs ++ Ls) (cells + k1) (slots + k1) ls C hf' (hS' st₀ t Ls e0 hF hLs) hL (by omega) (by omega) T' e1 X'
    exact ⟨tt, hg tt a1, b1⟩
  · obtain ⟨tt, a1, b1⟩ := kx E h' hq p e s m args below meth c t.heap (locs ++ Ls) (cells + k1) (slots + k1) ls st q ce C hf' (hS' st₀ t Ls e0 hF hLs) hL (by omega) (by omega) hce hcv hcl T' e1 X'
    exact ⟨tt, hg.trans a1, b1⟩
abbrev hdOk (y : MethodName) (n : Nat) : Prop := y.cls ≠ "java/lang/invoke/MethodHandle" ∧ y.cls ≠ "java/lang/invoke/VarHandle" ∧ (parseMethodDescriptor y.desc).map (fun d => d.parameters.length) = some n
theorem rmOk {d1 k1 nL1 : Nat} (hd1 : d1 + 1 ≤ d) (hn : nL1 ≤ 21) : (rmF d1 k1).frames + 1 ≤ (rmF d mc).frames ∧ 8 + (nL1 + 11) + (rmF d1 k1).locals ≤ (rmF d mc).locals := ⟨hd1, by show 8 + (nL1 + 11) + (40 * d1 + 12) ≤ 40 * d + 12; omega⟩
abbrev VCal (y : MethodName) (b : ByteArray) (nL1 : Nat) (r : Option FieldType) (n : Nat) : Prop := Cond.instanceMethod y ∈ lw_all ∧ Cond.selects y.cls y y ∈ lw_all ∧ Cond.initialized y.cls ∈ lw_all ∧ Cond.code y b nL1 r ∈ lw_all ∧ hdOk y n ∧ nL1 ≤ 21
abbrev SCal (y : MethodName) (b : ByteArray) (nL1 : Nat) (r : Option FieldType) (n : Nat) : Prop := Cond.static y ∈ lw_all ∧ Cond.initialized y.cls ∈ lw_all ∧ Cond.code y b nL1 r ∈ lw_all ∧ hdOk y n ∧ nL1 ≤ 21
abbrev ICal (y : MethodName) (b : ByteArray) (nL1 : Nat) (n : Nat) : Prop := Cond.instanceMethod y ∈ lw_all ∧ Cond.initialized y.cls ∈ lw_all ∧ Cond.code y b nL1 none ∈ lw_all ∧ y.name = "<init>" ∧ hdOk y n ∧ nL1 ≤ 21
abbrev VCalH (y : MethodName) (b : ByteArray) (nL1 : Nat) (r : Option FieldType) (hh : List (Nat × Nat × Nat × Nat)) (n : Nat) : Prop := Cond.instanceMethod y ∈ lw_all ∧ Cond.selects y.cls y y ∈ lw_all ∧ Cond.initialized y.cls ∈ lw_all ∧ Cond.codeWith y b nL1 r hh ∈ lw_all ∧ hdOk y n ∧ nL1 ≤ 21
abbrev SCalH (y : MethodName) (b : ByteArray) (nL1 : Nat) (r : Option FieldType) (hh : List (Nat × Nat × Nat × Nat)) (n : Nat) : Prop := Cond.static y ∈ lw_all ∧ Cond.initialized y.cls ∈ lw_all ∧ Cond.codeWith y b nL1 r hh ∈ lw_all ∧ hdOk y n ∧ nL1 ≤ 21
theorem r_callV {y : MethodName} {bytes : ByteArray} {nL1 d1 k1 kb' n idx : Nat} {As : List Value} {Qr1 : Option Value → Hp → Prop} {Qx1 : String → Hp → Prop} {st0 : List Value} {r : Option FieldType} {b ci N : Nat} {T : u_T} {t : Tg} {fs : List Value} (hd : decode cc pc = .ok (.invokevirtual idx, 3)) (K : VCal y bytes nL1 r n) (hl : Cond.methodLink own idx y ∈ lw_all) (M : Ct G d1 k1 y (Cond.code y bytes nL1 r) (.ref b :: As) h Qr1 Qx1) (ha : h b = some (t, ob ci fs)) (hc : vwCl[ci]? = some (y.cls, T, N)) (hk : kb' + k1 ≤ kb) (hdd : d1 + 1 ≤ d) (hn : As.length = n) (hst : st0 = As.reverse ++ .ref b :: st) (hW : (st.map fun v => v.category).sum ≤ 8)
    (kx : ∀ E h', Qx1 E h' → GoX G own cc Y d mc Qr Qx kb' h' pc L E) (kk : ∀ v h', Qr1 v h' → Go G own cc Y d mc Qr Qx kb' h' (pc + 3) L (v.toList ++ st)) : Go G own cc Y d mc Qr Qx kb h pc L st0 := by
  intro p e s m args below meth c H locs cells slots ls C hf hS hL h1 h2
  have hts := C.2.2.2.2.2.2.1
  have hV := C.2.2.2.2.2.2.2.2.2.1
  exact run_go kx kk hk C hS hL h1 h2 (vx_runV (n := n) ⟨C.1, C.2.1, C.2.2.1, C.2.2.2.2.2.1, hts⟩ M (cwV n hts (lw_V hl K.1 K.2.1 K.2.2.1 K.2.2.2.1) rfl rfl rfl ⟨rfl, K.2.2.2.2.1⟩ (rmOk hdd K.2.2.2.2.2)) ⟨ct_blind, ob_recv hV (hf.1 b _ _ ha).1 hc, fun U hU hW => ⟨rfl, hV.moved hW, by rw [hU]; exact hf⟩⟩ rfl hn hL.2.1 hst (by show 2 * 0 + _ ≤ 8; omega) hd ⟨by show cells + k1 ≤ mc; omega, by show slots + k1 ≤ mc; omega⟩)
theorem r_callVH {y : MethodName} {bytes : ByteArray} {nL1 d1 k1 kb' n idx : Nat} {As : List Value} {Qr1 : Option Value → Hp → Prop} {Qx1 : String → Hp → Prop} {st0 : List Value} {r : Option FieldType} {hh : List (Nat × Nat × Nat × Nat)} {b ci N : Nat} {T : u_T} {t : Tg} {fs : List Value} (hd : decode cc pc = .ok (.invokevirtual idx, 3)) (K : VCalH y bytes nL1 r hh n) (hl : Cond.methodLink own idx y ∈ lw_all) (M : Ct G d1 k1 y (Cond.codeWith y bytes nL1 r hh) (.ref b :: As) h Qr1 Qx1) (ha : h b = some (t, ob ci fs)) (hc : vwCl[ci]? = some (y.cls, T, N)) (hk : kb' + k1 ≤ kb) (hdd : d1 + 1 ≤ d) (hn : As.length = n) (hst : st0 = As.reverse ++ .ref b :: st) (hW : (st.map fun v => v.category).sum ≤ 8)
    (kx : ∀ E h', Qx1 E h' → GoX G own cc Y d mc Qr Qx kb' h' pc L E) (kk : ∀ v h', Qr1 v h' → Go G own cc Y d mc Qr Qx kb' h' (pc + 3) L (v.toList ++ st)) : Go G own cc Y d mc Qr Qx kb h pc L st0 := by
  intro p e s m args below meth c H locs cells slots ls C hf hS hL h1 h2
  have hts := C.2.2.2.2.2.2.1
  have hV := C.2.2.2.2.2.2.2.2.2.1
  exact run_go kx kk hk C hS hL h1 h2 (vx_runVX (n := n) ⟨C.1, C.2.1, C.2.2.1, C.2.2.2.2.2.1, hts⟩ M (vx_cwVW n hts (lw_VW hl K.1 K.2.1 K.2.2.1 K.2.2.2.1) rfl rfl rfl ⟨rfl, K.2.2.2.2.1⟩ (rmOk hdd K.2.2.2.2.2)) ⟨ct_blind, ob_recv hV (hf.1 b _ _ ha).1 hc, fun U hU hW => ⟨rfl, hV.moved hW, by rw [hU]; exact hf⟩⟩ rfl hn hL.2.1 hst (by show 2 * 0 + _ ≤ 8; omega) hd ⟨by show cells + k1 ≤ mc; omega, by show slots + k1 ≤ mc; omega⟩)
theorem r_callS {y : MethodName} {bytes : ByteArray} {nL1 d1 k1 kb' n idx : Nat} {As : List Value} {Qr1 : Option Value → Hp → Prop} {Qx1 : String → Hp → Prop} {st0 : List Value} {r : Option FieldType} (hd : decode cc pc = .ok (.invokestatic idx, 3)) (K : SCal y bytes nL1 r n) (hl : Cond.methodLink own idx y ∈ lw_all) (M : Ct G d1 k1 y (Cond.code y bytes nL1 r) As h Qr1 Qx1) (hk : kb' + k1 ≤ kb) (hdd : d1 + 1 ≤ d) (hn : As.length = n) (hst : st0 = As.reverse ++ st) (hW : (st.map fun v => v.category).sum ≤ 8)
    (kx : ∀ E h', Qx1 E h' → GoX G own cc Y d mc Qr Qx kb' h' pc L E) (kk : ∀ v h', Qr1 v h' → Go G own cc Y d mc Qr Qx kb' h' (pc + 3) L (v.toList ++ st)) : Go G own cc Y d mc Qr Qx kb h pc L st0 := by
  intro p e s m args below meth c H locs cells slots ls C hf hS hL h1 h2
  have hts := C.2.2.2.2.2.2.1
  have hV := C.2.2.2.2.2.2.2.2.2.1
  exact run_go kx kk hk C hS hL h1 h2 (vx_runS (n := n) ⟨C.1, C.2.1, C.2.2.1, C.2.2.2.2.2.1, hts⟩ M (va_cwS n hts (lw_S hl K.1 K.2.1 K.2.2.1) rfl rfl rfl K.2.2.2.1 (rmOk hdd K.2.2.2.2)) ⟨ct_blind, fun U hU hW => ⟨rfl, hV.moved hW, by rw [hU]; exact hf⟩⟩ rfl hn hL.2.1 hst (by show 2 * 0 + _ ≤ 8; omega) hd ⟨by show cells + k1 ≤ mc; omega, by show slots + k1 ≤ mc; omega⟩)
theorem r_callSH {y : MethodName} {bytes : ByteArray} {nL1 d1 k1 kb' n idx : Nat} {As : List Value} {Qr1 : Option Value → Hp → Prop} {Qx1 : String → Hp → Prop} {st0 : List Value} {r : Option FieldType} {hh : List (Nat × Nat × Nat × Nat)} (hd : decode cc pc = .ok (.invokestatic idx, 3)) (K : SCalH y bytes nL1 r hh n) (hl : Cond.methodLink own idx y ∈ lw_all) (M : Ct G d1 k1 y (Cond.codeWith y bytes nL1 r hh) As h Qr1 Qx1) (hk : kb' + k1 ≤ kb) (hdd : d1 + 1 ≤ d) (hn : As.length = n) (hst : st0 = As.reverse ++ st) (hW : (st.map fun v => v.category).sum ≤ 8)
    (kx : ∀ E h', Qx1 E h' → GoX G own cc Y d mc Qr Qx kb' h' pc L E) (kk : ∀ v h', Qr1 v h' → Go G own cc Y d mc Qr Qx kb' h' (pc + 3) L (v.toList ++ st)) : Go G own cc Y d mc Qr Qx kb h pc L st0 := by
  intro p e s m args below meth c H locs cells slots ls C hf hS hL h1 h2
  have hts := C.2.2.2.2.2.2.1
  have hV := C.2.2.2.2.2.2.2.2.2.1
  exact run_go kx kk hk C hS hL h1 h2 (vx_runSX (n := n) ⟨C.1, C.2.1, C.2.2.1, C.2.2.2.2.2.1, hts⟩ M (vx_cwSW n hts (lw_SW hl K.1 K.2.1 K.2.2.1) rfl rfl rfl K.2.2.2.1 (rmOk hdd K.2.2.2.2)) ⟨ct_blind, fun U hU hW => ⟨rfl, hV.moved hW, by rw [hU]; exact hf⟩⟩ rfl hn hL.2.1 hst (by show 2 * 0 + _ ≤ 8; omega) hd ⟨by show cells + k1 ≤ mc; omega, by show slots + k1 ≤ mc; omega⟩)
theorem r_callI {y : MethodName} {bytes : ByteArray} {nL1 d1 k1 kb' n idx : Nat} {As : List Value} {Qr1 : Option Value → Hp → Prop} {Qx1 : String → Hp → Prop} {st0 : List Value} {b : Nat} (hd : decode cc pc = .ok (.invokespecial idx, 3)) (K : ICal y bytes nL1 n) (hl : Cond.methodLink own idx y ∈ lw_all) (M : Ct G d1 k1 y (Cond.code y bytes nL1 none) (.ref b :: As) h Qr1 Qx1) (hk : kb' + k1 ≤ kb) (hdd : d1 + 1 ≤ d) (hn : As.length = n) (hst : st0 = As.reverse ++ .ref b :: st) (hW : (st.map fun v => v.category).sum ≤ 8)
    (kx : ∀ E h', Qx1 E h' → GoX G own cc Y d mc Qr Qx kb' h' pc L E) (kk : ∀ v h', Qr1 v h' → Go G own cc Y d mc Qr Qx kb' h' (pc + 3) L (v.toList ++ st)) : Go G own cc Y d mc Qr Qx kb h pc L st0 := by
  intro p e s m args below meth c H locs cells slots ls C hf hS hL h1 h2
  have hts := C.2.2.2.2.2.2.1
  have hV := C.2.2.2.2.2.2.2.2.2.1
  exact run_go kx kk hk C hS hL h1 h2 (vx_runI (n := n) ⟨C.1, C.2.1, C.2.2.1, C.2.2.2.2.2.1, hts⟩ M (cwI n hts (lw_meth K.2.2.1) rfl rfl rfl (hts _ K.2.1) (hts _ hl) (hts _ K.1) K.2.2.2.1 K.2.2.2.2.1 (rmOk hdd K.2.2.2.2.2)) ⟨ct_blind, fun U hU hW => ⟨rfl, hV.moved hW, by rw [hU]; exact hf⟩⟩ rfl hn hL.2.1 hst (by show 2 * 0 + _ ≤ 8; omega) hd ⟨by show cells + k1 ≤ mc; omega, by show slots + k1 ≤ mc; omega⟩)
theorem r_callVN {y : MethodName} {bytes : ByteArray} {nL1 d1 k1 kb' n idx : Nat} {As : List Value} {Qr1 : Option Value → Hp → Prop} {Qx1 : String → Hp → Prop} {st0 : List Value} {r : Option FieldType} {host : String} {b ci N : Nat} {T : u_T} {t : Tg} {fs : List Value} (hd : decode cc pc = .ok (.invokevirtual idx, 3)) (K : VCal y bytes nL1 r n) (hl : Cond.methodLinkNest own idx y host ∈ lw_tbl) (M : Ct G d1 k1 y (Cond.code y bytes nL1 r) (.ref b :: As) h Qr1 Qx1) (ha : h b = some (t, ob ci fs)) (hc : vwCl[ci]? = some (y.cls, T, N)) (hk : kb' + k1 ≤ kb) (hdd : d1 + 1 ≤ d) (hn : As.length = n) (hst : st0 = As.reverse ++ .ref b :: st) (hW : (st.map fun v => v.category).sum ≤ 8)
    (kx : ∀ E h', Qx1 E h' → GoX G own cc Y d mc Qr Qx kb' h' pc L E) (kk : ∀ v h', Qr1 v h' → Go G own cc Y d mc Qr Qx kb' h' (pc + 3) L (v.toList ++ st)) : Go G own cc Y d mc Qr Qx kb h pc L st0 := by
  intro p e s m args below meth c H locs cells slots ls C hf hS hL h1 h2
  have hts := C.2.2.2.2.2.2.1
  have hV := C.2.2.2.2.2.2.2.2.2.1
  exact run_go kx kk hk C hS hL h1 h2 (vx_runVN (n := n) ⟨C.1, C.2.1, C.2.2.1, C.2.2.2.2.2.1, hts⟩ M ⟨va_cnB n hts (lw_meth K.2.2.2.1) rfl rfl rfl (hV.2.2.1 _ hl rfl) (hts _ K.2.2.1) K.2.2.2.2.1 (rmOk hdd K.2.2.2.2.2), hts _ K.1, hts _ K.2.1⟩ ⟨ct_blind, ob_recv hV (hf.1 b _ _ ha).1 hc, fun U hU hW => ⟨rfl, hV.moved hW, by rw [hU]; exact hf⟩⟩ rfl hn hL.2.1 hst (by show 2 * 0 + _ ≤ 8; omega) hd ⟨by show cells + k1 ≤ mc; omega, by show slots + k1 ≤ mc; omega⟩)
theorem r_callSN {y : MethodName} {bytes : ByteArray} {nL1 d1 k1 kb' n idx : Nat} {As : List Value} {Qr1 : Option Value → Hp → Prop} {Qx1 : String → Hp → Prop} {st0 : List Value} {r : Option FieldType} {host : String} (hd : decode cc pc = .ok (.invokestatic idx, 3)) (K : SCal y bytes nL1 r n) (hl : Cond.methodLinkNest own idx y host ∈ lw_tbl) (M : Ct G d1 k1 y (Cond.code y bytes nL1 r) As h Qr1 Qx1) (hk : kb' + k1 ≤ kb) (hdd : d1 + 1 ≤ d) (hn : As.length = n) (hst : st0 = As.reverse ++ st) (hW : (st.map fun v => v.category).sum ≤ 8)
    (kx : ∀ E h', Qx1 E h' → GoX G own cc Y d mc Qr Qx kb' h' pc L E) (kk : ∀ v h', Qr1 v h' → Go G own cc Y d mc Qr Qx kb' h' (pc + 3) L (v.toList ++ st)) : Go G own cc Y d mc Qr Qx kb h pc L st0 := by
  intro p e s m args below meth c H locs cells slots ls C hf hS hL h1 h2
  have hts := C.2.2.2.2.2.2.1
  have hV := C.2.2.2.2.2.2.2.2.2.1
  exact run_go kx kk hk C hS hL h1 h2 (vx_runSN (n := n) ⟨C.1, C.2.1, C.2.2.1, C.2.2.2.2.2.1, hts⟩ M ⟨va_cnB n hts (lw_meth K.2.2.1) rfl rfl rfl (hV.2.2.1 _ hl rfl) (hts _ K.2.1) K.2.2.2.1 (rmOk hdd K.2.2.2.2), hts _ K.1, trivial⟩ ⟨ct_blind, fun U hU hW => ⟨rfl, hV.moved hW, by rw [hU]; exact hf⟩⟩ rfl hn hL.2.1 hst (by show 2 * 0 + _ ≤ 8; omega) hd ⟨by show cells + k1 ≤ mc; omega, by show slots + k1 ≤ mc; omega⟩)
theorem r_callIN {y : MethodName} {bytes : ByteArray} {nL1 d1 k1 kb' n idx : Nat} {As : List Value} {Qr1 : Option Value → Hp → Prop} {Qx1 : String → Hp → Prop} {st0 : List Value} {host : String} {b : Nat} (hd : decode cc pc = .ok (.invokespecial idx, 3)) (K : ICal y bytes nL1 n) (hl : Cond.methodLinkNest own idx y host ∈ lw_tbl) (M : Ct G d1 k1 y (Cond.code y bytes nL1 none) (.ref b :: As) h Qr1 Qx1) (hk : kb' + k1 ≤ kb) (hdd : d1 + 1 ≤ d) (hn : As.length = n) (hst : st0 = As.reverse ++ .ref b :: st) (hW : (st.map fun v => v.category).sum ≤ 8)
    (kx : ∀ E h', Qx1 E h' → GoX G own cc Y d mc Qr Qx kb' h' pc L E) (kk : ∀ v h', Qr1 v h' → Go G own cc Y d mc Qr Qx kb' h' (pc + 3) L (v.toList ++ st)) : Go G own cc Y d mc Qr Qx kb h pc L st0 := by
  intro p e s m args below meth c H locs cells slots ls C hf hS hL h1 h2
  have hts := C.2.2.2.2.2.2.1
  have hV := C.2.2.2.2.2.2.2.2.2.1
  exact run_go kx kk hk C hS hL h1 h2 (vx_runIN (n := n) ⟨C.1, C.2.1, C.2.2.1, C.2.2.2.2.2.1, hts⟩ M ⟨va_cnB n hts (lw_meth K.2.2.1) rfl rfl rfl (hV.2.2.1 _ hl rfl) (hts _ K.2.1) K.2.2.2.2.1 (rmOk hdd K.2.2.2.2.2), K.2.2.2.1, hts _ K.1⟩ ⟨ct_blind, fun U hU hW => ⟨rfl, hV.moved hW, by rw [hU]; exact hf⟩⟩ rfl hn hL.2.1 hst (by show 2 * 0 + _ ≤ 8; omega) hd ⟨by show cells + k1 ≤ mc; omega, by show slots + k1 ≤ mc; omega⟩)
/-- interface calls: the receiver's class, the interface's method, the class's own are a row of faceTab -/
theorem r_callF {y : MethodName} {bytes : ByteArray} {nL1 d1 k1 kb' n idx : Nat} {As : List Value} {Qr1 : Option Value → Hp → Prop} {Qx1 : String → Hp → Prop} {st0 : List Value} {x : MethodName} {cnt : Nat} {r : Option FieldType} {Cn : String} {b ci N : Nat} {T : u_T} {t : Tg} {fs : List Value} (hd : decode cc pc = .ok (.invokeinterface idx cnt, 5)) (k0 : Nat) (hz : faceTab[k0]? = some (Cn, x, y)) (K : Cond.selects Cn x y ∈ lw_all ∧ Cond.instanceMethod y ∈ lw_all ∧ Cond.initialized y.cls ∈ lw_all ∧ Cond.code y bytes nL1 r ∈ lw_all ∧ hdOk x n ∧ nL1 ≤ 21) (hl : Cond.methodLink own idx x ∈ lw_all) (M : Ct G d1 k1 y (Cond.code y bytes nL1 r) (.ref b :: As) h Qr1 Qx1) (ha : h b = some (t, ob ci fs)) (hc : vwCl[ci]? = some (Cn, T, N)) (hk : kb' + k1 ≤ kb) (hdd : d1 + 1 ≤ d) (hn : As.length = n) (hst : st0 = As.reverse ++ .ref b :: st) (hW : (st.map fun v => v.category).sum ≤ 8)
    (kx : ∀ E h', Qx1 E h' → GoX G own cc Y d mc Qr Qx kb' h' pc L E) (kk : ∀ v h', Qr1 v h' → Go G own cc Y d mc Qr Qx kb' h' (pc + 5) L (v.toList ++ st)) : Go G own cc Y d mc Qr Qx kb h pc L st0 := by
  intro p e s m args below meth c H locs cells slots ls C hf hS hL h1 h2
  have hts := C.2.2.2.2.2.2.1
  have hV := C.2.2.2.2.2.2.2.2.2.1
  refine run_go kx kk hk C hS hL h1 h2 (vx_runF (n := n) (x := x) (C := Cn) (hV.1.1 ci _ hc).2 ⟨C.1, C.2.1, C.2.2.1, C.2.2.2.2.2.1, hts⟩ M (va_cwF n hts (lw_app (c := Cond.code y bytes nL1 r :: lw_all) ?_ (lw_meth K.2.2.2.1)) rfl rfl rfl (hV.2.2.2.2.1 _ (List.mem_of_getElem? hz)) K.2.2.2.2.1 (rmOk hdd K.2.2.2.2.2)) ⟨ct_blind, ob_recv hV (hf.1 b _ _ ha).1 hc, fun U hU hW => ⟨rfl, hV.moved hW, by rw [hU]; exact hf⟩⟩ rfl hn hL.2.1 hst (by show 2 * 0 + _ ≤ 8; omega) hd ⟨by show cells + k1 ≤ mc; omega, by show slots + k1 ≤ mc; omega⟩)
  intro w hw
  simp only [List.mem_cons, List.not_mem_nil, or_false] at hw
  rcases hw with rfl | rfl | rfl | rfl
  · exact hl
  · exact K.1
  · exact K.2.1
  · exact K.2.2.1
/-- a method that the receiver's class Cn inherits from the class 'owner' -/
theorem r_callU {y : MethodName} {bytes : ByteArray} {nL1 d1 k1 kb' n idx : Nat} {As : List Value} {Qr1 : Option Value → Hp → Prop} {Qx1 : String → Hp → Prop} {st0 : List Value} {x : MethodName} {r : Option FieldType} {Cn owner : String} {b ci N : Nat} {T : u_T} {t : Tg} {fs : List Value} (hd : decode cc pc = .ok (.invokevirtual idx, 3)) (K : Cond.sameMethod x.cls owner x.name x.desc ∈ lw_all ∧ Cond.selects Cn x y ∈ lw_all ∧ Cond.instanceMethod y ∈ lw_all ∧ Cond.initialized y.cls ∈ lw_all ∧ Cond.code y bytes nL1 r ∈ lw_all ∧ y = ⟨owner, x.name, x.desc⟩ ∧ (owner ≠ "java/lang/invoke/MethodHandle" ∧ owner ≠ "java/lang/invoke/VarHandle" ∧ (parseMethodDescriptor x.desc).map (fun d => d.parameters.length) = some n) ∧ nL1 ≤ 21) (hl : Cond.methodLink own idx x ∈ lw_all) (M : Ct G d1 k1 y (Cond.code y bytes nL1 r) (.ref b :: As) h Qr1 Qx1) (ha : h b = some (t, ob ci fs)) (hc : vwCl[ci]? = some (Cn, T, N)) (hk : kb' + k1 ≤ kb) (hdd : d1 + 1 ≤ d) (hn : As.length = n) (hst : st0 = As.reverse ++ .ref b :: st) (hW : (st.map fun v => v.category).sum ≤ 8)
    (kx : ∀ E h', Qx1 E h' → GoX G own cc Y d mc Qr Qx kb' h' pc L E) (kk : ∀ v h', Qr1 v h' → Go G own cc Y d mc Qr Qx kb' h' (pc + 3) L (v.toList ++ st)) : Go G own cc Y d mc Qr Qx kb h pc L st0 := by
  intro p e s m args below meth c H locs cells slots ls C hf hS hL h1 h2
  have hts := C.2.2.2.2.2.2.1
  have hV := C.2.2.2.2.2.2.2.2.2.1
  refine run_go kx kk hk C hS hL h1 h2 (vx_runU (n := n) (x := x) (C := Cn) (owner := owner) ⟨C.1, C.2.1, C.2.2.1, C.2.2.2.2.2.1, hts⟩ M (va_cwU n hts (lw_app (c := Cond.code y bytes nL1 r :: lw_all) ?_ (lw_meth K.2.2.2.2.1)) rfl rfl rfl K.2.2.2.2.2.1 K.2.2.2.2.2.2.1 (rmOk hdd K.2.2.2.2.2.2.2)) ⟨ct_blind, ob_recv hV (hf.1 b _ _ ha).1 hc, fun U hU hW => ⟨rfl, hV.moved hW, by rw [hU]; exact hf⟩⟩ rfl hn hL.2.1 hst (by show 2 * 0 + _ ≤ 8; omega) hd ⟨by show cells + k1 ≤ mc; omega, by show slots + k1 ≤ mc; omega⟩)
  intro w hw
  simp only [List.mem_cons, List.not_mem_nil, or_false] at hw
  rcases hw with rfl | rfl | rfl | rfl | rfl
  · exact hl
  · exact K.1
  · exact K.2.1
  · exact K.2.2.1
  · exact K.2.2.2.1
/-- Object's constructor -/
theorem r_objInit {idx a : Nat} (hd : decode cc pc = .ok (.invokespecial idx, 3)) (hl : Cond.methodLink own idx Lib.objectInit ∈ lw_all) (hi : Cond.instanceMethod Lib.objectInit ∈ lw_all) (hc : Cond.code Lib.objectInit ⟨#[0xb1]⟩ 1 none ∈ lw_all) (hdd : 1 ≤ d) (hW : (st.map fun v => v.category).sum ≤ 8) (kk : Go G own cc Y d mc Qr Qx kb h (pc + 3) L st) : Go G own cc Y d mc Qr Qx kb h pc L (.ref a :: st) := by
  intro p e s m args below meth c H locs cells slots ls C hf hS hL h1 h2
  have hts := C.2.2.2.2.2.2.1
  have hV := C.2.2.2.2.2.2.2.2.2.1
  exact W.objInit C.1 C.2.1 C.2.2.2.2.2.1 (hts _ hl) (hts _ hi) (hts _ hc) rfl (hL.2.1.trans C.2.2.1.symm) rfl hd hdd (by show 2 * 0 + _ + 12 ≤ 40 * d + 12; omega) (kk p e s m args below meth c H locs cells slots ls C hf hS hL h1 h2)
/-! exceptions -/
theorem x_out {E : String} (ho : (tableOf Y.2.2.2).all (fun x => !covers x pc) = true) (hq : Qx E h) : GoX G own cc Y d mc Qr Qx kb h pc L E := by
  intro p e s m args below meth c H locs cells slots ls st q ce C hf hS hL h1 h2 g1 g2 g3
  refine vx_out (fun x hx => ?_) C.2.2.2.2.1 g1 g2 g3 (fun t ht hal => ⟨⟨h, hq, by rw [ht]; exact hf⟩, hS.F ht⟩) hS.2.2 (by omega) (by omega)
  rw [C.2.2.2.2.2.2.2.2.1] at hx
  have := List.all_eq_true.mp ho x hx
  simpa only [Bool.not_eq_true'] using this
theorem r_throw0 {ik ic : Nat} {E : String} {names : List String} (d0 : decode cc pc = .ok (.new ik, 3)) (d3 : decode cc (pc + 3) = .ok (.dup, 1)) (d4 : decode cc (pc + 4) = .ok (.invokespecial ic, 3)) (d7 : decode cc (pc + 7) = .ok (.athrow, 1))
    (hcls : Bundle.fit E = true) (hnames : ∀ n ∈ names, Bundle.fit n = true) (hat : ∀ w ∈ Cond.classLink own ik E :: Cond.initialized E :: vx_at0 own ic E names, w ∈ lw_all) (hgood : ∀ w ∈ Cond.classLink own ik E :: Cond.initialized E :: vx_at0 own ic E names, vx_ot w = true)
    (ho : (tableOf Y.2.2.2).all (fun x => !covers x (pc + 7)) = true) (hdd : names.length + 3 < d) (hW : (st.map fun v => v.category).sum ≤ 8) (hn : names.length ≤ 4) (hk : 7 ≤ kb) (hq : Qx E h) : Go G own cc Y d mc Qr Qx kb h pc L st := by
  intro p e s m args below meth c H locs cells slots ls C hf hS hL h1 h2
  have hts := C.2.2.2.2.2.2.1
  have hV := C.2.2.2.2.2.2.2.2.2.1
  have hk0 := old_kept C.2.2.2.2.2.2.2.2.2.2
  refine vx_throw0 C.1 C.2.1 hV.2.2.2.2.2.2.2.2.2.1 C.2.2.2.2.2.1 hcls hnames (hts _ (hat _ (by simp))) (hts _ (hat _ (by simp))) (fun w hw => hts _ (hat _ (by simp [hw]))) hgood (hV.2.2.2.2.2.2.2.1.kept hk0) (hV.2.2.2.2.2.2.2.2.1.kept hk0) hS (hL.2.1.trans C.2.2.1.symm) d0 d3 d4 d7 (fun x hx => ?_) hdd (by show _ ≤ 40 * d + 12; omega) (by show cells + 1 ≤ mc; omega) (by show slots + 6 ≤ mc; omega) C.2.2.2.2.1 (fun t hal g1 g2 => ?_) hS.2.2 (by omega) (by omega)
  · rw [C.2.2.2.2.2.2.2.2.1] at hx
    have := List.all_eq_true.mp ho x hx
    simpa only [Bool.not_eq_true'] using this
  · refine ⟨⟨h, hq, ?_⟩, Nat.le_trans hS.1 g1, fun q a1 a2 => (g2 q (Nat.lt_of_lt_of_le a1 hS.1)).trans (hS.2.1 q a1 a2)⟩
    exact ⟨fun a t o ha => ⟨((hf.1 a t o ha).1).kept (g2 a (hf.1 a t o ha).1.lt), (hf.1 a t o ha).2⟩, ⟨hf.2.1.1, Nat.le_trans hf.2.1.2 g1⟩, fun q hq => (g2 q (Nat.lt_of_lt_of_le hq hf.2.1.2)).trans (hf.2.2 q hq)⟩
/-- caught: the handler's class is E's own, the entries ahead don't cover, or catch another class -/
theorem x_catch {E nm : String} (pre : List ExceptionTableEntry) (x : ExceptionTableEntry) (suf : List ExceptionTableEntry) (hsplit : tableOf Y.2.2.2 = pre ++ x :: suf)
    (hpass : ∀ z ∈ pre, covers z pc = false ∨ (z.catchType ≠ 0 ∧ ∃ nm : String, Cond.classLink own z.catchType nm ∈ lw_all ∧ (E, nm) ∈ ncTab)) (hx : covers x pc = true) (h0 : x.catchType ≠ 0) (hl : Cond.classLink own x.catchType nm ∈ lw_all) (hcast : Cond.castable E nm ∈ lw_tbl)
    (kk : ∀ q, Go G own cc Y d mc Qr Qx kb h x.handlerPc L [.ref q]) : GoX G own cc Y d mc Qr Qx kb h pc L E := by
  intro p e s m args below meth c H locs cells slots ls st q ce C hf hS hL h1 h2 g1 g2 g3
  have hts := C.2.2.2.2.2.2.1
  have hV := C.2.2.2.2.2.2.2.2.2.1
  refine vx_catch C.2.2.2.2.2.1 pre x suf (C.2.2.2.2.2.2.2.2.1.trans hsplit) (fun z hz => ?_) hx h0 (hts _ hl) (va_Nw.use rfl (hV.2.2.1 _ hcast rfl)) g1 g2 g3 (kk q p e s m args below meth c H locs cells slots ls C hf hS hL h1 h2)
  rcases hpass z hz with g | ⟨g, nm', w1, w2⟩
  · exact Or.inl g
  · exact Or.inr ⟨g, nm', hts _ w1, hV.2.2.2.2.2.2.1 _ w2⟩
end RC
