set_option maxRecDepth 100000
/-! MORE ROWS: inherited fields, arrays' natives, class objects, inherited and private calls, weakenings -/
section RD
variable {G : Gl} {own : String} {cc : ByteArray} {Y : Mt} {d mc : Nat} {Qr : Option Value → Hp → Prop} {Qx : String → Hp → Prop} {kb : Nat} {h : Hp} {pc : Nat} {L : List (Option Value)} {st : List Value}
/-! fields that the reference names by a subclass -/
theorem r_getfS {index ci k N a : Nat} {ref C : String} {T : u_T} {t : Tg} {fs : List Value} {v : Value} (hd : decode cc pc = .ok (.getfield index, 3)) (hc : vwCl[ci]? = some (C, T, N)) (hk : k < N) (hl : Cond.fieldLink own index ref (T k).2.1 (T k).2.2.1 ∈ lw_all) (hr : Cond.sameField ref (T k).1 (T k).2.1 (T k).2.2.1 ∈ lw_all)
    (ha : h a = some (t, ob ci fs)) (hv : fs[k]? = some v) (kk : Go G own cc Y d mc Qr Qx kb h (pc + 3) L (v :: st)) : Go G own cc Y d mc Qr Qx kb h pc L (.ref a :: st) := by
  intro p e s m args below meth c H locs cells slots ls C hf hS hL h1 h2
  obtain ⟨ty, o1, o2, o3⟩ := vw_ok _ (List.mem_of_getElem? hc)
  exact va_get C.1 C.2.1 C.2.2.2.2.2.2.1 o1 C.2.2.2.2.2.1 C.2.2.2.2.2.2.2.2.2.1.1 (cAt_ob (hf.1 a _ _ ha).1) 0 rfl hc k hk (C.2.2.2.2.2.2.1 _ hl) (fun x9 h9 => u_same (C.2.2.2.2.2.2.1 _ hr) x9 h9) hv hd (kk p e s m args below meth c H locs cells slots ls C hf hS hL h1 h2)
theorem r_putfS {index ci k N a : Nat} {ref C : String} {T : u_T} {t : Tg} {fs : List Value} {ty0 : FieldType} {v : Value} (hd : decode cc pc = .ok (.putfield index, 3)) (hc : vwCl[ci]? = some (C, T, N)) (hk : k < N) (hl : Cond.fieldLink own index ref (T k).2.1 (T k).2.2.1 ∈ lw_all) (hr : Cond.sameField ref (T k).1 (T k).2.1 (T k).2.2.1 ∈ lw_all) (hfin : (T k).2.2.2 = false)
    (hty : parseFieldDescriptor (T k).2.2.1 = some ty0) (hn : narrow ty0 v = v) (hfit : fits ty0 v = true) (ha : h a = some (t, ob ci fs)) (ht : t ≠ frz) (hkl : k < fs.length) (kk : Go G own cc Y d mc Qr Qx kb (up h a (t, ob ci (fs.set k v))) (pc + 3) L st) : Go G own cc Y d mc Qr Qx kb h pc L (v :: .ref a :: st) := by
  intro p e s m args below meth c H locs cells slots ls C hf hS hL h1 h2
  obtain ⟨ty, o1, o2, o3⟩ := vw_ok _ (List.mem_of_getElem? hc)
  have hts := C.2.2.2.2.2.2.1
  have hK := C.2.2.2.2.2.2.2.2.2.1.1
  have hap := va_apart (own := own) hts o1 ty o2 o3 hK hc
  obtain ⟨r, e1, cell, q1, q2, q3, q4⟩ := (hf.1 a _ _ ha).1
  have hr0 : r = (_, T, N) := Option.some.inj (e1.symm.trans hc)
  subst hr0
  obtain ⟨hSl, hfc, kC, hkC, hkind⟩ := hK.1 ci _ hc
  obtain ⟨cf, kf, fi, f, hi, hsl⟩ := hSl k hk
  have hlay := hts _ (o1 _ (u_in_lay hk))
  unfold u_lay at hlay
  rw [if_neg (by rw [hfin]; decide)] at hlay
  have hst := (u_facts hfc hkC (u_lays hts o1 hk) hi).1
  have h6 := u_store hfc hkC hkind hlay hi hty hn hfit
  refine W.putK C.1 C.2.1 (f := f) ⟨C.2.2.2.2.2.1, hts _ hl, ⟨_, _, _, u_same (hts _ hr) _ hi⟩, hst⟩ (by rw [q2]; exact h6) q1 q3 (by rw [hsl]; exact k2_hasslot (q4 k hk)) rfl rfl hd fun H' w1 w2 w3 => ?_
  rw [hsl] at w1 ⊢
  have hx : cAt G H' a (ob ci (fs.set k v)) := ⟨_, hc, t_OB.to (V := updV (vp_V fs) k v) ⟨_, w1, q2, q3, t_set q4 hap hk v⟩ (fun j _ => vp_updV_set hkl v j)⟩
  exact kk p e s m args below meth c H' _ cells slots ls C (hf.upd ha ht w2 hx w3) (hS.put w2 w3 ((hf.1 a _ _ ha).2 ht)) hL h1 h2
/-! weakenings -/
theorem go_kb {kb' : Nat} (hk : kb' ≤ kb) (kk : Go G own cc Y d mc Qr Qx kb' h pc L st) : Go G own cc Y d mc Qr Qx kb h pc L st := by
  intro p e s m args below meth c H locs cells slots ls C hf hS hL h1 h2
  exact kk p e s m args below meth c H locs cells slots ls C hf hS hL (by omega) (by omega)
theorem gox_kb {kb' : Nat} {E : String} (hk : kb' ≤ kb) (kk : GoX G own cc Y d mc Qr Qx kb' h pc L E) : GoX G own cc Y d mc Qr Qx kb h pc L E := by
  intro p e s m args below meth c H locs cells slots ls st q ce C hf hS hL h1 h2 g1 g2 g3
  exact kk p e s m args below meth c H locs cells slots ls st q ce C hf hS hL (by omega) (by omega) g1 g2 g3
/-- a cell takes another tag -/
theorem Hf.tag {h : Hp} {H : Heap} (hf : Hf G h H) {a : Nat} {t t' : Tg} {o : Cl} (ha : h a = some (t, o)) (ht : t ≠ frz) : Hf G (up h a (t', o)) H := by
  refine ⟨fun b t2 o' hb => ?_, hf.2⟩
  by_cases e : b = a
  · subst e
    rw [up_s] at hb
    cases hb
    exact ⟨(hf.1 b t o ha).1, fun _ => (hf.1 b t o ha).2 ht⟩
  · rw [up_n e] at hb
    exact hf.1 b t2 o' hb
theorem go_tag {a : Nat} {t : Tg} (t' : Tg) {o : Cl} (ha : h a = some (t, o)) (ht : t ≠ frz) (kk : Go G own cc Y d mc Qr Qx kb (up h a (t', o)) pc L st) : Go G own cc Y d mc Qr Qx kb h pc L st := by
  intro p e s m args below meth c H locs cells slots ls C hf hS hL h1 h2
  exact kk p e s m args below meth c H locs cells slots ls C (hf.tag ha ht) hS hL h1 h2
/-! longs -/
theorem r_lcmp {x y : Int64} (hd : decode cc pc = .ok (.lcmp, 1)) (kk : Go G own cc Y d mc Qr Qx kb h (pc + 1) L (.int (lg_cmp x y) :: st)) : Go G own cc Y d mc Qr Qx kb h pc L (.long y :: .long x :: st) := by
  intro p e s m args below meth c H locs cells slots ls C hf hS hL h1 h2
  exact W.lcmp C.1 C.2.1 hd (kk p e s m args below meth c H locs cells slots ls C hf hS hL h1 h2)
/-! arrays -/
theorem r_aastN {a n : Nat} {t : Tg} {f : Nat → Option Nat} {i : Int} (hd : decode cc pc = .ok (.aastore, 1)) (ha : h a = some (t, aQ "java/lang/Object" n f)) (ht : t ≠ frz) (h0 : 0 ≤ i) (hi : i < n) (hi2 : i < 2147483648) (kk : Go G own cc Y d mc Qr Qx kb (up h a (t, aQ "java/lang/Object" n (va_up f i.toNat none))) (pc + 1) L st) : Go G own cc Y d mc Qr Qx kb h pc L (.null :: .int (iZ i) :: .ref a :: st) := by
  intro p e s m args below meth c H locs cells slots ls C hf hS hL h1 h2
  have hb := vpin h0 hi hi2
  have hV := C.2.2.2.2.2.2.2.2.2.1
  refine va_WaastN (C := "java/lang/Object") C.1 C.2.1 (hf.1 a _ _ ha).1 (((va_K1 hV (ty := .object "java/lang/Object") (by decide)).2 0 _ rfl).1 n (fun j => va_rf (f j))) (fun h => by cases h) (by show ¬ (iZ i < 0 ∨ (arrV _ _ _).slots.size ≤ _); rw [arrV_size]; exact hb.1) rfl rfl hd fun H1 w1 w2 w3 => ?_
  refine kk p e s m args below meth c H1 _ cells slots ls C (hf.upd ha ht w2 ?_ w3) (hS.put w2 w3 ((hf.1 a _ _ ha).2 ht)) hL h1 h2
  show H1[a]? = some (vp_cell _ _)
  rw [w1, hb.2]
  rw [vp_cell_q, vp_cell_q, arrV_store]
  congr 2
  funext q
  by_cases hq : q = i.toNat
  · subst hq
    simp [updV, va_up, va_rf]
  · simp [updV, va_up, hq]
theorem iZ_cl {z : Int} (h0 : 0 ≤ z) (h1 : z < 2147483648) : (iZ z).toNatClampNeg = z.toNat ∧ ¬ iZ z < 0 := by
  rw [iZ_nI h0]
  exact ⟨nI_clamp (by omega), nI_pos (by omega)⟩
theorem r_castA {index a : Nat} {nm : String} {t : Tg} {ty : FieldType} {x : vp_A} (hd : decode cc pc = .ok (.checkcast index, 3)) (hl : Cond.classLink own index nm ∈ lw_all) (ha : h a = some (t, .inl (.inl (ty, x)))) (hty : ty ∈ arTys) (hnm : ∀ s : State, VF G s → s.vm.findClass nm = some (gA G ty)) (kk : Go G own cc Y d mc Qr Qx kb h (pc + 3) L (.ref a :: st)) : Go G own cc Y d mc Qr Qx kb h pc L (.ref a :: st) := by
  intro p e s m args below meth c H locs cells slots ls C hf hS hL h1 h2
  have hV := C.2.2.2.2.2.2.2.2.2.1
  exact va_castA C.1 C.2.1 C.2.2.2.2.2.1 (C.2.2.2.2.2.2.1 _ hl) (D := gD G) (cl := vwCl) (ws := [(a, .inl (gA G ty, x))]) (va_P1 (show va_at (gD G) vwCl (a, .inl (gA G ty, x)) H from (hf.1 a _ _ ha).1)) 0 rfl (hnm s hV) hd (kk p e s m args below meth c H locs cells slots ls C hf hS hL h1 h2)
theorem nmB {s : State} (hV : VF G s) : s.vm.findClass "[B" = some (gA G .byte) := (hV.2.1 .byte (by decide)).2
theorem nmQ {s : State} (hV : VF G s) : s.vm.findClass "[Ljava/lang/Object;" = some (gA G (.object "java/lang/Object")) := va_nmO (hV.2.1 (.object "java/lang/Object") (by decide)).2 rfl
theorem r_copyB {idx a0 a n0 n1 : Nat} {t0 t : Tg} {f g : Nat → Int32} {sp dp n : Int} (hd : decode cc pc = .ok (.invokestatic idx, 3)) (hl : Cond.methodLink own idx arraycopyName ∈ lw_all) (h0 : h a0 = some (t0, aI .byte n0 f)) (ha : h a = some (t, aI .byte n1 g)) (ht : t ≠ frz) (b1 : 0 ≤ sp) (b2 : 0 ≤ dp) (b3 : 0 ≤ n) (b4 : sp + n ≤ n0) (b5 : dp + n ≤ n1) (b6 : n0 < 2147483648) (b7 : n1 < 2147483648)
    (hb : ∀ i : Nat, i < n.toNat → fits .byte (.int (f (sp.toNat + i))) = true) (hdd : 1 ≤ d) (hW : (st.map fun v => v.category).sum ≤ 8) (kk : Go G own cc Y d mc Qr Qx kb (up h a (t, aI .byte n1 (va_cpy f g sp.toNat dp.toNat n.toNat))) (pc + 3) L st) : Go G own cc Y d mc Qr Qx kb h pc L (.int (iZ n) :: .int (iZ dp) :: .ref a :: .int (iZ sp) :: .ref a0 :: st) := by
  intro p e s m args below meth c H locs cells slots ls C hf hS hL h1 h2
  have hV := C.2.2.2.2.2.2.2.2.2.1
  have hts := C.2.2.2.2.2.2.1
  have hsp := iZ_cl b1 (by omega)
  have hdp := iZ_cl b2 (by omega)
  have hn := iZ_cl b3 (by omega)
  have isp := iZ_toInt (z := sp) ⟨by omega, by omega⟩
  have idp := iZ_toInt (z := dp) ⟨by omega, by omega⟩
  have inn := iZ_toInt (z := n) ⟨by omega, by omega⟩
  have hc0 : H[a0]? = some (vp_cell (gA G .byte) (n0, .inl f)) := (hf.1 a0 _ _ h0).1
  have hc1 : H[a]? = some (vp_cell (gA G .byte) (n1, .inl g)) := (hf.1 a _ _ ha).1
  have hKb := va_K1 hV (ty := .byte) (by decide)
  obtain ⟨-, k0, hk0, cm0, hkk0⟩ := (hKb.2 0 _ rfl).1 n0 (fun j => .int (f j))
  obtain ⟨-, k1, hk1, cm1, hkk1⟩ := (hKb.2 0 _ rfl).1 n1 (fun j => .int (g j))
  have hw : nativeFrameWords "java/lang/System" "arraycopy" 5 ≤ 20 := by decide
  intro T hT X
  obtain ⟨vm', X', step⟩ := X.arraycopy C.1 C.2.2.2.2.2.1 (hts _ hl) (hts _ q668) (hts _ q667) (hts _ q131) (src := a0) (dst := a) (cs := vp_cell (gA G .byte) (n0, .inl f)) (cd := vp_cell (gA G .byte) (n1, .inl g)) (srcPos := iZ sp) (destPos := iZ dp) (n := iZ n) (by rw [hT]; exact hc0) (by rw [hT]; exact hc1)
    (fun _ h => by cases h) (fun _ h => by cases h) (fun h => by cases h) (fun h => by cases h) hk0 hk1 hkk0 hkk1 (by simp [refKind]) hsp.2 hdp.2 hn.2
    (by rw [isp, inn]; show ¬ _ > ((arrV (gA G .byte) n0 (fun j => .int (f j))).slots.size : Int); rw [arrV_size]; omega)
    (by rw [idp, inn]; show ¬ _ > ((arrV (gA G .byte) n1 (fun j => .int (g j))).slots.size : Int); rw [arrV_size]; omega)
    (fun vm₁ _ i hi => by
      rw [hn.1] at hi
      have e : (vp_cell (gA G .byte) (n0, .inl f)).slots.getD ((iZ sp).toNatClampNeg + i) .null = .int (f (sp.toNat + i)) := by
        rw [hsp.1]
        show (arrV (gA G .byte) n0 (fun j => .int (f j))).slots.getD _ _ = _
        rw [Array.getD_eq_getD_getElem?, arrV_read _ _ (by omega)]
        rfl
      rw [e]
      exact ⟨hb i hi, trivial⟩)
    (g := F0 m pc ls (.int (iZ n) :: .int (iZ dp) :: .ref a :: .int (iZ sp) :: .ref a0 :: st)) rfl (by rw [C.2.2.1]; exact hL.2.1) (rest := st) rfl (by rw [C.2.1]; exact hd) hdd (by show 2 * 0 + _ + _ ≤ 40 * d + 12; omega)
  have e1 : copied (vp_cell (gA G .byte) (n0, .inl f)) (vp_cell (gA G .byte) (n1, .inl g)) (iZ sp) (iZ dp) (iZ n) = vp_cell (gA G .byte) (n1, .inl (va_cpy f g sp.toNat dp.toNat n.toNat)) := by
    rw [vp_cell_i, vp_cell_i, vp_cell_i]
    exact (va_copied (sp := (iZ sp).toNatClampNeg) (dp := (iZ dp).toNatClampNeg) (n := (iZ n).toNatClampNeg) (fun z => Value.int z) (gA G .byte) (gA G .byte) f g (n0 := n0) (n1 := n1) (by rw [hsp.1, hn.1]; omega)).trans (by rw [hsp.1, hdp.1, hn.1])
  rw [e1] at X' step
  have hlt : a < H.size := (Array.getElem?_eq_some_iff.mp hc1).1
  have hheap : ((T.setVm vm').setCell a (vp_cell (gA G .byte) (n1, .inl (va_cpy f g sp.toNat dp.toNat n.toNat)))).heap = H.setIfInBounds a (vp_cell (gA G .byte) (n1, .inl (va_cpy f g sp.toNat dp.toNat n.toNat))) := by rw [← hT]; rfl
  have oq : ∀ q : Nat, q ≠ a → (H.setIfInBounds a (vp_cell (gA G .byte) (n1, .inl (va_cpy f g sp.toNat dp.toNat n.toNat))))[q]? = H[q]? := fun q hq => by simp [Array.getElem?_setIfInBounds, Ne.symm hq]
  have hAa := (hf.1 a _ _ ha).2 ht
  obtain ⟨tt, a1, b1⟩ := kk p e s m args below meth c (H.setIfInBounds a (vp_cell (gA G .byte) (n1, .inl (va_cpy f g sp.toNat dp.toNat n.toNat)))) _ cells slots ls C (hf.upd ha ht (by simp) (show (H.setIfInBounds a _)[a]? = some _ by simp [Array.getElem?_setIfInBounds, hlt]) oq) ⟨by simp; exact hS.1, fun q g1 g2 => by
      rw [oq q (fun e => g2 (by rw [e]; exact hAa))]
      exact hS.2.1 q g1 g2, fun q hq => by
      rcases List.mem_append.mp hq with h | h
      · exact hS.2.2 q h
      · obtain ⟨z, -, hz⟩ := List.mem_map.mp h
        rw [← hz]
        exact hAa⟩ hL h1 h2 _ hheap X'
  exact ⟨tt, step tt a1, b1⟩
theorem r_copyQ {idx a0 a n0 n1 : Nat} {t0 t : Tg} {f g : Nat → Option Nat} {sp dp n : Int} (hd : decode cc pc = .ok (.invokestatic idx, 3)) (hl : Cond.methodLink own idx arraycopyName ∈ lw_all) (h0 : h a0 = some (t0, aQ "java/lang/Object" n0 f)) (ha : h a = some (t, aQ "java/lang/Object" n1 g)) (ht : t ≠ frz) (b1 : 0 ≤ sp) (b2 : 0 ≤ dp) (b3 : 0 ≤ n) (b4 : sp + n ≤ n0) (b5 : dp + n ≤ n1) (b6 : n0 < 2147483648) (b7 : n1 < 2147483648)
    (hb : ∀ i : Nat, i < n.toNat → ∀ y : Nat, f (sp.toNat + i) = some y → ∃ tv ci fs, h y = some (tv, ob ci fs)) (hdd : 1 ≤ d) (hW : (st.map fun v => v.category).sum ≤ 8) (kk : Go G own cc Y d mc Qr Qx kb (up h a (t, aQ "java/lang/Object" n1 (va_cpy f g sp.toNat dp.toNat n.toNat))) (pc + 3) L st) : Go G own cc Y d mc Qr Qx kb h pc L (.int (iZ n) :: .int (iZ dp) :: .ref a :: .int (iZ sp) :: .ref a0 :: st) := by
  intro p e s m args below meth c H locs cells slots ls C hf hS hL h1 h2
  have hV := C.2.2.2.2.2.2.2.2.2.1
  have hts := C.2.2.2.2.2.2.1
  have hsp := iZ_cl b1 (by omega)
  have hdp := iZ_cl b2 (by omega)
  have hn := iZ_cl b3 (by omega)
  have isp := iZ_toInt (z := sp) ⟨by omega, by omega⟩
  have idp := iZ_toInt (z := dp) ⟨by omega, by omega⟩
  have inn := iZ_toInt (z := n) ⟨by omega, by omega⟩
  generalize hcA : gA G (.object "java/lang/Object") = cA at *
  have hc0 : H[a0]? = some (vp_cell cA (n0, .inr (.inr (.inr (.inr f))))) := hcA ▸ (hf.1 a0 _ _ h0).1
  have hc1 : H[a]? = some (vp_cell cA (n1, .inr (.inr (.inr (.inr g))))) := hcA ▸ (hf.1 a _ _ ha).1
  have hKb := va_K1 hV (ty := .object "java/lang/Object") (by decide)
  rw [hcA] at hKb
  obtain ⟨-, k0, hk0, cm0, hkk0⟩ := (hKb.2 0 _ rfl).1 n0 (fun j => va_rf (f j))
  obtain ⟨-, k1, hk1, cm1, hkk1⟩ := (hKb.2 0 _ rfl).1 n1 (fun j => va_rf (g j))
  have hw : nativeFrameWords "java/lang/System" "arraycopy" 5 ≤ 20 := by decide
  intro T hT X
  obtain ⟨vm', X', step⟩ := X.arraycopy C.1 C.2.2.2.2.2.1 (hts _ hl) (hts _ q668) (hts _ q667) (hts _ q131) (src := a0) (dst := a) (cs := vp_cell cA (n0, .inr (.inr (.inr (.inr f))))) (cd := vp_cell cA (n1, .inr (.inr (.inr (.inr g))))) (srcPos := iZ sp) (destPos := iZ dp) (n := iZ n) (by rw [hT]; exact hc0) (by rw [hT]; exact hc1)
    (fun _ h => by cases h) (fun _ h => by cases h) (fun h => by cases h) (fun h => by cases h) hk0 hk1 hkk0 hkk1 rfl hsp.2 hdp.2 hn.2
    (by rw [isp, inn]; show ¬ _ > ((arrV cA n0 (fun j => va_rf (f j))).slots.size : Int); rw [arrV_size]; omega)
    (by rw [idp, inn]; show ¬ _ > ((arrV cA n1 (fun j => va_rf (g j))).slots.size : Int); rw [arrV_size]; omega)
    (fun vm₁ hal i hi => by
      rw [hn.1] at hi
      have e : (vp_cell cA (n0, .inr (.inr (.inr (.inr f))))).slots.getD ((iZ sp).toNatClampNeg + i) .null = va_rf (f (sp.toNat + i)) := by
        rw [hsp.1]
        show (arrV cA n0 (fun j => va_rf (f j))).slots.getD _ _ = _
        rw [Array.getD_eq_getD_getElem?, arrV_read _ _ (by omega)]
        rfl
      rw [e]
      cases hy : f (sp.toNat + i) with
      | none => exact ⟨rfl, trivial⟩
      | some y =>
        obtain ⟨tv, ci, fs, hv⟩ := hb i hi y hy
        obtain ⟨cellV, g1, g2, ⟨kC, hkC⟩, hasg⟩ := ob_any hV hf hv
        obtain ⟨kA, comp, r1, r2, r3, -⟩ := (hKb.2 0 _ rfl).2
        cases hk1.symm.trans r1
        cases hkk1.symm.trans r2
        obtain ⟨kE, hkE, -⟩ := Vm.findClass_spec r3
        obtain ⟨kC', hkC', -⟩ := hal.2.2 _ _ hkC
        obtain ⟨kE', hkE', -⟩ := hal.2.2 _ _ hkE
        refine ⟨rfl, cellV, (show T.heap[y]? = some cellV by rw [hT]; exact g1), (fun q h => by rw [h] at g2; cases g2), ⟨kC', hkC'⟩, ?_, ?_⟩
        · exact ⟨kE', hkE'⟩
        · show vm₁.assignable _ _ = true
          rw [hal.assignable]
          exact hasg _ r3)
    (g := F0 m pc ls (.int (iZ n) :: .int (iZ dp) :: .ref a :: .int (iZ sp) :: .ref a0 :: st)) rfl (by rw [C.2.2.1]; exact hL.2.1) (rest := st) rfl (by rw [C.2.1]; exact hd) hdd (by show 2 * 0 + _ + _ ≤ 40 * d + 12; omega)
  have e1 : copied (vp_cell cA (n0, .inr (.inr (.inr (.inr f))))) (vp_cell cA (n1, .inr (.inr (.inr (.inr g))))) (iZ sp) (iZ dp) (iZ n) = vp_cell cA (n1, .inr (.inr (.inr (.inr (va_cpy f g sp.toNat dp.toNat n.toNat))))) := by
    rw [vp_cell_q, vp_cell_q, vp_cell_q]
    exact (va_copied (sp := (iZ sp).toNatClampNeg) (dp := (iZ dp).toNatClampNeg) (n := (iZ n).toNatClampNeg) (fun z => va_rf z) cA cA f g (n0 := n0) (n1 := n1) (by rw [hsp.1, hn.1]; omega)).trans (by rw [hsp.1, hdp.1, hn.1])
  rw [e1] at X' step
  have hlt : a < H.size := (Array.getElem?_eq_some_iff.mp hc1).1
  have hheap : ((T.setVm vm').setCell a (vp_cell cA (n1, .inr (.inr (.inr (.inr (va_cpy f g sp.toNat dp.toNat n.toNat))))))).heap = H.setIfInBounds a (vp_cell cA (n1, .inr (.inr (.inr (.inr (va_cpy f g sp.toNat dp.toNat n.toNat)))))) := by rw [← hT]; rfl
  have oq : ∀ q : Nat, q ≠ a → (H.setIfInBounds a (vp_cell cA (n1, .inr (.inr (.inr (.inr (va_cpy f g sp.toNat dp.toNat n.toNat)))))))[q]? = H[q]? := fun q hq => by simp [Array.getElem?_setIfInBounds, Ne.symm hq]
  have hAa := (hf.1 a _ _ ha).2 ht
  subst hcA
  obtain ⟨tt, a1, b1⟩ := kk p e s m args below meth c (H.setIfInBounds a (vp_cell (gA G (.object "java/lang/Object")) (n1, .inr (.inr (.inr (.inr (va_cpy f g sp.toNat dp.toNat n.toNat))))))) _ cells slots ls C (hf.upd ha ht (by simp) (show (H.setIfInBounds a _)[a]? = some _ by simp [Array.getElem?_setIfInBounds, hlt]) oq) ⟨by simp; exact hS.1, fun q g1 g2 => by
      rw [oq q (fun e => g2 (by rw [e]; exact hAa))]
      exact hS.2.1 q g1 g2, fun q hq => by
      rcases List.mem_append.mp hq with h | h
      · exact hS.2.2 q h
      · obtain ⟨z, -, hz⟩ := List.mem_map.mp h
        rw [← hz]
        exact hAa⟩ hL h1 h2 _ hheap X'
  exact ⟨tt, step tt a1, b1⟩
/-- a byte array is cloned -/
theorem r_cloneB {idx a n : Nat} {t : Tg} {f : Nat → Int32} {kb' : Nat} (tg : Tg) (hd : decode cc pc = .ok (.invokevirtual idx, 3)) (hl : Cond.methodLink own idx ⟨"[B", "clone", "()Ljava/lang/Object;"⟩ ∈ lw_all) (ha : h a = some (t, aI .byte n f)) (hb : ∀ i : Nat, i < n → fits .byte (.int (f i)) = true) (hdd : 1 ≤ d) (hW : (st.map fun v => v.category).sum ≤ 8) (hk : kb' + (n + 1) ≤ kb)
    (kk : ∀ q, h q = none → 0 < q → Go G own cc Y d mc Qr Qx kb' (up h q (tg, aI .byte n f)) (pc + 3) L (.ref q :: st)) : Go G own cc Y d mc Qr Qx kb h pc L (.ref a :: st) := by
  intro p e s m args below meth c H locs cells slots ls C hf hS hL h1 h2
  have hV := C.2.2.2.2.2.2.2.2.2.1
  have hts := C.2.2.2.2.2.2.1
  have hc0 : H[a]? = some (vp_cell (gA G .byte) (n, .inl f)) := (hf.1 a _ _ ha).1
  have hKb := va_K1 hV (ty := .byte) (by decide)
  have hsz : (vp_cell (gA G .byte) (n, .inl f)).slots.size = n := arrV_size _ _ _
  obtain ⟨c0, t0', f1, f2, f3⟩ := Cond.castable_spec (va_Nw.use (A := args) rfl (hV.2.2.1 _ q661 rfl))
  cases (nmB hV).symm.trans f1
  intro T hT X
  obtain ⟨-, kA, hkA, comp, hkind⟩ := State.isArrayOf_alike X.warmed.alike ((hKb.2 0 _ rfl).1 0 (fun _ => .null))
  obtain ⟨-, kS, hkS, compS, hkindS⟩ := (hKb.2 0 _ rfl).1 0 (fun _ => .null)
  obtain ⟨vm', X', step⟩ := X.cloneArray C.1 C.2.2.2.2.2.1 (hts _ hl) (hts _ q657) (hts _ q658) (hts _ q659) (hts _ q660) (a := a) (cell := vp_cell (gA G .byte) (n, .inl f)) (by rw [hT]; exact hc0) (fun k h => by cases h) (fun h => by cases h) (nmB hV) f2 f3
    (fun i v hv => by
      have hk' : T.vm.classes[gA G .byte]? = some kA := hkA
      have hi : i < n := by
        have := (Array.getElem?_eq_some_iff.mp hv).1
        rw [hsz] at this
        exact this
      have : v = .int (f i) := by
        have e := arrV_read (gA G .byte) (fun j => Value.int (f j)) hi
        exact Option.some.inj (hv.symm.trans e)
      rw [this]
      simpa [State.fitsSlot, State.slotType?, vp_cell, arrV, hk', hkind] using hb i hi)
    (g := F0 m pc ls (.ref a :: st)) rfl (by rw [C.2.2.1]; exact hL.2.1) (rest := st) rfl (by rw [C.2.1]; exact hd) hdd (by show 2 * 0 + _ + 14 ≤ 40 * d + 12; omega) (by show cells + 1 ≤ mc; omega) (by rw [hsz]; show slots + n ≤ mc; omega) (hloader := Vm.clonesLoader_of_array hkS hkindS)
  rw [show ({ cls := (vp_cell (gA G .byte) (n, .inl f)).cls, slots := (vp_cell (gA G .byte) (n, .inl f)).slots } : Cell) = vp_cell (gA G .byte) (n, .inl f) from rfl, hsz] at X'
  generalize hH1 : H.push (vp_cell (gA G .byte) (n, .inl f)) = H1
  have z1 : H1.size = H.size + 1 := by rw [← hH1, Array.size_push]
  have e1 : H1[H.size]? = some (vp_cell (gA G .byte) (n, .inl f)) := by rw [← hH1, Array.getElem?_push_size]
  have o5 : ∀ q : Nat, q < H.size → H1[q]? = H[q]? := fun q hq => by rw [← hH1, Array.getElem?_push, if_neg (Nat.ne_of_lt hq)]
  obtain ⟨hf', hn⟩ := hf.new (t := tg) (o := aI .byte n f) z1 e1 o5
  obtain ⟨tt, a1, b1⟩ := kk H.size hn (by have := hf.2.1; omega) p e s m args below meth c H1 locs (cells + 1) (slots + n) ls C hf' ⟨Nat.le_trans hS.1 (by omega), fun x g1 g2 => (o5 x (Nat.lt_of_lt_of_le g1 hS.1)).trans (hS.2.1 x g1 g2), hS.2.2⟩ hL (by omega) (by omega) _ (by rw [← hH1, ← hT]; rfl) X'
  refine ⟨tt, ?_, b1⟩
  have := step tt
  rw [hT] at this
  exact this a1
/-! class objects -/
theorem r_getC {idx a n : Nat} {t : Tg} {f : Nat → Option Nat} (hd : decode cc pc = .ok (.invokevirtual idx, 3)) (hl : Cond.methodLink own idx ⟨"java/lang/Object", "getClass", "()Ljava/lang/Class;"⟩ ∈ lw_all) (ha : h a = some (t, aQ "java/lang/Object" n f)) (hdd : 1 ≤ d) (hW : (st.map fun v => v.category).sum ≤ 8) (kk : Go G own cc Y d mc Qr Qx kb h (pc + 3) L (.ref (gS G 5) :: st)) : Go G own cc Y d mc Qr Qx kb h pc L (.ref a :: st) := by
  intro p e s m args below meth c H locs cells slots ls C hf hS hL h1 h2
  have hV := C.2.2.2.2.2.2.2.2.2.1
  have hts := C.2.2.2.2.2.2.1
  have hc0 : H[a]? = some (vp_cell (gA G (.object "java/lang/Object")) (n, .inr (.inr (.inr (.inr f))))) := (hf.1 a _ _ ha).1
  exact va_getC C.1 C.2.1 (C.2.2.1.trans hL.2.1.symm) C.2.2.2.2.2.1 (hts _ hl) (va_Nw.use rfl (hV.2.2.1 _ q3286 rfl)) (hts _ q3285) (hts _ q382) (hts _ q418) hV.2.2.2.2.2.2.2.2.2.2.1 ⟨_, hc0, rfl, nmQ hV⟩ hdd (by show _ + 14 ≤ 40 * d + 12; omega) hd (kk p e s m args below meth c H locs cells slots ls C hf hS hL h1 h2)
theorem r_ldcM {idx : Nat} (hd : decode cc pc = .ok (.ldc idx, 2)) (hl : Cond.classLink own idx "[Ljava/lang/Object;" ∈ lw_all) (kk : Go G own cc Y d mc Qr Qx kb h (pc + 2) L (.ref (gS G 5) :: st)) : Go G own cc Y d mc Qr Qx kb h pc L st := by
  intro p e s m args below meth c H locs cells slots ls C hf hS hL h1 h2
  have hV := C.2.2.2.2.2.2.2.2.2.1
  have hts := C.2.2.2.2.2.2.1
  exact va_ldcM C.1 C.2.1 C.2.2.2.2.2.1 (hts _ hl) hV.2.2.2.2.2.2.2.2.2.2.1 hd (kk p e s m args below meth c H locs cells slots ls C hf hS hL h1 h2)
/-! a virtual call, whatever its reference names: x is named, owner declares it, y is run on a Cn -/
def CUok (G : Gl) (own Cn owner : String) (idx : Nat) (x y : MethodName) (bytes : ByteArray) (nL1 : Nat) (r : Option FieldType) (n : Nat) : Prop :=
  (∀ (s : State) (args : Array Value), (∀ w ∈ lw_all, w.before args s = true) → VF G s → (Cond.methodLink own idx x).before args s = true ∧ (Cond.sameMethod x.cls owner x.name x.desc).before args s = true ∧ va_Decl s ⟨owner, x.name, x.desc⟩ ∧ (Cond.selects Cn x y).before args s = true ∧ (Cond.instanceMethod y).before args s = true ∧ (Cond.initialized y.cls).before args s = true) ∧
  Cond.code y bytes nL1 r ∈ lw_all ∧ (owner ≠ "java/lang/invoke/MethodHandle" ∧ owner ≠ "java/lang/invoke/VarHandle") ∧ (parseMethodDescriptor x.desc).map (fun d => d.parameters.length) = some n ∧ nL1 ≤ 21
theorem r_callG {x y : MethodName} {bytes : ByteArray} {nL1 d1 k1 kb' n idx : Nat} {As : List Value} {Qr1 : Option Value → Hp → Prop} {Qx1 : String → Hp → Prop} {st0 : List Value} {r : Option FieldType} {Cn owner : String} {b ci N : Nat} {T : u_T} {t : Tg} {fs : List Value} (hd : decode cc pc = .ok (.invokevirtual idx, 3)) (K : CUok G own Cn owner idx x y bytes nL1 r n) (M : Ct G d1 k1 y (Cond.code y bytes nL1 r) (.ref b :: As) h Qr1 Qx1) (ha : h b = some (t, ob ci fs)) (hc : vwCl[ci]? = some (Cn, T, N)) (hk : kb' + k1 ≤ kb) (hdd : d1 + 1 ≤ d) (hn : As.length = n) (hst : st0 = As.reverse ++ .ref b :: st) (hW : (st.map fun v => v.category).sum ≤ 8)
    (kx : ∀ E h', Qx1 E h' → GoX G own cc Y d mc Qr Qx kb' h' pc L E) (kk : ∀ v h', Qr1 v h' → Go G own cc Y d mc Qr Qx kb' h' (pc + 3) L (v.toList ++ st)) : Go G own cc Y d mc Qr Qx kb h pc L st0 := by
  intro p e s m args below meth c H locs cells slots ls C hf hS hL h1 h2
  have hts := C.2.2.2.2.2.2.1
  have hV := C.2.2.2.2.2.2.2.2.2.1
  obtain ⟨g1, g2, g3, g4, g5, g6⟩ := K.1 s args hts hV
  have hR := rmOk (mc := mc) (k1 := k1) hdd K.2.2.2.2
  exact run_go kx kk hk C hS hL h1 h2 (vx_runU (n := n) (x := x) (C := Cn) (owner := owner) (maxL := nL1) (ret := r) (bytes := bytes) ⟨C.1, C.2.1, C.2.2.1, C.2.2.2.2.2.1, hts⟩ M ⟨⟨rfl, rfl, hR.1, hR.2, pay_in hts (lw_meth K.2.1), List.mem_cons_self⟩, hts _ K.2.1, g6, K.2.2.1, fun sig hsig => (by
      have h2 := K.2.2.2.1
      rw [hsig] at h2
      exact (Option.some.inj h2).symm), g1, g2, g3, g4, g5⟩ ⟨ct_blind, ob_recv hV (hf.1 b _ _ ha).1 hc, fun U hU hW => ⟨rfl, hV.moved hW, by rw [hU]; exact hf⟩⟩ rfl hn hL.2.1 hst (by show 2 * 0 + _ ≤ 8; omega) hd ⟨by show cells + k1 ≤ mc; omega, by show slots + k1 ≤ mc; omega⟩)
abbrev CUr (owner : String) (x y : MethodName) (bytes : ByteArray) (nL1 : Nat) (r : Option FieldType) (n : Nat) : Prop := Cond.instanceMethod y ∈ lw_all ∧ Cond.initialized y.cls ∈ lw_all ∧ Cond.code y bytes nL1 r ∈ lw_all ∧ (owner ≠ "java/lang/invoke/MethodHandle" ∧ owner ≠ "java/lang/invoke/VarHandle") ∧ (parseMethodDescriptor x.desc).map (fun d => d.parameters.length) = some n ∧ nL1 ≤ 21
section CU
variable {Cn owner : String} {idx : Nat} {x y : MethodName} {bytes : ByteArray} {nL1 : Nat} {r : Option FieldType} {n : Nat}
/-- the declared method has code of its own -/
theorem cu_U {b0 : ByteArray} {m0 : Nat} {r0 : Option FieldType} (hl : Cond.methodLink own idx x ∈ lw_all) (hs : Cond.sameMethod x.cls owner x.name x.desc ∈ lw_all) (hi : Cond.instanceMethod ⟨owner, x.name, x.desc⟩ ∈ lw_all) (h0 : Cond.code ⟨owner, x.name, x.desc⟩ b0 m0 r0 ∈ lw_all) (he : Cond.selects Cn x y ∈ lw_all) (R : CUr owner x y bytes nL1 r n) : CUok G own Cn owner idx x y bytes nL1 r n :=
  ⟨fun s args hts hV => ⟨hts _ hl, hts _ hs, va_Decl.of (hts _ hi) (hts _ h0), hts _ he, hts _ R.1, hts _ R.2.1⟩, R.2.2⟩
/-- the declared method is only declared -/
theorem cu_D (hl : Cond.methodLink own idx x ∈ lw_all) (hs : Cond.sameMethod x.cls owner x.name x.desc ∈ lw_all) (h0 : Cond.declares ⟨owner, x.name, x.desc⟩ ∈ lw_tbl) (he : Cond.selects Cn x y ∈ lw_all) (R : CUr owner x y bytes nL1 r n) : CUok G own Cn owner idx x y bytes nL1 r n :=
  ⟨fun s args hts hV => ⟨hts _ hl, hts _ hs, va_Decl.abs (hV.2.2.1 _ h0 rfl), hts _ he, hts _ R.1, hts _ R.2.1⟩, R.2.2⟩
/-- a private method, on an object of a subclass -/
theorem cu_P {Nn : Nat} (hl : Cond.methodLink own idx y ∈ lw_all) (hs : Cond.sameMethod y.cls y.cls y.name y.desc ∈ lw_all) (hp : Cond.privateMethod y ∈ lw_tbl) (hin : Cond.instantiable Cn Nn ∈ lw_all) (R : CUr y.cls y y bytes nL1 r n) : CUok G own Cn y.cls idx y y bytes nL1 r n := by
  refine ⟨fun s args hts hV => ⟨hts _ hl, hts _ hs, va_Decl.of (hts _ R.1) (hts _ R.2.2.1), ?_, hts _ R.1, hts _ R.2.1⟩, R.2.2⟩
  have hpriv : (Cond.privateMethod y).before args s = true := va_Nw.use rfl (hV.2.2.1 _ hp rfl)
  obtain ⟨c, k, hc, hk, -, -, -, -⟩ := Cond.instantiable_spec (hts _ hin)
  obtain ⟨cn, ck, r1, hcn, hck, hni, hf, hn1⟩ := Cond.sameMethod_found (hts _ hs)
  obtain ⟨mk, methM, hnamed, hmethM, -, -⟩ := Cond.instanceMethod_spec (hts _ R.1)
  have hm1 : mk = r1 := Option.some.inj (hnamed.symm.trans hn1)
  subst hm1
  have hcls : mk.cls = cn := Option.some.inj ((findClass_of_methodNamed hnamed).symm.trans hcn)
  have hsel : selectMethod {} s.vm c mk = .method mk := selectMethod_private hmethM (Cond.privateMethod_at hpriv mk methM hnamed hmethM)
  simp only [Cond.before, Cond.holds, Cond.value, hc, hf, hnamed, hsel, hcls, hck]
  simp
  exact hni
/-- what one name selects, the other does -/
theorem sel_same {s : State} {args : Array Value} (hs : (Cond.sameMethod x.cls owner x.name x.desc).before args s = true) (ho : owner ≠ "java/lang/invoke/MethodHandle" ∧ owner ≠ "java/lang/invoke/VarHandle") (he : (Cond.selects Cn ⟨owner, x.name, x.desc⟩ y).before args s = true) : (Cond.selects Cn x y).before args s = true := by
  obtain ⟨cn, ck, r1, hcn, hck, hni, hf, hn1⟩ := Cond.sameMethod_found hs
  have hf2 : s.methodFound? owner x.name x.desc = some r1 := State.methodFound?_of_named hn1 ho
  simp only [Cond.before, Cond.holds, Cond.value, hf, hf2] at he ⊢
  exact he
/-- the two calls of xwT: an interface's method, found by a class' name -/
theorem cu_X (hl : Cond.methodLink own idx x ∈ xwT) (hs : Cond.sameMethod x.cls owner x.name x.desc ∈ xwT) (hg : goodWord (Cond.methodLink own idx x) = true) (h0 : Cond.declares ⟨owner, x.name, x.desc⟩ ∈ lw_tbl) (he : Cond.selects Cn ⟨owner, x.name, x.desc⟩ y ∈ lw_all) (R : CUr owner x y bytes nL1 r n) : CUok G own Cn owner idx x y bytes nL1 r n :=
  ⟨fun s args hts hV => ⟨va_Nw.use (w := Cond.methodLink own idx x) rfl (hV.2.2.2.2.2.2.2.2.2.2.2.1 _ hl), va_Nw.use (w := Cond.sameMethod x.cls owner x.name x.desc) rfl (hV.2.2.2.2.2.2.2.2.2.2.2.1 _ hs), va_Decl.abs (hV.2.2.1 _ h0 rfl), sel_same (va_Nw.use (w := Cond.sameMethod x.cls owner x.name x.desc) rfl (hV.2.2.2.2.2.2.2.2.2.2.2.1 _ hs)) R.2.2.2.1 (hts _ he), hts _ R.1, hts _ R.2.1⟩, R.2.2⟩
end CU
/-- super.m(..) -/
theorem r_callSU {y : MethodName} {bytes : ByteArray} {nL1 d1 k1 kb' n idx : Nat} {As : List Value} {Qr1 : Option Value → Hp → Prop} {Qx1 : String → Hp → Prop} {st0 : List Value} {r : Option FieldType} {Cn : String} {b ci N : Nat} {T : u_T} {t : Tg} {fs : List Value} (hd : decode cc pc = .ok (.invokespecial idx, 3)) (hl : Cond.methodLink own idx y ∈ lw_all) (hs : Cond.sameMethod y.cls y.cls y.name y.desc ∈ lw_all) (hsu : Cond.superclass own y.cls ∈ lw_all) (hno : y.name ≠ "<init>") (R : CUr y.cls y y bytes nL1 r n) (M : Ct G d1 k1 y (Cond.code y bytes nL1 r) (.ref b :: As) h Qr1 Qx1) (ha : h b = some (t, ob ci fs)) (hc : vwCl[ci]? = some (Cn, T, N)) (hk : kb' + k1 ≤ kb) (hdd : d1 + 1 ≤ d) (hn : As.length = n) (hst : st0 = As.reverse ++ .ref b :: st) (hW : (st.map fun v => v.category).sum ≤ 8)
    (kx : ∀ E h', Qx1 E h' → GoX G own cc Y d mc Qr Qx kb' h' pc L E) (kk : ∀ v h', Qr1 v h' → Go G own cc Y d mc Qr Qx kb' h' (pc + 3) L (v.toList ++ st)) : Go G own cc Y d mc Qr Qx kb h pc L st0 := by
  intro p e s m args below meth c H locs cells slots ls C hf hS hL h1 h2
  have hts := C.2.2.2.2.2.2.1
  have hV := C.2.2.2.2.2.2.2.2.2.1
  exact run_go kx kk hk C hS hL h1 h2 (vx_runSU (n := n) (C := Cn) (hV.1.1 ci _ hc).2 ⟨C.1, C.2.1, C.2.2.1, C.2.2.2.2.2.1, hts⟩ M (va_cwSU n hts (lw_app (c := Cond.code y bytes nL1 r :: lw_all) (fun w hw => by
      simp only [List.mem_cons, List.not_mem_nil, or_false] at hw
      rcases hw with rfl | rfl | rfl | rfl | rfl
      · exact hl
      · exact hs
      · exact hsu
      · exact R.1
      · exact R.2.1) (lw_meth R.2.2.1)) rfl rfl rfl ⟨hno, R.2.2.2.2.1⟩ (rmOk hdd R.2.2.2.2.2)) ⟨ct_blind, ob_recv hV (hf.1 b _ _ ha).1 hc, fun U hU hW => ⟨rfl, hV.moved hW, by rw [hU]; exact hf⟩⟩ rfl hn hL.2.1 hst (by show 2 * 0 + _ ≤ 8; omega) hd ⟨by show cells + k1 ≤ mc; omega, by show slots + k1 ≤ mc; omega⟩)
end RD
