set_option maxRecDepth 100000
/-! an exception that is caught, kept and thrown again -/
section
variable {p : Program} {l : Launch} {e : Env} {R : Room} {s : State} {m : MethodId} {args : Array Value} {below : List Frame} {meth : Method} {c : Code} {H : Heap} {locs : List Loc} {cells slots : Nat} {Q : State → Prop} {pc : Nat} {ls : Array Slot} {rest : List Value}
theorem my_catchAny {E : String} {ce : Cell} {q : Addr} (pre : List ExceptionTableEntry) (x : ExceptionTableEntry) (suf : List ExceptionTableEntry) (hsplit : c.exceptionTable.toList = pre ++ x :: suf)
    (hpass : ∀ z ∈ pre, covers z pc = false) (hx : covers x pc = true) (h0 : x.catchType = 0)
    (hcell : H[q]? = some ce) (hv : ce.vm = .none) (hcl : s.vm.findClass E = some ce.cls)
    (kk : W p l e R s m args below meth c H locs cells slots Q (F0 m x.handlerPc ls [.ref q])) : vx_W p l e R s m args below meth c H locs cells slots Q (F0 m pc ls rest) q := by
  intro T hT X
  obtain ⟨vm', X', st⟩ := X.thenCaughtThrough q (g := F0 m pc ls rest) rfl (Steps.refl _) (by rw [hT]; exact hcell) (by rw [hv]; rfl) (by obtain ⟨k9, h9, -⟩ := Vm.findClass_spec hcl; exact ⟨k9, h9⟩) pre x suf hsplit
    (fun z hz => Or.inl (hpass z hz)) hx (Or.inl h0)
  obtain ⟨t, a1, b1⟩ := kk (T.setVm vm') hT X'
  exact ⟨t, st.trans a1, b1⟩
end
/-- cells that are no exception -/
def Gd : Cl → Prop
  | .inl (.inl (ty, _)) => ty ∈ arTys
  | .inl (.inr (ci, _)) => ∃ r, vwCl[ci]? = some r
  | .inr _ => False
def FrG (P : Tg → Prop) (h h' : Hp) : Prop := ∀ a t o, h a = some (t, o) → Gd o → ¬ P t → h' a = some (t, o)
theorem Fr.g {P : Tg → Prop} {h h' : Hp} (f : Fr P h h') : FrG P h h' := fun a t o ha _ hn => f a t o ha hn
theorem FrG.tr {P : Tg → Prop} {h h1 h2 : Hp} (a : FrG P h h1) (b : FrG P h1 h2) : FrG P h h2 := fun x t o hx hg ht => b x t o (a x t o hx hg ht) hg ht
theorem FrG.wk {P Q : Tg → Prop} {h h1 : Hp} (a : FrG P h h1) (w : ∀ t, P t → Q t) : FrG Q h h1 := fun x t o hx hg ht => a x t o hx hg (fun q => ht (w t q))
theorem FrG.get {P : Tg → Prop} {h0 h : Hp} (hf : FrG P h0 h) {a : Nat} {x : Tg × Cl} (ha : h0 a = some x) (hg : Gd x.2) (hn : ¬ P x.1) : h a = some x := hf a x.1 x.2 ha hg hn
/-- an exception of the class UnsupportedOperationException -/
def exC (G : Gl) (ce : Cell) : Prop := ce.vm = .none ∧ ce.cls = gS G 6
theorem vw_names : ∀ r ∈ vwCl, r.1 ≠ eUOE := by
  intro q hq
  simp only [vwCl, List.mem_cons, List.not_mem_nil, or_false] at hq
  rcases hq with rfl | rfl | rfl | rfl | rfl | rfl | rfl | rfl | rfl | rfl | rfl | rfl | rfl | rfl | rfl | rfl | rfl | rfl | rfl | rfl <;> decide
theorem vp_cell_cls {cA : ClassId} {a : vp_A} : ∃ n z, vp_cell cA a = arrV cA n z := by
  obtain ⟨n, f | f | f | f | f⟩ := a
  · exact ⟨n, fun j => .int (f j), rfl⟩
  · exact ⟨n, fun j => .long (f j), rfl⟩
  · exact ⟨n, fun j => .float (f j), rfl⟩
  · exact ⟨n, fun j => .double (f j), rfl⟩
  · exact ⟨n, fun j => va_rf (f j), rfl⟩
theorem exC_ne {G : Gl} {h : Hp} {H : Heap} {s : State} {args : Array Value} (hV : VF G s) (hts : ∀ w ∈ lw_all, w.before args s = true) (hf : Hf G h H) {q : Nat} {ce : Cell} (hc : H[q]? = some ce) (he : exC G ce) {b : Nat} {t : Tg} {o : Cl} (hb : h b = some (t, o)) (hg : Gd o) : b ≠ q := by
  intro e
  subst e
  have hU := hV.2.2.2.2.2.2.2.2.2.2.2.2
  have hA := (hf.1 b t o hb).1
  rcases o with (⟨ty, x⟩ | ⟨ci, fs⟩) | c
  · have hA : H[b]? = some (vp_cell (gA G ty) x) := hA
    obtain ⟨n, z, hz⟩ := @vp_cell_cls (gA G ty) x
    rw [hc] at hA
    have h1 := Option.some.inj hA
    obtain ⟨-, k, hk, comp, hkind⟩ := (hV.2.1 ty hg).1 n z
    obtain ⟨c2, k2, g1, g2, g3, -⟩ := Cond.instantiable_spec (hts _ q1552)
    have hcls : gS G 6 = gA G ty := by
      rw [← he.2, h1, hz]
      rfl
    rw [hU] at g1
    cases g1
    rw [hcls] at g2
    have hk' : s.vm.classes[gA G ty]? = some k := hk
    rw [hk'] at g2
    cases g2
    rw [hkind] at g3
    cases g3
  · obtain ⟨r, hr⟩ := hg
    obtain ⟨r2, hr2, cell, g1, g2, -, -⟩ := hA
    cases hr.symm.trans hr2
    rw [hc] at g1
    cases g1
    have hat := (hV.1.1 ci _ hr).2
    obtain ⟨k1, a1, a2⟩ := Vm.findClass_spec hat.1
    obtain ⟨k2, b1, b2⟩ := Vm.findClass_spec hU
    have hcls : gS G 6 = (gD G).1 ci := by rw [← he.2]; exact g2
    rw [hcls, a1] at b1
    cases b1
    exact vw_names _ (List.mem_of_getElem? hr) (a2.symm.trans b2)
  · exact hg
section RX
variable {G : Gl} {own : String} {cc : ByteArray} {Y : Mt} {d mc : Nat} {Qr : Option Value → Hp → Prop} {Qx : String → Hp → Prop} {kb : Nat} {h : Hp} {pc : Nat} {L : List (Option Value)} {st : List Value}
/-- caught and kept -/
theorem x_catchK {nm : String} (pre : List ExceptionTableEntry) (x : ExceptionTableEntry) (suf : List ExceptionTableEntry) (hsplit : tableOf Y.2.2.2 = pre ++ x :: suf)
    (hpass : ∀ z ∈ pre, covers z pc = false) (hx : covers x pc = true) (h0 : x.catchType = 0 ∨ (x.catchType ≠ 0 ∧ Cond.classLink own x.catchType nm ∈ lw_all ∧ Cond.castable eUOE nm ∈ lw_tbl))
    (kk : ∀ q ce, exC G ce → (∀ b t o, h b = some (t, o) → Gd o → b ≠ q) → Go G own cc Y d mc Qr Qx kb (up h q (frz, .inr ce)) x.handlerPc L [.ref q]) : GoX G own cc Y d mc Qr Qx kb h pc L eUOE := by
  intro p e s m args below meth c H locs cells slots ls st q ce C hf hS hL h1 h2 g1 g2 g3
  have hts := C.2.2.2.2.2.2.1
  have hV := C.2.2.2.2.2.2.2.2.2.1
  have hce : exC G ce := ⟨g2, by
    have hU := hV.2.2.2.2.2.2.2.2.2.2.2.2
    rw [hU] at g3
    exact (Option.some.inj g3).symm⟩
  have hf' : Hf G (up h q (frz, .inr ce)) H := by
    refine ⟨fun b t o hb => ?_, hf.2⟩
    by_cases e : b = q
    · subst e
      rw [up_s] at hb
      cases hb
      exact ⟨g1, fun q => absurd rfl q⟩
    · rw [up_n e] at hb
      exact hf.1 b t o hb
  have K := kk q ce hce (fun b t o hb hg => exC_ne hV hts hf g1 hce hb hg) p e s m args below meth c H locs cells slots ls C hf' hS hL h1 h2
  rcases h0 with h0 | ⟨h0, hl, hcast⟩
  · exact my_catchAny pre x suf (C.2.2.2.2.2.2.2.2.1.trans hsplit) hpass hx h0 g1 g2 g3 K
  · exact vx_catch C.2.2.2.2.2.1 pre x suf (C.2.2.2.2.2.2.2.2.1.trans hsplit) (fun z hz => Or.inl (hpass z hz)) hx h0 (hts _ hl) (va_Nw.use rfl (hV.2.2.1 _ hcast rfl)) g1 g2 g3 K
/-- thrown again -/
theorem r_rethrow {q : Nat} {ce : Cell} {t : Tg} (hd : decode cc pc = .ok (.athrow, 1)) (hq : h q = some (t, .inr ce)) (he : exC G ce) (kk : GoX G own cc Y d mc Qr Qx kb h pc L eUOE) : Go G own cc Y d mc Qr Qx kb h pc L (.ref q :: st) := by
  intro p e s m args below meth c H locs cells slots ls C hf hS hL h1 h2
  have hV := C.2.2.2.2.2.2.2.2.2.1
  exact vx_athrow C.1 C.2.1 hd (kk p e s m args below meth c H locs cells slots ls st q ce C hf hS hL h1 h2 (hf.1 q _ _ hq).1 he.1 (by rw [he.2]; exact hV.2.2.2.2.2.2.2.2.2.2.2.2))
end RX
