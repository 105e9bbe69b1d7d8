set_option maxRecDepth 100000
/-! THE LOGIC. A picture of the heap is a function from addresses to tagged cells; judgements over it hide the machine. -/
abbrev Gl : Type := Launch × va_G × (FieldType → ClassId) × Nat × Heap × (Nat → Nat)
abbrev gL (G : Gl) : Launch := G.1
abbrev gD (G : Gl) : va_G := G.2.1
abbrev gA (G : Gl) : FieldType → ClassId := G.2.2.1
abbrev gB (G : Gl) : Nat := G.2.2.2.1
abbrev gH (G : Gl) : Heap := G.2.2.2.2.1
abbrev gS (G : Gl) : Nat → Nat := G.2.2.2.2.2
/-- the cells that may change: all that is made behind the law's start -/
def gW (G : Gl) : Nat → Prop := fun q => gB G ≤ q
abbrev Cl : Type := ((FieldType × vp_A) ⊕ (Nat × List Value)) ⊕ Cell
abbrev Tg : Type := Nat × Nat
abbrev Hp : Type := Nat → Option (Tg × Cl)
def ob (ci : Nat) (fs : List Value) : Cl := .inl (.inr (ci, fs))
def aI (ty : FieldType) (n : Nat) (f : Nat → Int32) : Cl := .inl (.inl (ty, n, .inl f))
def aJ (n : Nat) (f : Nat → Int64) : Cl := .inl (.inl (.long, n, .inr (.inl f)))
def aD (n : Nat) (f : Nat → UInt64) : Cl := .inl (.inl (.double, n, .inr (.inr (.inr (.inl f)))))
def aQ (C : String) (n : Nat) (f : Nat → Option Nat) : Cl := .inl (.inl (.object C, n, .inr (.inr (.inr (.inr f)))))
theorem ob_inj {a b : Nat} {c d : List Value} : ob a c = ob b d ↔ a = b ∧ c = d := by simp [ob]
theorem aI_inj {a b : FieldType} {n m : Nat} {f g : Nat → Int32} : aI a n f = aI b m g ↔ a = b ∧ n = m ∧ f = g := by simp [aI]
theorem aQ_inj {a b : String} {n m : Nat} {f g : Nat → Option Nat} : aQ a n f = aQ b m g ↔ a = b ∧ n = m ∧ f = g := by simp [aQ]
theorem ob_aI {a : Nat} {c : List Value} {t : FieldType} {n : Nat} {f : Nat → Int32} : (ob a c = aI t n f) = False := by simp [ob, aI]
theorem ob_aQ {a : Nat} {c : List Value} {t : String} {n : Nat} {f : Nat → Option Nat} : (ob a c = aQ t n f) = False := by simp [ob, aQ]
theorem aI_aQ {a : FieldType} {m : Nat} {c : Nat → Int32} {t : String} {n : Nat} {f : Nat → Option Nat} : (aI a m c = aQ t n f) = False := by simp [aI, aQ]
theorem ob_aJ {a : Nat} {c : List Value} {n : Nat} {f : Nat → Int64} : (ob a c = aJ n f) = False := by simp [ob, aJ]
/-! the classes -/
def vwCl : List vw_C := [(RX1, TX1, 8), (RX2, TX2, 10), (RX3, TX3, 25), (RX4, TX4, 3), (RX5, TX5, 6), (RX6, TX6, 3), (RX7, TX7, 5), (RX8, TX8, 2), (RJ2, TJ2, 3), (RJ26, TJ26, 4), (RJ4, TJ4, 4), (RJ31, TJ31, 5), (RJ32, TJ32, 3), (RJ5, TJ5, 3), (RJ7, TJ7, 4), (RJ8, TJ8, 4), (RJ14, TJ14, 3), (RJ23, TJ23, 1), (RJ40, TJ40, 2), (RJ41, TJ41, 4)]
abbrev vwOk (q : vw_C) (ty : Nat → FieldType) : Prop := (∀ w ∈ u_ws q.1 q.2.1 q.2.2, w ∈ lw_all) ∧ (∀ k, k < q.2.2 → parseFieldDescriptor (q.2.1 k).2.2.1 = some (ty k)) ∧ ∀ a, a < q.2.2 → ∀ b, b < q.2.2 → a ≠ b → (q.2.1 a).2.1 ≠ (q.2.1 b).2.1
theorem vw_ok : ∀ q ∈ vwCl, ∃ ty, vwOk q ty := by
  intro q hq
  simp only [vwCl, List.mem_cons, List.not_mem_nil, or_false] at hq
  rcases hq with rfl | rfl | rfl | rfl | rfl | rfl | rfl | rfl | rfl | rfl | rfl | rfl | rfl | rfl | rfl | rfl | rfl | rfl | rfl | rfl
  · exact ⟨tyX1, in_X1, tyX1_ok, nmX1⟩
  · exact ⟨tyX2, in_X2, tyX2_ok, nmX2⟩
  · exact ⟨tyX3, in_X3, tyX3_ok, nmX3⟩
  · exact ⟨tyX4, in_X4, tyX4_ok, nmX4⟩
  · exact ⟨tyX5, in_X5, tyX5_ok, nmX5⟩
  · exact ⟨tyX6, in_X6, tyX6_ok, nmX6⟩
  · exact ⟨tyX7, in_X7, tyX7_ok, nmX7⟩
  · exact ⟨tyX8, in_X8, tyX8_ok, nmX8⟩
  · exact ⟨tyJ2, in_J2, tyJ2_ok, nmJ2⟩
  · exact ⟨tyJ26, in_J26, tyJ26_ok, nmJ26⟩
  · exact ⟨tyJ4, in_J4, tyJ4_ok, nmJ4⟩
  · exact ⟨tyJ31, in_J31, tyJ31_ok, nmJ31⟩
  · exact ⟨tyJ32, in_J32, tyJ32_ok, nmJ32⟩
  · exact ⟨tyJ5, in_J5, tyJ5_ok, nmJ5⟩
  · exact ⟨tyJ7, in_J7, tyJ7_ok, nmJ7⟩
  · exact ⟨tyJ8, in_J8, tyJ8_ok, nmJ8⟩
  · exact ⟨tyJ14, in_J14, tyJ14_ok, nmJ14⟩
  · exact ⟨tyJ23, in_J23, tyJ23_ok, nmJ23⟩
  · exact ⟨tyJ40, in_J40, tyJ40_ok, nmJ40⟩
  · exact ⟨tyJ41, in_J41, tyJ41_ok, nmJ41⟩
/-! the heap's picture -/
def cAt (G : Gl) (H : Heap) (a : Nat) : Cl → Prop
  | .inl (.inl (ty, x)) => H[a]? = some (vp_cell (gA G ty) x)
  | .inl (.inr (ci, fs)) => va_at (gD G) vwCl (a, .inr (ci, fs)) H
  | .inr c => H[a]? = some c
theorem cAt.kept {G : Gl} {H H1 : Heap} {a : Nat} {o : Cl} (h : cAt G H a o) (hq : H1[a]? = H[a]?) : cAt G H1 a o := by
  rcases o with (⟨ty, x⟩ | ⟨ci, fs⟩) | c
  · exact hq.trans h
  · exact va_at.kept (q := (a, .inr (ci, fs))) h hq
  · exact hq.trans h
theorem cAt.lt {G : Gl} {H : Heap} {a : Nat} {o : Cl} (h : cAt G H a o) : a < H.size := by
  rcases o with (⟨ty, x⟩ | ⟨ci, fs⟩) | c
  · exact (Array.getElem?_eq_some_iff.mp h).1
  · exact va_at.lt (q := (a, .inr (ci, fs))) h
  · exact (Array.getElem?_eq_some_iff.mp h).1
abbrev frz : Tg := (0, 0)
def Hf (G : Gl) (h : Hp) (H : Heap) : Prop := (∀ a t o, h a = some (t, o) → cAt G H a o ∧ (t ≠ frz → gB G ≤ a)) ∧ (0 < gB G ∧ gB G ≤ H.size) ∧ ∀ q : Nat, q < gB G → H[q]? = (gH G)[q]?
def up (h : Hp) (a : Nat) (x : Tg × Cl) : Hp := fun b => if b = a then some x else h b
theorem up_s {h : Hp} {a : Nat} {x : Tg × Cl} : up h a x a = some x := by simp [up]
theorem up_n {h : Hp} {a b : Nat} {x : Tg × Cl} (hn : b ≠ a) : up h a x b = h b := by simp [up, hn]
theorem up_up {h : Hp} {a : Nat} {x y : Tg × Cl} : up (up h a x) a y = up h a y := by
  funext b; by_cases hb : b = a <;> simp [up, hb]
theorem Hf.lt {G : Gl} {h : Hp} {H : Heap} (hf : Hf G h H) {a : Nat} {x : Tg × Cl} (ha : h a = some x) : a < H.size := ((hf.1 a x.1 x.2 ha).1).lt
theorem Hf.upd {G : Gl} {h : Hp} {H H1 : Heap} (hf : Hf G h H) {a : Nat} {t : Tg} {o0 o : Cl} (ha : h a = some (t, o0)) (ht : t ≠ frz) (hz : H1.size = H.size) (hc : cAt G H1 a o) (hq : ∀ q : Nat, q ≠ a → H1[q]? = H[q]?) : Hf G (up h a (t, o)) H1 := by
  have hb := (hf.1 a t o0 ha).2 ht
  refine ⟨fun b t' o' hb' => ?_, ⟨hf.2.1.1, by rw [hz]; exact hf.2.1.2⟩, fun q h1 => ?_⟩
  · by_cases e : b = a
    · subst e
      rw [up_s] at hb'
      cases hb'
      exact ⟨hc, fun _ => hb⟩
    · rw [up_n e] at hb'
      exact ⟨((hf.1 b t' o' hb').1).kept (hq b e), (hf.1 b t' o' hb').2⟩
  · rw [hq q (by omega)]
    exact hf.2.2 q h1
theorem Hf.new {G : Gl} {h : Hp} {H H1 : Heap} (hf : Hf G h H) {t : Tg} {o : Cl} (hz : H1.size = H.size + 1) (hc : cAt G H1 H.size o) (hq : ∀ q : Nat, q < H.size → H1[q]? = H[q]?) : Hf G (up h H.size (t, o)) H1 ∧ h H.size = none := by
  have hn : h H.size = none := by
    cases e : h H.size with
    | none => rfl
    | some x => exact absurd (hf.lt e) (Nat.lt_irrefl _)
  refine ⟨⟨fun b t' o' hb' => ?_, ⟨hf.2.1.1, by rw [hz]; have := hf.2.1.2; omega⟩, fun q h1 => ?_⟩, hn⟩
  · by_cases e : b = H.size
    · subst e
      rw [up_s] at hb'
      cases hb'
      exact ⟨hc, fun _ => hf.2.1.2⟩
    · rw [up_n e] at hb'
      have h2 := (hf.1 b t' o' hb').1
      exact ⟨h2.kept (hq b h2.lt), (hf.1 b t' o' hb').2⟩
  · rw [hq q (Nat.lt_of_lt_of_le h1 hf.2.1.2)]
    exact hf.2.2 q h1
/-- only cells with tags in P may have changed -/
def Fr (P : Tg → Prop) (h h' : Hp) : Prop := ∀ a t o, h a = some (t, o) → ¬ P t → h' a = some (t, o)
theorem Fr.rf {P : Tg → Prop} {h : Hp} : Fr P h h := fun _ _ _ ha _ => ha
theorem Fr.tr {P : Tg → Prop} {h h1 h2 : Hp} (a : Fr P h h1) (b : Fr P h1 h2) : Fr P h h2 := fun x t o hx ht => b x t o (a x t o hx ht) ht
theorem Fr.wk {P Q : Tg → Prop} {h h1 : Hp} (a : Fr P h h1) (w : ∀ t, P t → Q t) : Fr Q h h1 := fun x t o hx ht => a x t o hx (fun q => ht (w t q))
theorem Fr.upd {P : Tg → Prop} {h : Hp} {a : Nat} {t : Tg} {o o' : Cl} (ha : h a = some (t, o)) (ht : P t) : Fr P h (up h a (t, o')) := by
  intro b t' o2 hb hn
  by_cases e : b = a
  · subst e
    rw [ha] at hb
    cases hb
    exact absurd ht hn
  · rw [up_n e]; exact hb
theorem Fr.nw {P : Tg → Prop} {h : Hp} {a : Nat} {x : Tg × Cl} (ha : h a = none) : Fr P h (up h a x) := by
  intro b t' o2 hb _
  by_cases e : b = a
  · subst e
    rw [ha] at hb
    cases hb
  · rw [up_n e]; exact hb
abbrev pN : Tg → Prop := fun _ => False
/-! what holds of the machine's tables all through -/
def nwW : Cond → Bool
  | .castable .. => true
  | .declares _ => true
  | .fieldLinkNest .. => true
  | .methodLinkNest .. => true
  | .publicMethod _ => true
  | .privateMethod _ => true
  | .unhidden .. => true
  | .arrayOver (.object _) => true
  | _ => false
theorem nw_warm {w : Cond} (hw : nwW w = true) {s U : State} (hW : s.WarmedH U.vm) (h : va_Nw w s) : va_Nw w U := by
  have hvm := hW.alike
  have tr : ∀ {c : Cond}, c.onTables = true → c.before #[] (s.setVm U.vm) = true → c.before #[] U = true := by
    intro c hc h
    have e := Cond.onTables_vm (A := #[]) (A' := #[]) (U := s) (U' := U) U.vm c hc
    have hU : U.setVm U.vm = U := rfl
    rw [hU] at e
    rw [← e]
    exact h
  cases w with
  | castable a b => exact h.warmC hW
  | declares a => exact h.warmD hW
  | fieldLinkNest a b c d e => exact h.warmF hW
  | methodLinkNest a b c d => exact h.warmM hW
  | publicMethod a => exact tr rfl (by rw [Cond.publicMethod_setVm hvm]; exact h)
  | privateMethod a => exact tr rfl (by rw [Cond.privateMethod_setVm hvm]; exact h)
  | unhidden a b c => exact tr rfl (by rw [Cond.unhidden_setVm hvm]; exact h)
  | arrayOver t =>
    cases t with
    | object C => exact va_AO.moved hvm h
    | _ => cases hw
  | _ => cases hw
def arTys : List FieldType := [.int, .long, .double, .byte, .object "java/lang/Object", .object "java/lang/Integer"]
/-- a reference or null, told by a number -/
def vRN : Nat → Value
  | 0 => .null
  | n + 1 => .ref n
def statTab (G : Gl) : List (String × String × String × Value) :=
  [("java/util/ArrayList", "DEFAULTCAPACITY_EMPTY_ELEMENTDATA", "[Ljava/lang/Object;", .ref (gS G 0)),
   ("java/lang/String", "COMPACT_STRINGS", "Z", .int 1),
   ("java/lang/Integer$IntegerCache", "high", "I", .int 127),
   ("java/lang/Integer$IntegerCache", "cache", "[Ljava/lang/Integer;", .ref (gS G 1)),
   ("java/util/ImmutableCollections", "$assertionsDisabled", "Z", .int 1),
   ("java/util/BitSet", "$assertionsDisabled", "Z", .int 1),
   ("java/lang/Integer", "DigitOnes", "[B", .ref (gS G 2)),
   ("java/lang/Integer", "DigitTens", "[B", .ref (gS G 3)),
   ("jdk/internal/util/Preconditions", "SIOOBE_FORMATTER", "Ljava/util/function/BiFunction;", vRN (gS G 4))]
abbrev yIt_hasNext : MethodName := ⟨"java/util/Iterator", "hasNext", "()Z"⟩
abbrev yIt_next : MethodName := ⟨"java/util/Iterator", "next", "()Ljava/lang/Object;"⟩
abbrev yIt_remove : MethodName := ⟨"java/util/Iterator", "remove", "()V"⟩
abbrev yLi_iterator : MethodName := ⟨"java/util/List", "iterator", "()Ljava/util/Iterator;"⟩
abbrev yLi_contains : MethodName := ⟨"java/util/List", "contains", "(Ljava/lang/Object;)Z"⟩
abbrev yLi_get : MethodName := ⟨"java/util/List", "get", "(I)Ljava/lang/Object;"⟩
abbrev yCs_length : MethodName := ⟨"java/lang/CharSequence", "length", "()I"⟩
def faceTab : List (String × MethodName × MethodName) :=
  [("java/util/ArrayList$Itr", yIt_hasNext, yJ26_hasNext), ("java/util/ArrayList$Itr", yIt_next, yJ26_next), ("java/util/ArrayList$Itr", yIt_remove, yJ26_remove),
   ("java/util/LinkedList$ListItr", yIt_hasNext, yJ31_hasNext), ("java/util/LinkedList$ListItr", yIt_next, yJ31_next), ("java/util/LinkedList$ListItr", yIt_remove, yJ31_remove),
   ("java/util/ImmutableCollections$ListItr", yIt_hasNext, yJ41_hasNext), ("java/util/ImmutableCollections$ListItr", yIt_next, yJ41_next),
   ("java/util/ImmutableCollections$ListN", yLi_iterator, yJ38_iterator), ("java/util/ImmutableCollections$ListN", yLi_contains, yJ38_contains), ("java/util/ImmutableCollections$ListN", yLi_get, yJ40_get),
   ("java/lang/StringBuilder", yCs_length, yJ7_length)]
/-- the String constants that are used: class, entry, text, which text -/
def strTab : List (String × Nat × String × Nat) :=
  [("CharterKiln$Reader", 9, "clay", 10), ("CharterKiln$Reader", 11, "glaze", 11), ("CharterKiln$Reader", 13, "shelve", 12), ("CharterKiln$Reader", 15, "fire", 13),
   ("CharterKiln$Reader", 17, "cite", 14), ("CharterKiln$Reader", 19, "ratify", 15), ("CharterKiln$Reader", 21, "repeal", 16), ("CharterKiln$Reader", 23, "scrap", 17),
   ("CharterKiln", 366, "clay", 10), ("CharterKiln", 370, "glaze", 11), ("CharterKiln", 371, "shelve", 12), ("CharterKiln", 373, "fire", 13),
   ("CharterKiln", 375, "cite", 14), ("CharterKiln", 377, "ratify", 15), ("CharterKiln", 379, "repeal", 16),
   ("CharterKiln", 452, "", 18), ("CharterKiln", 458, " ", 19), ("CharterKiln", 460, ",", 20), ("CharterKiln", 450, "!", 21), ("java/lang/StringLatin1", 151, "", 18)]
abbrev eIAE : String := "java/lang/IllegalArgumentException"
abbrev eISE : String := "java/lang/IllegalStateException"
abbrev eIOB : String := "java/lang/IndexOutOfBoundsException"
abbrev eUOE : String := "java/lang/UnsupportedOperationException"
abbrev eNSE : String := "java/util/NoSuchElementException"
abbrev eARI : String := "java/lang/ArithmeticException"
def ncTab : List (String × String) := [(eIAE, eIOB), (eNSE, eIOB), (eNSE, eIAE), (eISE, eIAE), (eUOE, eIAE)]
/-- two calls that land in an interface's method: taken by the statement -/
def xwT : List Cond := [Cond.methodLink "CharterKiln" 457 ⟨"java/lang/StringBuilder", "isEmpty", "()Z"⟩, Cond.sameMethod "java/lang/StringBuilder" "java/lang/CharSequence" "isEmpty" "()Z",
  Cond.methodLink "java/util/ImmutableCollections$AbstractImmutableList" 107 ⟨"java/util/ImmutableCollections$AbstractImmutableList", "indexOf", "(Ljava/lang/Object;)I"⟩, Cond.sameMethod "java/util/ImmutableCollections$AbstractImmutableList" "java/util/List" "indexOf" "(Ljava/lang/Object;)I",
  Cond.landsInDefault "java/lang/StringBuilder" ⟨"java/lang/StringBuilder", "isEmpty", "()Z"⟩ ⟨"java/lang/CharSequence", "isEmpty", "()Z"⟩]
theorem xw_warm {w : Cond} (hw : w ∈ xwT) {s U : State} (hW : s.WarmedH U.vm) (h : w.before #[] s = true) : w.before #[] U = true := by
  simp only [xwT, List.mem_cons, List.not_mem_nil, or_false] at hw
  rcases hw with rfl | rfl | rfl | rfl | rfl
  · exact word_at hW (Or.inl (by simp [Cond.onTables, Cond.keeps, Cond.steady])) h
  · exact word_at hW (Or.inl (by simp [Cond.onTables, Cond.keeps, Cond.steady])) h
  · exact word_at hW (Or.inl (by simp [Cond.onTables, Cond.keeps, Cond.steady])) h
  · exact word_at hW (Or.inl (by simp [Cond.onTables, Cond.keeps, Cond.steady])) h
  · exact (Cond.landsInDefault_setVm (args := #[]) (args' := #[]) hW.alike (State.methodFound?_setVm hW.alike _ _ _)).trans h
theorem xw_same {w : Cond} (hw : w ∈ xwT) {s U : State} (hv : U.vm = s.vm) (h : w.before #[] s = true) : w.before #[] U = true := by
  have e : w.before #[] (U.setVm s.vm) = w.before #[] (s.setVm s.vm) := by
    simp only [xwT, List.mem_cons, List.not_mem_nil, or_false] at hw
    rcases hw with rfl | rfl | rfl | rfl | rfl <;> rfl
  rw [show U = U.setVm s.vm from by rw [← hv]; rfl, e]
  exact h
def VF (G : Gl) (U : State) : Prop :=
  va_K (gD G) vwCl [] U ∧ (∀ ty ∈ arTys, ArrOfT U (gA G ty) ty ∧ va_RA U (gA G ty) ty) ∧ (∀ w ∈ lw_tbl, nwW w = true → va_Nw w U) ∧
  (∀ z ∈ statTab G, va_Z z.1 z.2.1 z.2.2.1 z.2.2.2 (gW G) U (gH G)) ∧ (∀ z ∈ faceTab, va_Fw z.1 z.2.1 z.2.2 U) ∧ (∀ z ∈ strTab, vk_R z.1 z.2.1 z.2.2.1 (gS G z.2.2.2) U) ∧ (∀ z ∈ ncTab, va_Nc z.1 z.2 U) ∧
  vx_Zq Bundle.tN "UNASSIGNED_STACK" Bundle.steD (gW G) U (gH G) ∧ vx_Zq Bundle.tN "SUPPRESSED_SENTINEL" Bundle.listD (gW G) U (gH G) ∧ (gL G).stackTraces = false ∧ va_Mi "[Ljava/lang/Object;" (gS G 5) U ∧ (∀ w ∈ xwT, w.before #[] U = true) ∧ U.vm.findClass eUOE = some (gS G 6)
theorem VF.moved {G : Gl} {s U : State} (hW : s.WarmedH U.vm) (h : VF G s) : VF G U := by
  have hvm := hW.alike
  obtain ⟨h1, h2, h3, h4, h5, h6, h7, h8, h9, h10, h11, h12, h13⟩ := h
  refine ⟨va_K.moved hvm h1, fun ty ht => ⟨arrOfT_moved hvm (h2 ty ht).1, (h2 ty ht).2.moved hvm⟩, fun w hw hn => nw_warm hn hW (h3 w hw hn), fun z hz => va_Z.moved hvm (h4 z hz), fun z hz => va_Fw.moved ?_ hvm (h5 z hz), fun z hz => (h6 z hz).warm hW, fun z hz => va_Nc.moved hvm (h7 z hz), vx_Zq.moved hvm h8, vx_Zq.moved hvm h9, h10, h11.moved hvm, fun w hw => xw_warm hw hW (h12 w hw), (hvm.findClass _ _).trans h13⟩
  simp only [faceTab, List.mem_cons, List.not_mem_nil, or_false] at hz
  rcases hz with rfl | rfl | rfl | rfl | rfl | rfl | rfl | rfl | rfl | rfl | rfl | rfl <;> exact ⟨by decide +kernel, by decide +kernel⟩
theorem VF.call {G : Gl} {U : State} (g : JFrame) (mk : MethodId) (a : Array Value) (h : VF G U) : VF G (U.calling g mk a) := by
  obtain ⟨h1, h2, h3, h4, h5, h6, h7, h8, h9, h10, h11, h12, h13⟩ := h
  have hvm : U.vm.Alike (U.calling g mk a).vm := Vm.Alike.refl U.vm
  refine ⟨va_K.moved hvm h1, fun ty ht => ⟨arrOfT_moved hvm (h2 ty ht).1, (h2 ty ht).2.moved hvm⟩, fun w hw hn => ?_, fun z hz => va_Z.moved hvm (h4 z hz), fun z hz => va_Fw.moved ?_ hvm (h5 z hz), fun z hz => vk_R.same rfl (h6 z hz), fun z hz => va_Nc.moved hvm (h7 z hz), vx_Zq.moved hvm h8, vx_Zq.moved hvm h9, h10, h11.moved hvm, fun w hw => xw_same (s := U) (U := U.calling g mk a) hw rfl (h12 w hw), h13⟩
  · have h0 := h3 w hw hn
    cases w with
    | arrayOver t =>
      cases t with
      | object C => exact va_AO.moved hvm h0
      | _ => cases hn
    | _ => first | (cases hn; done) | exact va_Nw.same (u := U) (U := U.calling g mk a) rfl rfl h0
  · simp only [faceTab, List.mem_cons, List.not_mem_nil, or_false] at hz
    rcases hz with rfl | rfl | rfl | rfl | rfl | rfl | rfl | rfl | rfl | rfl | rfl | rfl <;> exact ⟨by decide +kernel, by decide +kernel⟩
/-! locals by their places -/
def prs (L : List (Option Value)) : List (Nat × Value) := (List.range L.length).filterMap fun i => (L[i]?).bind fun o => o.map fun v => (i, v)
theorem mem_prs {L : List (Option Value)} {j : Nat} {w : Value} : (j, w) ∈ prs L ↔ L[j]? = some (some w) := by
  constructor
  · intro h
    obtain ⟨i, -, hi⟩ := List.mem_filterMap.mp h
    cases e : L[i]? with
    | none => rw [e] at hi; cases hi
    | some o =>
      cases o with
      | none => rw [e] at hi; cases hi
      | some v =>
        rw [e] at hi
        cases hi
        exact e
  · intro h
    exact List.mem_filterMap.mpr ⟨j, List.mem_range.mpr (List.getElem?_eq_some_iff.mp h).1, by rw [h]; rfl⟩
def LH (L : List (Option Value)) (nL : Nat) (ls : Array Slot) : Prop := L.length = nL ∧ lv_has ls nL (prs L)
theorem LH.at {L : List (Option Value)} {nL : Nat} {ls : Array Slot} (h : LH L nL ls) {i : Nat} {v : Value} (hi : L[i]? = some (some v)) : ls[i]? = some (.val v) := h.2.2.2 (i, v) (mem_prs.mpr hi)
def dr2 : Option Value → Option Value
  | some (.long _) => none
  | some (.double _) => none
  | o => o
def stL : List (Option Value) → Nat → Value → Option (List (Option Value))
  | [], _, _ => none
  | _ :: l, 0, v => some (some v :: l)
  | o :: l, 1, v => (stL l 0 v).map fun l' => dr2 o :: l'
  | o :: l, n + 2, v => (stL l (n + 1) v).map fun l' => o :: l'
def stL2 : List (Option Value) → Nat → Value → Option (List (Option Value))
  | _ :: _ :: l, 0, v => some (some v :: none :: l)
  | o :: l, 1, v => (stL2 l 0 v).map fun l' => dr2 o :: l'
  | o :: l, n + 2, v => (stL2 l (n + 1) v).map fun l' => o :: l'
  | _, _, _ => none
theorem dr2_some {o : Option Value} {w : Value} (h : dr2 o = some w) : o = some w ∧ w.category ≠ 2 := by
  cases o with
  | none => cases h
  | some v => cases v <;> first | (cases h; done) | (cases h; exact ⟨rfl, by decide⟩) | (injection h with h; subst h; exact ⟨rfl, by simp [Value.category]⟩)
theorem stL_spec : ∀ {L : List (Option Value)} {i : Nat} {v : Value} {L' : List (Option Value)}, stL L i v = some L' → L'.length = L.length ∧ i < L.length ∧ ∀ j w, L'[j]? = some (some w) → (j = i ∧ w = v) ∨ (L[j]? = some (some w) ∧ j ≠ i ∧ ¬ (j + 1 = i ∧ w.category = 2)) := by
  intro L
  induction L with
  | nil => intro i v L' h; cases i <;> cases h
  | cons o l ih =>
    intro i v L' h
    match i, h with
    | 0, h =>
      cases h
      refine ⟨rfl, by simp, fun j w hj => ?_⟩
      cases j with
      | zero => left; simp at hj; exact ⟨rfl, hj.symm⟩
      | succ j => right; simp at hj; exact ⟨by simpa using hj, by omega, by omega⟩
    | 1, h =>
      simp only [stL] at h
      cases e : stL l 0 v with
      | none => rw [e] at h; cases h
      | some l' =>
        rw [e] at h
        cases h
        obtain ⟨h1, h2, h3⟩ := ih e
        refine ⟨by simp [h1], by simp; omega, fun j w hj => ?_⟩
        cases j with
        | zero =>
          right
          simp at hj
          have := dr2_some hj
          exact ⟨by simp [this.1], by omega, fun q => this.2 q.2⟩
        | succ j =>
          simp at hj
          rcases h3 j w hj with ⟨q1, q2⟩ | ⟨q1, q2, q3⟩
          · left; exact ⟨by omega, q2⟩
          · right; exact ⟨by simpa using q1, by omega, by omega⟩
    | n + 2, h =>
      simp only [stL] at h
      cases e : stL l (n + 1) v with
      | none => rw [e] at h; cases h
      | some l' =>
        rw [e] at h
        cases h
        obtain ⟨h1, h2, h3⟩ := ih e
        refine ⟨by simp [h1], by simp; omega, fun j w hj => ?_⟩
        cases j with
        | zero => right; simp at hj; exact ⟨by simp [hj], by omega, by omega⟩
        | succ j =>
          simp at hj
          rcases h3 j w hj with ⟨q1, q2⟩ | ⟨q1, q2, q3⟩
          · left; exact ⟨by omega, q2⟩
          · right; exact ⟨by simpa using q1, by omega, fun q => q3 ⟨by omega, q.2⟩⟩
theorem stL2_spec : ∀ {L : List (Option Value)} {i : Nat} {v : Value} {L' : List (Option Value)}, stL2 L i v = some L' → L'.length = L.length ∧ i + 1 < L.length ∧ ∀ j w, L'[j]? = some (some w) → (j = i ∧ w = v) ∨ (L[j]? = some (some w) ∧ j ≠ i ∧ j ≠ i + 1 ∧ ¬ (j + 1 = i ∧ w.category = 2)) := by
  intro L
  induction L with
  | nil => intro i v L' h; match i, h with
    | 0, h => cases h
    | 1, h => cases h
    | n + 2, h => cases h
  | cons o l ih =>
    intro i v L' h
    match i, h with
    | 0, h =>
      cases l with
      | nil => cases h
      | cons o2 l =>
        cases h
        refine ⟨rfl, by simp, fun j w hj => ?_⟩
        match j, hj with
        | 0, hj => left; simp at hj; exact ⟨rfl, hj.symm⟩
        | 1, hj => simp at hj
        | j + 2, hj => right; simp at hj; exact ⟨by simpa using hj, by omega, by omega, by omega⟩
    | 1, h =>
      simp only [stL2] at h
      cases e : stL2 l 0 v with
      | none => rw [e] at h; cases h
      | some l' =>
        rw [e] at h
        cases h
        obtain ⟨h1, h2, h3⟩ := ih e
        refine ⟨by simp [h1], by simp; omega, fun j w hj => ?_⟩
        cases j with
        | zero =>
          right
          simp at hj
          have := dr2_some hj
          exact ⟨by simp [this.1], by omega, by omega, fun q => this.2 q.2⟩
        | succ j =>
          simp at hj
          rcases h3 j w hj with ⟨q1, q2⟩ | ⟨q1, q2, q3, q4⟩
          · left; exact ⟨by omega, q2⟩
          · right; exact ⟨by simpa using q1, by omega, by omega, by omega⟩
    | n + 2, h =>
      simp only [stL2] at h
      cases e : stL2 l (n + 1) v with
      | none => rw [e] at h; cases h
      | some l' =>
        rw [e] at h
        cases h
        obtain ⟨h1, h2, h3⟩ := ih e
        refine ⟨by simp [h1], by simp; omega, fun j w hj => ?_⟩
        cases j with
        | zero => right; simp at hj; exact ⟨by simp [hj], by omega, by omega, by omega⟩
        | succ j =>
          simp at hj
          rcases h3 j w hj with ⟨q1, q2⟩ | ⟨q1, q2, q3, q4⟩
          · left; exact ⟨by omega, q2⟩
          · right; exact ⟨by simpa using q1, by omega, by omega, fun q => q4 ⟨by omega, q.2⟩⟩
def enL : List Value → List (Option Value)
  | [] => []
  | .long x :: vs => some (.long x) :: none :: enL vs
  | .double x :: vs => some (.double x) :: none :: enL vs
  | v :: vs => some v :: enL vs
def enP (vs : List Value) (n : Nat) : List (Option Value) := enL vs ++ List.replicate (n - (enL vs).length) none
