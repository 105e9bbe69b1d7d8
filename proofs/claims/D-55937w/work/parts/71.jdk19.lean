set_option maxRecDepth 100000
theorem f11 : Cond.selects "java/lang/StringBuilder" ⟨"java/lang/CharSequence", "length", "()I"⟩ yJ7_length ∈ lw_all ∧ Cond.instanceMethod yJ7_length ∈ lw_all ∧ Cond.initialized yJ7_length.cls ∈ lw_all ∧ Cond.code yJ7_length cJ7_length 1 (some .int) ∈ lw_all ∧ hdOk ⟨"java/lang/CharSequence", "length", "()I"⟩ 0 ∧ 1 ≤ 21 := ⟨q1297, q791, q115, q792, ⟨by decide, by decide, by decide +kernel⟩, by decide⟩
/-! JDK, part 19: CharSequence.isEmpty, on a StringBuilder -/
theorem t_J47_isEmpty {G : Gl} {h : Hp} {a n : Nat} {t : Tg} {c : Nat → Int} (hA : SB t a n c h) : Ct G 3 0 yJ47_isEmpty (Cond.code yJ47_isEmpty cJ47_isEmpty 1 (some .boolean)) [.ref a] h (jE (.int (iZ (bZ (n = 0)))) h) noX := by
  have hA0 := hA
  obtain ⟨cap, v, f, ml, q1, q2, q3, q4, q5⟩ := hA0
  refine Ct.of (own := "java/lang/CharSequence") (nm := "isEmpty") (by decide +kernel) rfl rfl (L := [some (.ref a)]) rfl (Nat.le_of_ble_eq_true rfl) rfl ?_
  refine r_aload_n (pc := 0) dJ47_isEmpty_0 rfl ?_
  refine r_callF (pc := 1) (kb' := 0) dJ47_isEmpty_1 11 rfl f11 q1289 (t_J7_length hA) q1 rfl (Nat.le_refl _) (Nat.le_of_ble_eq_true rfl) rfl rfl (Nat.le_of_ble_eq_true rfl) (fun _ _ q => q.elim) (fun _ _ hq => ?_)
  refine go_jE hq ?_
  refine r_if_ne (pc := 6) (tgt := 13) dJ47_isEmpty_6 (by decide) (by omega) (fun c6 => ?_) (fun c6 => ?_)
  · refine r_iconst (pc := 13) dJ47_isEmpty_13 ?_
    exact r_iret (pc := 14) dJ47_isEmpty_14 rfl (nB' (by first | (left; rfl) | (right; rfl) | exact bZ_01' _ | omega)) ⟨by rw [bZ_f (by omega)], rfl⟩
  · refine r_iconst (pc := 9) dJ47_isEmpty_9 ?_
    refine r_goto (pc := 10) (tgt := 14) dJ47_isEmpty_10 (by decide) ?_
    exact r_iret (pc := 14) dJ47_isEmpty_14 rfl (nB' (by first | (left; rfl) | (right; rfl) | exact bZ_01' _ | omega)) ⟨by rw [bZ_t (by omega)], rfl⟩
