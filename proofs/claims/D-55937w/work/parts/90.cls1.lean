set_option maxRecDepth 100000
/-! the class, part 1: articles and shards -/
abbrev aC (r : Row) (a : Int) : Cl := ob 4 [.int (iZ (fA r a 0)), .int (iZ (fA r a 1)), .int (iZ (fA r a 2)), .int (iZ (fA r a 3)), .int (iZ (fA r a 4)), .int (iZ (fA r a 5))]
abbrev sC (r : Row) (s : Int) : Cl := ob 5 [.int (iZ (fS r s 0)), .int (iZ (fS r s 2)), .int (iZ (fS r s 1))]
def abvZ (r : Row) (a x : Int) : Int := if fA r a 4 < 0 then 0 else if 0 < heatZ (fA r a 4) x - limZ r a then heatZ (fA r a 4) x - limZ r a else 0
theorem abv_in {r : Row} {a x : Int} (ho : artOk r a) (hx : 10 ≤ x ∧ x ≤ 99) : 0 ≤ abvZ r a x ∧ abvZ r a x ≤ 94 := by
  have h1 := heat_in (s := fA r a 4) (x := x) ho.2.2.2.2.1 hx
  have h2 := lim_in ho
  unfold abvZ
  (repeat' split) <;> omega
theorem cr_abv {r : Row} {a x : Int} : crZ r a x = if abvZ r a x = 0 then 0 else 1 + abvZ r a x / 5 := by
  unfold crZ abvZ
  (repeat' split) <;> first | rfl | omega

theorem t_X1_isBetween {G : Gl} {h : Hp} {v lo hi : Int} (h0 : InR v) (h1 : InR lo) (h2 : InR hi) : Ct G 1 0 yX1_isBetween (Cond.code yX1_isBetween cX1_isBetween 3 (some .boolean)) [.int (iZ v), .int (iZ lo), .int (iZ hi)] h (jE (.int (iZ (bZ (lo ≤ v ∧ v ≤ hi)))) h) noX := by
  refine Ct.of (own := "CharterKiln") (nm := "isBetween") (by decide +kernel) rfl rfl (L := [some (.int (iZ v)), some (.int (iZ lo)), some (.int (iZ hi))]) rfl (Nat.le_of_ble_eq_true rfl) rfl ?_
  refine r_iload_n (pc := 0) dX1_isBetween_0 rfl ?_
  refine r_iload_n (pc := 1) dX1_isBetween_1 rfl ?_
  refine r_icmp_lt (pc := 2) (tgt := 14) dX1_isBetween_2 (by decide) (by omega) (by omega) (fun c2 => ?_) (fun c2 => ?_)
  · refine r_iconst (pc := 14) dX1_isBetween_14 ?_
    exact r_iret (pc := 15) dX1_isBetween_15 rfl (nB' (by first | (left; rfl) | (right; rfl) | exact bZ_01' _ | omega)) ⟨by rw [bZ_f (by first | assumption | omega)], rfl⟩
  · refine r_iload_n (pc := 5) dX1_isBetween_5 rfl ?_
    refine r_iload_n (pc := 6) dX1_isBetween_6 rfl ?_
    refine r_icmp_gt (pc := 7) (tgt := 14) dX1_isBetween_7 (by decide) (by omega) (by omega) (fun c7 => ?_) (fun c7 => ?_)
    · refine r_iconst (pc := 14) dX1_isBetween_14 ?_
      exact r_iret (pc := 15) dX1_isBetween_15 rfl (nB' (by first | (left; rfl) | (right; rfl) | exact bZ_01' _ | omega)) ⟨by rw [bZ_f (by first | assumption | omega)], rfl⟩
    · refine r_iconst (pc := 10) dX1_isBetween_10 ?_
      refine r_goto (pc := 11) (tgt := 15) dX1_isBetween_11 (by decide) ?_
      exact r_iret (pc := 15) dX1_isBetween_15 rfl (nB' (by first | (left; rfl) | (right; rfl) | exact bZ_01' _ | omega)) ⟨by rw [bZ_t (by first | assumption | omega | (refine ⟨?_, ?_⟩ <;> omega))], rfl⟩
theorem t_X1_isShelf {G : Gl} {h : Hp} {v : Int} (h0 : InR v) : Ct G 2 0 yX1_isShelf (Cond.code yX1_isShelf cX1_isShelf 1 (some .boolean)) [.int (iZ v)] h (jE (.int (iZ (bZ (0 ≤ v ∧ v ≤ 2)))) h) noX := by
  refine Ct.of (own := "CharterKiln") (nm := "isShelf") (by decide +kernel) rfl rfl (L := [some (.int (iZ v))]) rfl (Nat.le_of_ble_eq_true rfl) rfl ?_
  refine r_iload_n (pc := 0) dX1_isShelf_0 rfl ?_
  refine r_iconst (pc := 1) dX1_isShelf_1 ?_
  refine r_iconst (pc := 2) dX1_isShelf_2 ?_
  refine r_callS (pc := 3) (kb' := 0) dX1_isShelf_3 kX1_isBetween q1525 (t_X1_isBetween (lo := 0) (hi := 2) (by omega) (by omega) (by omega)) (Nat.le_refl _) (Nat.le_of_ble_eq_true rfl) rfl rfl (Nat.le_of_ble_eq_true rfl) (fun _ _ q => q.elim) (fun _ _ hq => ?_)
  refine go_jE hq ?_
  exact r_iret (pc := 6) dX1_isShelf_6 rfl (nB' (by first | (left; rfl) | (right; rfl) | exact bZ_01' _ | omega)) ⟨rfl, rfl⟩
theorem t_X1_onShelf {G : Gl} {h : Hp} {s x : Int} (hs : -1 ≤ s ∧ s ≤ 2) (hx : 10 ≤ x ∧ x ≤ 99) : Ct G 2 0 yX1_onShelf (Cond.code yX1_onShelf cX1_onShelf 2 (some .int)) [.int (iZ s), .int (iZ x)] h (jE (.int (iZ (heatZ s x))) h) noX := by
  refine Ct.of (own := "CharterKiln") (nm := "onShelf") (by decide +kernel) rfl rfl (L := [some (.int (iZ s)), some (.int (iZ x))]) rfl (Nat.le_of_ble_eq_true rfl) rfl ?_
  refine r_iconst (pc := 0) dX1_onShelf_0 ?_
  refine r_iload_n (pc := 1) dX1_onShelf_1 rfl ?_
  refine r_bipush (pc := 2) dX1_onShelf_2 (by decide) ?_
  refine r_iload_n (pc := 4) dX1_onShelf_4 rfl ?_
  refine r_imul (pc := 5) dX1_onShelf_5 ?_
  refine r_isub (pc := 6) dX1_onShelf_6 ?_
  refine r_callS (pc := 7) (kb' := 0) dX1_onShelf_7 kJ19_max q1180 (t_J19_max (i := 0) (j := x - 15 * s) (by omega) (by omega)) (Nat.le_refl _) (Nat.le_of_ble_eq_true rfl) rfl rfl (Nat.le_of_ble_eq_true rfl) (fun _ _ q => q.elim) (fun _ _ hq => ?_)
  refine go_jE hq ?_
  refine go_cz (w := heatZ s x) (by unfold heatZ; (repeat' split) <;> omega) ?_
  exact r_iret (pc := 10) dX1_onShelf_10 rfl rfl ⟨rfl, rfl⟩
theorem t_X1_apart {G : Gl} {h : Hp} {x y : Int} (hx : 0 ≤ x ∧ x ≤ 99) (hy : 0 ≤ y ∧ y ≤ 99) : Ct G 1 0 yX1_apart (Cond.code yX1_apart cX1_apart 2 (some .int)) [.int (iZ x), .int (iZ y)] h (jE (.int (iZ (apZ x y))) h) noX := by
  refine Ct.of (own := "CharterKiln") (nm := "apart") (by decide +kernel) rfl rfl (L := [some (.int (iZ x)), some (.int (iZ y))]) rfl (Nat.le_of_ble_eq_true rfl) rfl ?_
  refine r_iload_n (pc := 0) dX1_apart_0 rfl ?_
  refine r_iload_n (pc := 1) dX1_apart_1 rfl ?_
  refine r_icmp_le (pc := 2) (tgt := 11) dX1_apart_2 (by decide) (by omega) (by omega) (fun c2 => ?_) (fun c2 => ?_)
  · refine r_iload_n (pc := 11) dX1_apart_11 rfl ?_
    refine r_iload_n (pc := 12) dX1_apart_12 rfl ?_
    refine r_isub (pc := 13) dX1_apart_13 ?_
    exact r_iret (pc := 14) dX1_apart_14 rfl rfl ⟨congrArg (fun q : Int => some (Value.int (iZ q))) (by unfold apZ; split <;> omega), rfl⟩
  · refine r_iload_n (pc := 5) dX1_apart_5 rfl ?_
    refine r_iload_n (pc := 6) dX1_apart_6 rfl ?_
    refine r_isub (pc := 7) dX1_apart_7 ?_
    refine r_goto (pc := 8) (tgt := 14) dX1_apart_8 (by decide) ?_
    exact r_iret (pc := 14) dX1_apart_14 rfl rfl ⟨congrArg (fun q : Int => some (Value.int (iZ q))) (by unfold apZ; split <;> omega), rfl⟩
theorem t_X5_isLaw {G : Gl} {h : Hp} {q : Nat} {t : Tg} {c g x f s n : Int} (ha : h q = some (t, ob 4 [.int (iZ c), .int (iZ g), .int (iZ x), .int (iZ f), .int (iZ s), .int (iZ n)])) (hs : -1 ≤ s ∧ s ≤ 2) : Ct G 1 0 yX5_isLaw (Cond.code yX5_isLaw cX5_isLaw 1 (some .boolean)) [.ref q] h (jE (.int (iZ (bZ (s < 0)))) h) noX := by
  refine Ct.of (own := "CharterKiln$Article") (nm := "isLaw") (by decide +kernel) rfl rfl (L := [some (.ref q)]) rfl (Nat.le_of_ble_eq_true rfl) rfl ?_
  refine r_aload_n (pc := 0) dX5_isLaw_0 rfl ?_
  refine gX5_15 (pc := 1) dX5_isLaw_1 ha rfl ?_
  refine r_iconst (pc := 4) dX5_isLaw_4 ?_
  refine r_icmp_ne (pc := 5) (tgt := 12) dX5_isLaw_5 (by decide) (by omega) (by omega) (fun c5 => ?_) (fun c5 => ?_)
  · refine r_iconst (pc := 12) dX5_isLaw_12 ?_
    exact r_iret (pc := 13) dX5_isLaw_13 rfl (nB' (by first | (left; rfl) | (right; rfl) | exact bZ_01' _ | omega)) ⟨by rw [bZ_f (by first | assumption | omega)], rfl⟩
  · refine r_iconst (pc := 8) dX5_isLaw_8 ?_
    refine r_goto (pc := 9) (tgt := 13) dX5_isLaw_9 (by decide) ?_
    exact r_iret (pc := 13) dX5_isLaw_13 rfl (nB' (by first | (left; rfl) | (right; rfl) | exact bZ_01' _ | omega)) ⟨by rw [bZ_t (by first | assumption | omega | (refine ⟨?_, ?_⟩ <;> omega))], rfl⟩
theorem t_X5_canBeLaw {G : Gl} {h : Hp} {q : Nat} {t : Tg} {c g x f s n : Int} (ha : h q = some (t, ob 4 [.int (iZ c), .int (iZ g), .int (iZ x), .int (iZ f), .int (iZ s), .int (iZ n)])) (hs : -1 ≤ s ∧ s ≤ 2) (hf : f = 0 ∨ f = 1) (hx : InR x) : Ct G 2 0 yX5_canBeLaw (Cond.code yX5_canBeLaw cX5_canBeLaw 1 (some .boolean)) [.ref q] h (jE (.int (iZ (bZ (0 ≤ s ∧ f = 1 ∧ x = 0)))) h) noX := by
  refine Ct.of (own := "CharterKiln$Article") (nm := "canBeLaw") (by decide +kernel) rfl rfl (L := [some (.ref q)]) rfl (Nat.le_of_ble_eq_true rfl) rfl ?_
  refine r_aload_n (pc := 0) dX5_canBeLaw_0 rfl ?_
  refine r_callV (pc := 1) (kb' := 0) dX5_canBeLaw_1 kX5_isLaw q1173 (t_X5_isLaw ha (by omega)) ha rfl (Nat.le_refl _) (Nat.le_of_ble_eq_true rfl) rfl rfl (Nat.le_of_ble_eq_true rfl) (fun _ _ q => q.elim) (fun _ _ hq => ?_)
  refine go_jE hq ?_
  refine r_ifB_ne (pc := 4) (tgt := 25) dX5_canBeLaw_4 (by decide) (fun c4 => ?_) (fun c4 => ?_)
  · refine r_iconst (pc := 25) dX5_canBeLaw_25 ?_
    exact r_iret (pc := 26) dX5_canBeLaw_26 rfl (nB' (by first | (left; rfl) | (right; rfl) | exact bZ_01' _ | omega)) ⟨by rw [bZ_f (by first | assumption | omega)], rfl⟩
  · refine r_aload_n (pc := 7) dX5_canBeLaw_7 rfl ?_
    refine gX5_27 (pc := 8) dX5_canBeLaw_8 ha rfl ?_
    refine r_if_eq (pc := 11) (tgt := 25) dX5_canBeLaw_11 (by decide) (by omega) (fun c11 => ?_) (fun c11 => ?_)
    · refine r_iconst (pc := 25) dX5_canBeLaw_25 ?_
      exact r_iret (pc := 26) dX5_canBeLaw_26 rfl (nB' (by first | (left; rfl) | (right; rfl) | exact bZ_01' _ | omega)) ⟨by rw [bZ_f (by first | assumption | omega)], rfl⟩
    · refine r_aload_n (pc := 14) dX5_canBeLaw_14 rfl ?_
      refine gX5_24 (pc := 15) dX5_canBeLaw_15 ha rfl ?_
      refine r_if_ne (pc := 18) (tgt := 25) dX5_canBeLaw_18 (by decide) (by omega) (fun c18 => ?_) (fun c18 => ?_)
      · refine r_iconst (pc := 25) dX5_canBeLaw_25 ?_
        exact r_iret (pc := 26) dX5_canBeLaw_26 rfl (nB' (by first | (left; rfl) | (right; rfl) | exact bZ_01' _ | omega)) ⟨by rw [bZ_f (by first | assumption | omega)], rfl⟩
      · refine r_iconst (pc := 21) dX5_canBeLaw_21 ?_
        refine r_goto (pc := 22) (tgt := 26) dX5_canBeLaw_22 (by decide) ?_
        exact r_iret (pc := 26) dX5_canBeLaw_26 rfl (nB' (by first | (left; rfl) | (right; rfl) | exact bZ_01' _ | omega)) ⟨by rw [bZ_t (by first | assumption | omega | (refine ⟨?_, ?_⟩ <;> omega))], rfl⟩
theorem t_X5_limit {G : Gl} {h : Hp} {q : Nat} {t : Tg} {r : Row} {a : Int} (ha : h q = some (t, aC r a)) (ho : artOk r a) : Ct G 1 0 yX5_limit (Cond.code yX5_limit cX5_limit 1 (some .int)) [.ref q] h (jE (.int (iZ (limZ r a))) h) noX := by
  have ho2 := ho
  unfold artOk at ho2
  have hl := lim_in ho
  refine Ct.of (own := "CharterKiln$Article") (nm := "limit") (by decide +kernel) rfl rfl (L := [some (.ref q)]) rfl (Nat.le_of_ble_eq_true rfl) rfl ?_
  refine r_bipush (pc := 0) dX5_limit_0 (by decide) ?_
  refine r_aload_n (pc := 2) dX5_limit_2 rfl ?_
  refine gX5_9 (pc := 3) dX5_limit_3 ha rfl ?_
  refine r_imul (pc := 6) dX5_limit_6 ?_
  refine r_bipush (pc := 7) dX5_limit_7 (by decide) ?_
  refine r_iadd (pc := 9) dX5_limit_9 ?_
  refine r_bipush (pc := 10) dX5_limit_10 (by decide) ?_
  refine r_aload_n (pc := 12) dX5_limit_12 rfl ?_
  refine gX5_21 (pc := 13) dX5_limit_13 ha rfl ?_
  refine r_imul (pc := 16) dX5_limit_16 ?_
  refine r_iadd (pc := 17) dX5_limit_17 ?_
  exact r_iret (pc := 18) dX5_limit_18 rfl rfl ⟨congrArg (fun q : Int => some (Value.int (iZ q))) (by unfold limZ; omega), rfl⟩
theorem t_X5_above {G : Gl} {h : Hp} {q : Nat} {t : Tg} {r : Row} {a : Int} (ha : h q = some (t, aC r a)) (ho : artOk r a) {x : Int} (hx : 10 ≤ x ∧ x ≤ 99) : Ct G 3 0 yX5_above (Cond.code yX5_above cX5_above 2 (some .int)) [.ref q, .int (iZ x)] h (jE (.int (iZ (abvZ r a x))) h) noX := by
  have ho2 := ho
  unfold artOk at ho2
  have hl := lim_in ho
  have hh := heat_in (s := fA r a 4) (x := x) ho2.2.2.2.2.1 hx
  have hab := abv_in ho hx
  have hcr := cr_in ho hx
  refine Ct.of (own := "CharterKiln$Article") (nm := "above") (by decide +kernel) rfl rfl (L := [some (.ref q), some (.int (iZ x))]) rfl (Nat.le_of_ble_eq_true rfl) rfl ?_
  refine r_aload_n (pc := 0) dX5_above_0 rfl ?_
  refine r_callV (pc := 1) (kb' := 0) dX5_above_1 kX5_isLaw q1173 (t_X5_isLaw ha (by omega)) ha rfl (Nat.le_refl _) (Nat.le_of_ble_eq_true rfl) rfl rfl (Nat.le_of_ble_eq_true rfl) (fun _ _ q => q.elim) (fun _ _ hq => ?_)
  refine go_jE hq ?_
  refine r_ifB_eq (pc := 4) (tgt := 11) dX5_above_4 (by decide) (fun c4 => ?_) (fun c4 => ?_)
  · refine r_iconst (pc := 11) dX5_above_11 ?_
    refine r_aload_n (pc := 12) dX5_above_12 rfl ?_
    refine gX5_15 (pc := 13) dX5_above_13 ha rfl ?_
    refine r_iload_n (pc := 16) dX5_above_16 rfl ?_
    refine r_callSN (pc := 17) (kb' := 0) dX5_above_17 kX1_onShelf q1177 (t_X1_onShelf (by omega) (by omega)) (Nat.le_refl _) (Nat.le_of_ble_eq_true rfl) rfl rfl (Nat.le_of_ble_eq_true rfl) (fun _ _ q => q.elim) (fun _ _ hq => ?_)
    refine go_jE hq ?_
    refine r_aload_n (pc := 20) dX5_above_20 rfl ?_
    refine r_callV (pc := 21) (kb' := 0) dX5_above_21 kX5_limit q1181 (t_X5_limit ha ho) ha rfl (Nat.le_refl _) (Nat.le_of_ble_eq_true rfl) rfl rfl (Nat.le_of_ble_eq_true rfl) (fun _ _ q => q.elim) (fun _ _ hq => ?_)
    refine go_jE hq ?_
    refine r_isub (pc := 24) dX5_above_24 ?_
    refine r_callS (pc := 25) (kb' := 0) dX5_above_25 kJ19_max q1185 (t_J19_max (i := 0) (by omega) (by omega)) (Nat.le_refl _) (Nat.le_of_ble_eq_true rfl) rfl rfl (Nat.le_of_ble_eq_true rfl) (fun _ _ q => q.elim) (fun _ _ hq => ?_)
    refine go_jE hq ?_
    exact r_iret (pc := 28) dX5_above_28 rfl rfl ⟨congrArg (fun q : Int => some (Value.int (iZ q))) (by unfold abvZ; (repeat' split) <;> omega), rfl⟩
  · refine r_iconst (pc := 7) dX5_above_7 ?_
    refine r_goto (pc := 8) (tgt := 28) dX5_above_8 (by decide) ?_
    exact r_iret (pc := 28) dX5_above_28 rfl rfl ⟨congrArg (fun q : Int => some (Value.int (iZ q))) (by unfold abvZ; (repeat' split) <;> omega), rfl⟩
theorem t_X5_cracksBy {G : Gl} {h : Hp} {q : Nat} {t : Tg} {r : Row} {a : Int} (ha : h q = some (t, aC r a)) (ho : artOk r a) {x : Int} (hx : 10 ≤ x ∧ x ≤ 99) : Ct G 4 0 yX5_cracksBy (Cond.code yX5_cracksBy cX5_cracksBy 2 (some .int)) [.ref q, .int (iZ x)] h (jE (.int (iZ (crZ r a x))) h) noX := by
  have ho2 := ho
  unfold artOk at ho2
  have hl := lim_in ho
  have hh := heat_in (s := fA r a 4) (x := x) ho2.2.2.2.2.1 hx
  have hab := abv_in ho hx
  have hcr := cr_in ho hx
  have hce := cr_abv (r := r) (a := a) (x := x)
  refine Ct.of (own := "CharterKiln$Article") (nm := "cracksBy") (by decide +kernel) rfl rfl (L := [some (.ref q), some (.int (iZ x))]) rfl (Nat.le_of_ble_eq_true rfl) rfl ?_
  refine r_aload_n (pc := 0) dX5_cracksBy_0 rfl ?_
  refine r_iload_n (pc := 1) dX5_cracksBy_1 rfl ?_
  refine r_callV (pc := 2) (kb' := 0) dX5_cracksBy_2 kX5_above q1168 (t_X5_above ha ho (by omega)) ha rfl (Nat.le_refl _) (Nat.le_of_ble_eq_true rfl) rfl rfl (Nat.le_of_ble_eq_true rfl) (fun _ _ q => q.elim) (fun _ _ hq => ?_)
  refine go_jE hq ?_
  refine r_if_ne (pc := 5) (tgt := 12) dX5_cracksBy_5 (by decide) (by omega) (fun c5 => ?_) (fun c5 => ?_)
  · refine r_iconst (pc := 12) dX5_cracksBy_12 ?_
    refine r_aload_n (pc := 13) dX5_cracksBy_13 rfl ?_
    refine r_iload_n (pc := 14) dX5_cracksBy_14 rfl ?_
    refine r_callV (pc := 15) (kb' := 0) dX5_cracksBy_15 kX5_above q1168 (t_X5_above ha ho (by omega)) ha rfl (Nat.le_refl _) (Nat.le_of_ble_eq_true rfl) rfl rfl (Nat.le_of_ble_eq_true rfl) (fun _ _ q => q.elim) (fun _ _ hq => ?_)
    refine go_jE hq ?_
    refine r_iconst (pc := 18) dX5_cracksBy_18 ?_
    refine r_idiv (pc := 19) dX5_cracksBy_19 (by omega) (by omega) (by omega) ?_
    refine r_iadd (pc := 20) dX5_cracksBy_20 ?_
    exact r_iret (pc := 21) dX5_cracksBy_21 rfl rfl ⟨congrArg (fun q : Int => some (Value.int (iZ q))) (by rw [hce]; split <;> omega), rfl⟩
  · refine r_iconst (pc := 8) dX5_cracksBy_8 ?_
    refine r_goto (pc := 9) (tgt := 21) dX5_cracksBy_9 (by decide) ?_
    exact r_iret (pc := 21) dX5_cracksBy_21 rfl rfl ⟨congrArg (fun q : Int => some (Value.int (iZ q))) (by rw [hce]; split <;> omega), rfl⟩
theorem t_X5_cracksByDegrees {G : Gl} {h : Hp} {q : Nat} {t : Tg} {r : Row} {a : Int} (ha : h q = some (t, aC r a)) (ho : artOk r a) {x : Int} (hx : 10 ≤ x ∧ x ≤ 99) : Ct G 4 0 yX5_cracksByDegrees (Cond.code yX5_cracksByDegrees cX5_cracksByDegrees 4 (some .int)) [.ref q, .int (iZ x)] h (jE (.int (iZ (crZ r a x))) h) noX := by
  have ho2 := ho
  unfold artOk at ho2
  have hl := lim_in ho
  have hh := heat_in (s := fA r a 4) (x := x) ho2.2.2.2.2.1 hx
  have hab := abv_in ho hx
  have hcr := cr_in ho hx
  have hce := cr_abv (r := r) (a := a) (x := x)
  refine Ct.of (own := "CharterKiln$Article") (nm := "cracksByDegrees") (by decide +kernel) rfl rfl (L := [some (.ref q), some (.int (iZ x)), none, none]) rfl (Nat.le_of_ble_eq_true rfl) rfl ?_
  refine r_iconst (pc := 0) dX5_cracksByDegrees_0 ?_
  refine r_istore_n (pc := 1) (L' := [_, _, _, _]) dX5_cracksByDegrees_1 rfl ?_
  refine r_iconst (pc := 2) dX5_cracksByDegrees_2 ?_
  refine r_istore_n (pc := 3) (L' := [_, _, _, _]) dX5_cracksByDegrees_3 rfl ?_
  have loop4 : ∀ (k4 : Nat) (z n : Int), (0 ≤ z ∧ z ≤ abvZ r a x) → (n = if z = 0 then 0 else 1 + z / 5) → (abvZ r a x - z).toNat < k4 → Go G "CharterKiln$Article" cX5_cracksByDegrees (4, some .int, "cracksByDegrees", []) 4 0 (jE (.int (iZ (crZ r a x))) h) (noX) 0 h 4 [some (.ref q), some (.int (iZ x)), some (.int (iZ n)), some (.int (iZ (z + 1)))] [] := by
    intro k4
    induction k4 with
    | zero => intro z n hz hn hk; omega
    | succ k4 ih4 =>
      intro z n hz hn hk4
      have hn3 : 0 ≤ n ∧ n ≤ 1 + z / 5 := by rw [hn]; split <;> omega
      refine r_iload_n (pc := 4) dX5_cracksByDegrees_4 rfl ?_
      refine r_aload_n (pc := 5) dX5_cracksByDegrees_5 rfl ?_
      refine r_iload_n (pc := 6) dX5_cracksByDegrees_6 rfl ?_
      refine r_callV (pc := 7) (kb' := 0) dX5_cracksByDegrees_7 kX5_above q1168 (t_X5_above ha ho (by omega)) ha rfl (Nat.le_refl _) (Nat.le_of_ble_eq_true rfl) rfl rfl (Nat.le_of_ble_eq_true rfl) (fun _ _ q => q.elim) (fun _ _ hq => ?_)
      refine go_jE hq ?_
      refine r_icmp_gt (pc := 10) (tgt := 46) dX5_cracksByDegrees_10 (by decide) (by omega) (by omega) (fun c10 => ?_) (fun c10 => ?_)
      · refine r_iload_n (pc := 46) dX5_cracksByDegrees_46 rfl ?_
        exact r_iret (pc := 47) dX5_cracksByDegrees_47 rfl rfl ⟨congrArg (fun q : Int => some (Value.int (iZ q))) (by rw [hce, hn, show z = abvZ r a x by omega]), rfl⟩
      · refine r_iload_n (pc := 13) dX5_cracksByDegrees_13 rfl ?_
        refine r_iload_n (pc := 14) dX5_cracksByDegrees_14 rfl ?_
        refine r_iconst (pc := 15) dX5_cracksByDegrees_15 ?_
        refine r_icmp_ne (pc := 16) (tgt := 23) dX5_cracksByDegrees_16 (by decide) (by omega) (by omega) (fun c16 => ?_) (fun c16 => ?_)
        · refine r_iconst (pc := 23) dX5_cracksByDegrees_23 ?_
          refine r_iadd (pc := 24) dX5_cracksByDegrees_24 ?_
          refine r_istore_n (pc := 25) (L' := [_, _, _, _]) dX5_cracksByDegrees_25 rfl ?_
          refine r_iload_n (pc := 26) dX5_cracksByDegrees_26 rfl ?_
          refine r_iload_n (pc := 27) dX5_cracksByDegrees_27 rfl ?_
          refine r_iconst (pc := 28) dX5_cracksByDegrees_28 ?_
          refine r_irem (pc := 29) dX5_cracksByDegrees_29 (by omega) (by omega) (by omega) ?_
          refine r_if_ne (pc := 30) (tgt := 37) dX5_cracksByDegrees_30 (by decide) (by omega) (fun c30 => ?_) (fun c30 => ?_)
          · refine r_iconst (pc := 37) dX5_cracksByDegrees_37 ?_
            refine r_iadd (pc := 38) dX5_cracksByDegrees_38 ?_
            refine r_istore_n (pc := 39) (L' := [_, _, _, _]) dX5_cracksByDegrees_39 rfl ?_
            refine r_iinc (pc := 40) (L' := [_, _, _, _]) dX5_cracksByDegrees_40 rfl rfl ?_
            refine r_goto (pc := 43) (tgt := 4) dX5_cracksByDegrees_43 (by decide) ?_
            exact ih4 (z + 1) _ (by omega) (by split at hn <;> split <;> omega) (by omega)
          · refine r_iconst (pc := 33) dX5_cracksByDegrees_33 ?_
            refine r_goto (pc := 34) (tgt := 38) dX5_cracksByDegrees_34 (by decide) ?_
            refine r_iadd (pc := 38) dX5_cracksByDegrees_38 ?_
            refine r_istore_n (pc := 39) (L' := [_, _, _, _]) dX5_cracksByDegrees_39 rfl ?_
            refine r_iinc (pc := 40) (L' := [_, _, _, _]) dX5_cracksByDegrees_40 rfl rfl ?_
            refine r_goto (pc := 43) (tgt := 4) dX5_cracksByDegrees_43 (by decide) ?_
            exact ih4 (z + 1) _ (by omega) (by split at hn <;> split <;> omega) (by omega)
        · refine r_iconst (pc := 19) dX5_cracksByDegrees_19 ?_
          refine r_goto (pc := 20) (tgt := 24) dX5_cracksByDegrees_20 (by decide) ?_
          refine r_iadd (pc := 24) dX5_cracksByDegrees_24 ?_
          refine r_istore_n (pc := 25) (L' := [_, _, _, _]) dX5_cracksByDegrees_25 rfl ?_
          refine r_iload_n (pc := 26) dX5_cracksByDegrees_26 rfl ?_
          refine r_iload_n (pc := 27) dX5_cracksByDegrees_27 rfl ?_
          refine r_iconst (pc := 28) dX5_cracksByDegrees_28 ?_
          refine r_irem (pc := 29) dX5_cracksByDegrees_29 (by omega) (by omega) (by omega) ?_
          refine r_if_ne (pc := 30) (tgt := 37) dX5_cracksByDegrees_30 (by decide) (by omega) (fun c30 => ?_) (fun c30 => ?_)
          · refine r_iconst (pc := 37) dX5_cracksByDegrees_37 ?_
            refine r_iadd (pc := 38) dX5_cracksByDegrees_38 ?_
            refine r_istore_n (pc := 39) (L' := [_, _, _, _]) dX5_cracksByDegrees_39 rfl ?_
            refine r_iinc (pc := 40) (L' := [_, _, _, _]) dX5_cracksByDegrees_40 rfl rfl ?_
            refine r_goto (pc := 43) (tgt := 4) dX5_cracksByDegrees_43 (by decide) ?_
            exact ih4 (z + 1) _ (by omega) (by split at hn <;> split <;> omega) (by omega)
          · refine r_iconst (pc := 33) dX5_cracksByDegrees_33 ?_
            refine r_goto (pc := 34) (tgt := 38) dX5_cracksByDegrees_34 (by decide) ?_
            refine r_iadd (pc := 38) dX5_cracksByDegrees_38 ?_
            refine r_istore_n (pc := 39) (L' := [_, _, _, _]) dX5_cracksByDegrees_39 rfl ?_
            refine r_iinc (pc := 40) (L' := [_, _, _, _]) dX5_cracksByDegrees_40 rfl rfl ?_
            refine r_goto (pc := 43) (tgt := 4) dX5_cracksByDegrees_43 (by decide) ?_
            exact ih4 (z + 1) _ (by omega) (by split at hn <;> split <;> omega) (by omega)
  exact loop4 _ 0 0 (by omega) rfl (Nat.lt_succ_self _)
theorem t_X5_isFiredBy {G : Gl} {h : Hp} {q : Nat} {t : Tg} {c g x f s n : Int} (ha : h q = some (t, ob 4 [.int (iZ c), .int (iZ g), .int (iZ x), .int (iZ f), .int (iZ s), .int (iZ n)])) {y : Int} (hc : 1 ≤ c ∧ c ≤ 9) (hs : -1 ≤ s ∧ s ≤ 2) (hy : 10 ≤ y ∧ y ≤ 99) : Ct G 3 0 yX5_isFiredBy (Cond.code yX5_isFiredBy cX5_isFiredBy 2 (some .boolean)) [.ref q, .int (iZ y)] h (jE (.int (iZ (bZ (0 ≤ s ∧ 10 * c ≤ heatZ s y)))) h) noX := by
  have hh := heat_in (s := s) (x := y) hs hy
  refine Ct.of (own := "CharterKiln$Article") (nm := "isFiredBy") (by decide +kernel) rfl rfl (L := [some (.ref q), some (.int (iZ y))]) rfl (Nat.le_of_ble_eq_true rfl) rfl ?_
  refine r_aload_n (pc := 0) dX5_isFiredBy_0 rfl ?_
  refine r_callV (pc := 1) (kb' := 0) dX5_isFiredBy_1 kX5_isLaw q1173 (t_X5_isLaw ha (by omega)) ha rfl (Nat.le_refl _) (Nat.le_of_ble_eq_true rfl) rfl rfl (Nat.le_of_ble_eq_true rfl) (fun _ _ q => q.elim) (fun _ _ hq => ?_)
  refine go_jE hq ?_
  refine r_ifB_ne (pc := 4) (tgt := 29) dX5_isFiredBy_4 (by decide) (fun c4 => ?_) (fun c4 => ?_)
  · refine r_iconst (pc := 29) dX5_isFiredBy_29 ?_
    exact r_iret (pc := 30) dX5_isFiredBy_30 rfl (nB' (by first | (left; rfl) | (right; rfl) | exact bZ_01' _ | omega)) ⟨by rw [bZ_f (by first | assumption | omega)], rfl⟩
  · refine r_aload_n (pc := 7) dX5_isFiredBy_7 rfl ?_
    refine gX5_15 (pc := 8) dX5_isFiredBy_8 ha rfl ?_
    refine r_iload_n (pc := 11) dX5_isFiredBy_11 rfl ?_
    refine r_callSN (pc := 12) (kb' := 0) dX5_isFiredBy_12 kX1_onShelf q1177 (t_X1_onShelf (by omega) (by omega)) (Nat.le_refl _) (Nat.le_of_ble_eq_true rfl) rfl rfl (Nat.le_of_ble_eq_true rfl) (fun _ _ q => q.elim) (fun _ _ hq => ?_)
    refine go_jE hq ?_
    refine r_bipush (pc := 15) dX5_isFiredBy_15 (by decide) ?_
    refine r_aload_n (pc := 17) dX5_isFiredBy_17 rfl ?_
    refine gX5_9 (pc := 18) dX5_isFiredBy_18 ha rfl ?_
    refine r_imul (pc := 21) dX5_isFiredBy_21 ?_
    refine r_icmp_lt (pc := 22) (tgt := 29) dX5_isFiredBy_22 (by decide) (by omega) (by omega) (fun c22 => ?_) (fun c22 => ?_)
    · refine r_iconst (pc := 29) dX5_isFiredBy_29 ?_
      exact r_iret (pc := 30) dX5_isFiredBy_30 rfl (nB' (by first | (left; rfl) | (right; rfl) | exact bZ_01' _ | omega)) ⟨by rw [bZ_f (by first | assumption | omega)], rfl⟩
    · refine r_iconst (pc := 25) dX5_isFiredBy_25 ?_
      refine r_goto (pc := 26) (tgt := 30) dX5_isFiredBy_26 (by decide) ?_
      exact r_iret (pc := 30) dX5_isFiredBy_30 rfl (nB' (by first | (left; rfl) | (right; rfl) | exact bZ_01' _ | omega)) ⟨by rw [bZ_t (by first | assumption | omega | (refine ⟨?_, ?_⟩ <;> omega))], rfl⟩
theorem t_X5_burstsBy {G : Gl} {h : Hp} {q : Nat} {t : Tg} {r : Row} {a : Int} (ha : h q = some (t, aC r a)) (ho : artOk r a) {x : Int} (hx : 10 ≤ x ∧ x ≤ 99) : Ct G 5 0 yX5_burstsBy (Cond.code yX5_burstsBy cX5_burstsBy 2 (some .boolean)) [.ref q, .int (iZ x)] h (jE (.int (iZ (bZ (burP r a x)))) h) noX := by
  have ho2 := ho
  unfold artOk at ho2
  have hl := lim_in ho
  have hh := heat_in (s := fA r a 4) (x := x) ho2.2.2.2.2.1 hx
  have hab := abv_in ho hx
  have hcr := cr_in ho hx
  refine Ct.of (own := "CharterKiln$Article") (nm := "burstsBy") (by decide +kernel) rfl rfl (L := [some (.ref q), some (.int (iZ x))]) rfl (Nat.le_of_ble_eq_true rfl) rfl ?_
  refine r_aload_n (pc := 0) dX5_burstsBy_0 rfl ?_
  refine gX5_24 (pc := 1) dX5_burstsBy_1 ha rfl ?_
  refine r_aload_n (pc := 4) dX5_burstsBy_4 rfl ?_
  refine r_iload_n (pc := 5) dX5_burstsBy_5 rfl ?_
  refine r_callV (pc := 6) (kb' := 0) dX5_burstsBy_6 kX5_cracksBy q1782 (t_X5_cracksBy ha ho (by omega)) ha rfl (Nat.le_refl _) (Nat.le_of_ble_eq_true rfl) rfl rfl (Nat.le_of_ble_eq_true rfl) (fun _ _ q => q.elim) (fun _ _ hq => ?_)
  refine go_jE hq ?_
  refine r_iadd (pc := 9) dX5_burstsBy_9 ?_
  refine r_bipush (pc := 10) dX5_burstsBy_10 (by decide) ?_
  refine r_icmp_le (pc := 12) (tgt := 19) dX5_burstsBy_12 (by decide) (by omega) (by omega) (fun c12 => ?_) (fun c12 => ?_)
  · refine r_iconst (pc := 19) dX5_burstsBy_19 ?_
    exact r_iret (pc := 20) dX5_burstsBy_20 rfl (nB' (by first | (left; rfl) | (right; rfl) | exact bZ_01' _ | omega)) ⟨by rw [bZ_f (by first | assumption | omega)], rfl⟩
  · refine r_iconst (pc := 15) dX5_burstsBy_15 ?_
    refine r_goto (pc := 16) (tgt := 20) dX5_burstsBy_16 (by decide) ?_
    exact r_iret (pc := 20) dX5_burstsBy_20 rfl (nB' (by first | (left; rfl) | (right; rfl) | exact bZ_01' _ | omega)) ⟨by rw [bZ_t (by first | assumption | omega | (refine ⟨?_, ?_⟩ <;> omega))], rfl⟩
/-- an article that was in a session -/
abbrev iC (r : Row) (a x : Int) : Cl := ob 4 [.int (iZ (fA r a 0)), .int (iZ (if firP r a x ∧ 0 < fA r a 1 then fA r a 1 - 1 else fA r a 1)), .int (iZ (fA r a 2 + crZ r a x)), .int (iZ (if firP r a x then 1 else fA r a 3)), .int (iZ (fA r a 4)), .int (iZ (fA r a 5))]
theorem in_g {p : Prop} [Decidable p] {g : Int} (hp : p) (h0 : 0 ≤ g) : (if (0 : Int) < g - 1 then g - 1 else 0) = if p ∧ 0 < g then g - 1 else g := by
  by_cases hg : 0 < g
  · rw [if_pos (show p ∧ 0 < g from ⟨hp, hg⟩)]; split <;> omega
  · rw [if_neg (fun q : p ∧ 0 < g => hg q.2)]; split <;> omega
theorem up_eq {h h1 : Hp} {q : Nat} {t : Tg} {o o' : Cl} (e : h1 = up h q (t, o)) (ho : o = o') : h1 = up h q (t, o') := by rw [e, ho]

theorem t_X5_isIn {G : Gl} {h : Hp} {q : Nat} {t : Tg} {r : Row} {a : Int} (ha : h q = some (t, aC r a)) (ho : artOk r a) {x : Int} (hx : 10 ≤ x ∧ x ≤ 99) (ht : t ≠ frz) : Ct G 5 0 yX5_isIn (Cond.code yX5_isIn cX5_isIn 2 (none)) [.ref q, .int (iZ x)] h (jN (· = up h q (t, iC r a x))) noX := by
  have ho2 := ho
  unfold artOk at ho2
  have hl := lim_in ho
  have hh := heat_in (s := fA r a 4) (x := x) ho2.2.2.2.2.1 hx
  have hab := abv_in ho hx
  have hcr := cr_in ho hx
  have hp := PW.one ha
  refine Ct.of (own := "CharterKiln$Article") (nm := "isIn") (by decide +kernel) rfl rfl (L := [some (.ref q), some (.int (iZ x))]) rfl (Nat.le_of_ble_eq_true rfl) rfl ?_
  refine r_aload_n (pc := 0) dX5_isIn_0 rfl ?_
  refine r_dup (pc := 1) dX5_isIn_1 rfl ?_
  refine gX5_24 (pc := 2) dX5_isIn_2 (hp.at 0 rfl) rfl ?_
  refine r_aload_n (pc := 5) dX5_isIn_5 rfl ?_
  refine r_iload_n (pc := 6) dX5_isIn_6 rfl ?_
  refine r_callV (pc := 7) (kb' := 0) dX5_isIn_7 kX5_cracksBy q1782 (t_X5_cracksBy ha ho hx) (hp.at 0 rfl) rfl (Nat.le_refl _) (Nat.le_of_ble_eq_true rfl) rfl rfl (Nat.le_of_ble_eq_true rfl) (fun _ _ q => q.elim) (fun _ _ hq => ?_)
  refine go_jE hq ?_
  refine r_iadd (pc := 10) dX5_isIn_10 ?_
  refine pX5_24 (pc := 11) dX5_isIn_11 (hp.at 0 rfl) ht (Nat.le_of_ble_eq_true rfl) ?_
  refine go_pw (hp.put 0 rfl) (fun h hp => ?_)
  refine r_aload_n (pc := 14) dX5_isIn_14 rfl ?_
  refine r_iload_n (pc := 15) dX5_isIn_15 rfl ?_
  refine r_callV (pc := 16) (kb' := 0) dX5_isIn_16 kX5_isFiredBy q1882 (t_X5_isFiredBy (hp.at 0 rfl) (by omega) (by omega) (by omega)) (hp.at 0 rfl) rfl (Nat.le_refl _) (Nat.le_of_ble_eq_true rfl) rfl rfl (Nat.le_of_ble_eq_true rfl) (fun _ _ q => q.elim) (fun _ _ hq => ?_)
  refine go_jE hq ?_
  refine r_ifB_eq (pc := 19) (tgt := 41) dX5_isIn_19 (by decide) (fun c19 => ?_) (fun c19 => ?_)
  · have hf9 : ¬ firP r a x := by assumption
    exact r_vret (pc := 41) dX5_isIn_41 rfl ⟨rfl, up_eq hp.eq1 (by dsimp only [iC]; rw [if_neg hf9, if_neg (fun q : firP r a x ∧ 0 < fA r a 1 => hf9 q.1)]; rfl)⟩
  · have hf9 : firP r a x := by first | assumption | exact Classical.not_not.mp (by assumption)
    refine r_aload_n (pc := 22) dX5_isIn_22 rfl ?_
    refine r_iconst (pc := 23) dX5_isIn_23 ?_
    refine pX5_27 (pc := 24) dX5_isIn_24 (iZ01' (by first | (left; rfl) | (right; rfl) | exact bZ_01' _ | omega)) (hp.at 0 rfl) ht (Nat.le_of_ble_eq_true rfl) ?_
    refine go_pw (hp.put 0 rfl) (fun h hp => ?_)
    refine r_aload_n (pc := 27) dX5_isIn_27 rfl ?_
    refine r_iconst (pc := 28) dX5_isIn_28 ?_
    refine r_aload_n (pc := 29) dX5_isIn_29 rfl ?_
    refine gX5_21 (pc := 30) dX5_isIn_30 (hp.at 0 rfl) rfl ?_
    refine r_iconst (pc := 33) dX5_isIn_33 ?_
    refine r_isub (pc := 34) dX5_isIn_34 ?_
    refine r_callS (pc := 35) (kb' := 0) dX5_isIn_35 kJ19_max q1185 (t_J19_max (i := 0) (by omega) (by omega)) (Nat.le_refl _) (Nat.le_of_ble_eq_true rfl) rfl rfl (Nat.le_of_ble_eq_true rfl) (fun _ _ q => q.elim) (fun _ _ hq => ?_)
    refine go_jE hq ?_
    refine pX5_21 (pc := 38) dX5_isIn_38 (hp.at 0 rfl) ht (Nat.le_of_ble_eq_true rfl) ?_
    refine go_pw (hp.put 0 rfl) (fun h hp => ?_)
    exact r_vret (pc := 41) dX5_isIn_41 rfl ⟨rfl, up_eq hp.eq1 (by dsimp only [iC]; rw [if_pos hf9, in_g hf9 (by omega)]; rfl)⟩
theorem t_X5_init {G : Gl} {h : Hp} {q : Nat} {t : Tg} {c s : Int} (ha : h q = some (t, ob 4 [.int 0, .int 0, .int 0, .int 0, .int 0, .int 0])) (ht : t ≠ frz) : Ct G 1 0 yX5_init (Cond.code yX5_init cX5_init 3 (none)) [.ref q, .int (iZ c), .int (iZ s)] h (jN (· = up h q (t, ob 4 [.int (iZ c), .int 0, .int 0, .int 0, .int (iZ s), .int 0]))) noX := by
  have hp := PW.one ha
  refine Ct.of (own := "CharterKiln$Article") (nm := "<init>") (by decide +kernel) rfl rfl (L := [some (.ref q), some (.int (iZ c)), some (.int (iZ s))]) rfl (Nat.le_of_ble_eq_true rfl) rfl ?_
  refine r_aload_n (pc := 0) dX5_init_0 rfl ?_
  refine r_objInit (pc := 1) dX5_init_1 q1396 q169 q170 (by decide) (Nat.le_of_ble_eq_true rfl) ?_
  refine r_aload_n (pc := 4) dX5_init_4 rfl ?_
  refine r_iload_n (pc := 5) dX5_init_5 rfl ?_
  refine pX5_9 (pc := 6) dX5_init_6 rfl (hp.at 0 rfl) ht (Nat.le_of_ble_eq_true rfl) ?_
  refine go_pw (hp.put 0 rfl) (fun h hp => ?_)
  refine r_aload_n (pc := 9) dX5_init_9 rfl ?_
  refine r_iload_n (pc := 10) dX5_init_10 rfl ?_
  refine pX5_15 (pc := 11) dX5_init_11 (hp.at 0 rfl) ht (Nat.le_of_ble_eq_true rfl) ?_
  refine go_pw (hp.put 0 rfl) (fun h hp => ?_)
  exact r_vret (pc := 14) dX5_init_14 rfl ⟨rfl, hp.eq1⟩
theorem t_X5_copy {G : Gl} {h : Hp} {q : Nat} {t : Tg} {r : Row} {a : Int} (ha : h q = some (t, aC r a)) (ho : artOk r a) (tg : Tg) (htg : tg ≠ frz) : Ct G 2 7 yX5_copy (Cond.code yX5_copy cX5_copy 2 (some (.object "CharterKiln$Article"))) [.ref q] h (jX (fun q' h' => h q' = none ∧ h' = up h q' (tg, aC r a))) noX := by
  have ho2 := ho
  unfold artOk at ho2
  have hl := lim_in ho
  have hp := PW.nil (h := h)
  refine Ct.of (own := "CharterKiln$Article") (nm := "copy") (by decide +kernel) rfl rfl (L := [some (.ref q), none]) rfl (Nat.le_of_ble_eq_true rfl) rfl ?_
  refine r_new (pc := 0) (ci := 4) (T := TX5) (N := 6) (tg) [.int 0, .int 0, .int 0, .int 0, .int 0, .int 0] (kb' := 0) dX5_copy_0 rfl q1392 q1171 q140 (by intro j hj; revert j; decide +kernel) (Nat.le_of_ble_eq_true rfl) (fun w hw zw => ?_)
  refine go_pw (hp.new hw _) (fun h hp => ?_)
  have hwn := hw
  refine r_dup (pc := 3) dX5_copy_3 rfl ?_
  refine r_aload_n (pc := 4) dX5_copy_4 rfl ?_
  refine gX5_9 (pc := 5) dX5_copy_5 ((hp.ot ⟨(ne_nw ha hwn).symm, trivial⟩).trans ha) rfl ?_
  refine r_aload_n (pc := 8) dX5_copy_8 rfl ?_
  refine gX5_15 (pc := 9) dX5_copy_9 ((hp.ot ⟨(ne_nw ha hwn).symm, trivial⟩).trans ha) rfl ?_
  refine r_callI (pc := 12) (kb' := 0) dX5_copy_12 kX5_init q1393 (t_X5_init (hp.at 0 rfl) htg) (Nat.le_refl _) (Nat.le_of_ble_eq_true rfl) rfl rfl (Nat.le_of_ble_eq_true rfl) (fun _ _ q => q.elim) (fun _ h hq => ?_)
  refine go_jN hq (fun e9 => ?_)
  subst e9
  refine go_pw (hp.put 0 rfl) (fun h hp => ?_)
  refine r_astore_n (pc := 15) (L' := [_, _]) dX5_copy_15 rfl ?_
  refine r_aload_n (pc := 16) dX5_copy_16 rfl ?_
  refine r_aload_n (pc := 17) dX5_copy_17 rfl ?_
  refine gX5_21 (pc := 18) dX5_copy_18 ((hp.ot ⟨(ne_nw ha hwn).symm, trivial⟩).trans ha) rfl ?_
  refine pX5_21 (pc := 21) dX5_copy_21 (hp.at 0 rfl) htg (Nat.le_of_ble_eq_true rfl) ?_
  refine go_pw (hp.put 0 rfl) (fun h hp => ?_)
  refine r_aload_n (pc := 24) dX5_copy_24 rfl ?_
  refine r_aload_n (pc := 25) dX5_copy_25 rfl ?_
  refine gX5_24 (pc := 26) dX5_copy_26 ((hp.ot ⟨(ne_nw ha hwn).symm, trivial⟩).trans ha) rfl ?_
  refine pX5_24 (pc := 29) dX5_copy_29 (hp.at 0 rfl) htg (Nat.le_of_ble_eq_true rfl) ?_
  refine go_pw (hp.put 0 rfl) (fun h hp => ?_)
  refine r_aload_n (pc := 32) dX5_copy_32 rfl ?_
  refine r_aload_n (pc := 33) dX5_copy_33 rfl ?_
  refine gX5_27 (pc := 34) dX5_copy_34 ((hp.ot ⟨(ne_nw ha hwn).symm, trivial⟩).trans ha) rfl ?_
  refine pX5_27 (pc := 37) dX5_copy_37 (iZ01' (by first | (left; rfl) | (right; rfl) | exact bZ_01' _ | omega)) (hp.at 0 rfl) htg (Nat.le_of_ble_eq_true rfl) ?_
  refine go_pw (hp.put 0 rfl) (fun h hp => ?_)
  refine r_aload_n (pc := 40) dX5_copy_40 rfl ?_
  refine r_aload_n (pc := 41) dX5_copy_41 rfl ?_
  refine gX5_31 (pc := 42) dX5_copy_42 ((hp.ot ⟨(ne_nw ha hwn).symm, trivial⟩).trans ha) rfl ?_
  refine pX5_31 (pc := 45) dX5_copy_45 (hp.at 0 rfl) htg (Nat.le_of_ble_eq_true rfl) ?_
  refine go_pw (hp.put 0 rfl) (fun h hp => ?_)
  refine r_aload_n (pc := 48) dX5_copy_48 rfl ?_
  exact r_aret (pc := 49) dX5_copy_49 rfl (Or.inl ⟨_, rfl⟩) (Or.inr ⟨_, rfl⟩) ⟨w, rfl, hwn, hp.eq1⟩
theorem t_X6_init {G : Gl} {h : Hp} {q : Nat} {t : Tg} {c s : Int} (ha : h q = some (t, ob 5 [.int 0, .int 0, .int 0])) (ht : t ≠ frz) : Ct G 1 0 yX6_init (Cond.code yX6_init cX6_init 3 (none)) [.ref q, .int (iZ c), .int (iZ s)] h (jN (· = up h q (t, ob 5 [.int (iZ c), .int (iZ s), .int (iZ 3)]))) noX := by
  have hp := PW.one ha
  refine Ct.of (own := "CharterKiln$Shard") (nm := "<init>") (by decide +kernel) rfl rfl (L := [some (.ref q), some (.int (iZ c)), some (.int (iZ s))]) rfl (Nat.le_of_ble_eq_true rfl) rfl ?_
  refine r_aload_n (pc := 0) dX6_init_0 rfl ?_
  refine r_objInit (pc := 1) dX6_init_1 q1497 q169 q170 (by decide) (Nat.le_of_ble_eq_true rfl) ?_
  refine r_aload_n (pc := 4) dX6_init_4 rfl ?_
  refine r_iconst (pc := 5) dX6_init_5 ?_
  refine pX6_9 (pc := 6) dX6_init_6 (hp.at 0 rfl) ht (Nat.le_of_ble_eq_true rfl) ?_
  refine go_pw (hp.put 0 rfl) (fun h hp => ?_)
  refine r_aload_n (pc := 9) dX6_init_9 rfl ?_
  refine r_iload_n (pc := 10) dX6_init_10 rfl ?_
  refine pX6_15 (pc := 11) dX6_init_11 rfl (hp.at 0 rfl) ht (Nat.le_of_ble_eq_true rfl) ?_
  refine go_pw (hp.put 0 rfl) (fun h hp => ?_)
  refine r_aload_n (pc := 14) dX6_init_14 rfl ?_
  refine r_iload_n (pc := 15) dX6_init_15 rfl ?_
  refine pX6_18 (pc := 16) dX6_init_16 rfl (hp.at 0 rfl) ht (Nat.le_of_ble_eq_true rfl) ?_
  refine go_pw (hp.put 0 rfl) (fun h hp => ?_)
  exact r_vret (pc := 19) dX6_init_19 rfl ⟨rfl, hp.eq1⟩
theorem t_X6_copy {G : Gl} {h : Hp} {q : Nat} {t : Tg} {r : Row} {s : Int} (ha : h q = some (t, sC r s)) (tg : Tg) (htg : tg ≠ frz) : Ct G 2 4 yX6_copy (Cond.code yX6_copy cX6_copy 2 (some (.object "CharterKiln$Shard"))) [.ref q] h (jX (fun q' h' => h q' = none ∧ h' = up h q' (tg, sC r s))) noX := by
  have hp := PW.nil (h := h)
  refine Ct.of (own := "CharterKiln$Shard") (nm := "copy") (by decide +kernel) rfl rfl (L := [some (.ref q), none]) rfl (Nat.le_of_ble_eq_true rfl) rfl ?_
  refine r_new (pc := 0) (ci := 5) (T := TX6) (N := 3) (tg) [.int 0, .int 0, .int 0] (kb' := 0) dX6_copy_0 rfl q1492 q1493 q146 (by intro j hj; revert j; decide +kernel) (Nat.le_of_ble_eq_true rfl) (fun w hw zw => ?_)
  refine go_pw (hp.new hw _) (fun h hp => ?_)
  have hwn := hw
  refine r_dup (pc := 3) dX6_copy_3 rfl ?_
  refine r_aload_n (pc := 4) dX6_copy_4 rfl ?_
  refine gX6_15 (pc := 5) dX6_copy_5 ((hp.ot ⟨(ne_nw ha hwn).symm, trivial⟩).trans ha) rfl ?_
  refine r_aload_n (pc := 8) dX6_copy_8 rfl ?_
  refine gX6_18 (pc := 9) dX6_copy_9 ((hp.ot ⟨(ne_nw ha hwn).symm, trivial⟩).trans ha) rfl ?_
  refine r_callI (pc := 12) (kb' := 0) dX6_copy_12 kX6_init q1494 (t_X6_init (hp.at 0 rfl) htg) (Nat.le_refl _) (Nat.le_of_ble_eq_true rfl) rfl rfl (Nat.le_of_ble_eq_true rfl) (fun _ _ q => q.elim) (fun _ h hq => ?_)
  refine go_jN hq (fun e9 => ?_)
  subst e9
  refine go_pw (hp.put 0 rfl) (fun h hp => ?_)
  refine r_astore_n (pc := 15) (L' := [_, _]) dX6_copy_15 rfl ?_
  refine r_aload_n (pc := 16) dX6_copy_16 rfl ?_
  refine r_aload_n (pc := 17) dX6_copy_17 rfl ?_
  refine gX6_9 (pc := 18) dX6_copy_18 ((hp.ot ⟨(ne_nw ha hwn).symm, trivial⟩).trans ha) rfl ?_
  refine pX6_9 (pc := 21) dX6_copy_21 (hp.at 0 rfl) htg (Nat.le_of_ble_eq_true rfl) ?_
  refine go_pw (hp.put 0 rfl) (fun h hp => ?_)
  refine r_aload_n (pc := 24) dX6_copy_24 rfl ?_
  exact r_aret (pc := 25) dX6_copy_25 rfl (Or.inl ⟨_, rfl⟩) (Or.inr ⟨_, rfl⟩) ⟨w, rfl, hwn, hp.eq1⟩
/-- the cracks that a shard of a clay amends, of an article's -/
def shA (c d x : Int) : Int := if 2 < apZ c d then 0 else leZ x (3 - apZ c d)
theorem shA_in {c d x : Int} (hc : 1 ≤ c ∧ c ≤ 9) (hd : 1 ≤ d ∧ d ≤ 9) (hx : 0 ≤ x ∧ x ≤ 9) : 0 ≤ shA c d x ∧ shA c d x ≤ 3 ∧ shA c d x ≤ x := by
  have := ap_in hc hd
  unfold shA leZ
  (repeat' split) <;> omega
theorem t_X6_amends {G : Gl} {h : Hp} {q : Nat} {t : Tg} {c d x : Int} {v w : Value} (ha : h q = some (t, ob 5 [.int (iZ c), v, w])) (hc : 1 ≤ c ∧ c ≤ 9) (hd : 1 ≤ d ∧ d ≤ 9) (hx : 0 ≤ x ∧ x ≤ 9) : Ct G 2 0 yX6_amends (Cond.code yX6_amends cX6_amends 4 (some .int)) [.ref q, .int (iZ d), .int (iZ x)] h (jE (.int (iZ (shA c d x))) h) noX := by
  have hap := ap_in hc hd
  refine Ct.of (own := "CharterKiln$Shard") (nm := "amends") (by decide +kernel) rfl rfl (L := [some (.ref q), some (.int (iZ d)), some (.int (iZ x)), none]) rfl (Nat.le_of_ble_eq_true rfl) rfl ?_
  refine r_aload_n (pc := 0) dX6_amends_0 rfl ?_
  refine gX6_15 (pc := 1) dX6_amends_1 ha rfl ?_
  refine r_iload_n (pc := 4) dX6_amends_4 rfl ?_
  refine r_callSN (pc := 5) (kb' := 0) dX6_amends_5 kX1_apart q1909 (t_X1_apart (by omega) (by omega)) (Nat.le_refl _) (Nat.le_of_ble_eq_true rfl) rfl rfl (Nat.le_of_ble_eq_true rfl) (fun _ _ q => q.elim) (fun _ _ hq => ?_)
  refine go_jE hq ?_
  refine r_istore_n (pc := 8) (L' := [_, _, _, _]) dX6_amends_8 rfl ?_
  refine r_iload_n (pc := 9) dX6_amends_9 rfl ?_
  refine r_iconst (pc := 10) dX6_amends_10 ?_
  refine r_icmp_le (pc := 11) (tgt := 18) dX6_amends_11 (by decide) (by omega) (by omega) (fun c11 => ?_) (fun c11 => ?_)
  · refine r_iload_n (pc := 18) dX6_amends_18 rfl ?_
    refine r_iconst (pc := 19) dX6_amends_19 ?_
    refine r_iload_n (pc := 20) dX6_amends_20 rfl ?_
    refine r_isub (pc := 21) dX6_amends_21 ?_
    refine r_callS (pc := 22) (kb' := 0) dX6_amends_22 kJ19_min q1910 (t_J19_min (by omega) (by omega)) (Nat.le_refl _) (Nat.le_of_ble_eq_true rfl) rfl rfl (Nat.le_of_ble_eq_true rfl) (fun _ _ q => q.elim) (fun _ _ hq => ?_)
    refine go_jE hq ?_
    exact r_iret (pc := 25) dX6_amends_25 rfl rfl ⟨congrArg (fun q : Int => some (Value.int (iZ q))) (by unfold shA leZ; (repeat' split) <;> omega), rfl⟩
  · refine r_iconst (pc := 14) dX6_amends_14 ?_
    refine r_goto (pc := 15) (tgt := 25) dX6_amends_15 (by decide) ?_
    exact r_iret (pc := 25) dX6_amends_25 rfl rfl ⟨congrArg (fun q : Int => some (Value.int (iZ q))) (by unfold shA leZ; (repeat' split) <;> omega), rfl⟩
