set_option maxRecDepth 100000
theorem t_isSafe {G : Gl} {m : Nat} {ad : Nat → Nat} {h0 h : Hp} {T : TM} (hm : TI m ad h0 T h) {x : Int} (hI : RI (T 0)) (hx : 10 ≤ x ∧ x ≤ 99) : Ct G 4 0 yX3_isSafe (Cond.code yX3_isSafe cX3_isSafe 3 (some .boolean)) [.ref m, .int (iZ x)] h (RE (bZ (safeP (T 0) x)) h) noX := by
  have hm := hm.nw
  have hb := hI.1
  refine Ct.of (own := eM) (nm := "isSafe") (by decide +kernel) rfl rfl (L := [some (.ref m), some (.int (iZ x)), none]) rfl (Nat.le_of_ble_eq_true rfl) rfl ?_
  refine r_iconst (pc := 0) dX3_isSafe_0 ?_
  refine r_istore_n (pc := 1) (L' := [_, _, _]) dX3_isSafe_1 rfl ?_
  have loop2 : ∀ (n : Nat) (z : Int) , (0 ≤ z ∧ z ≤ T 0 0) → fndZ (fun a => 0 < crZ (T 0) a x) 0 (T 0 0).toNat = fndZ (fun a => 0 < crZ (T 0) a x) z (T 0 0 - z).toNat → T 0 0 - z < n → Go G eM cX3_isSafe (3, some .boolean, "isSafe", []) 4 0 (RE (bZ (safeP (T 0) x)) h) noX 0 h 2 [some (.ref m), some (.int (iZ x)), some (.int (iZ z))] [] := by
    intro n
    induction n with
    | zero => intro z hz hk hn; omega
    | succ n ih2 =>
      intro z hz hk hn
      have h9 := fun (hq : z < T 0 0) => cr_in (hI.2.1 z hz.1 hq) hx
      refine r_iload_n (pc := 2) dX3_isSafe_2 rfl ?_
      refine r_aload_n (pc := 3) dX3_isSafe_3 rfl ?_
      refine gX3_7 (pc := 4) dX3_isSafe_4 hm.1.1 rfl ?_
      refine r_iconst (pc := 7) dX3_isSafe_7 ?_
      refine t_iald (pc := 8) (lim := 140) 0 dX3_isSafe_8 hm (by decide) rfl (by first | omega | exact rfB_in _ | exact nz_in _ | exact hm.r _ _) (fun r8 => ?_)
      refine r_icmp_ge (pc := 9) (tgt := 29) dX3_isSafe_9 (by decide) (by first | omega | exact rfB_in _ | exact nz_in _ | exact hm.r _ _) (by first | omega | exact rfB_in _ | exact nz_in _ | exact hm.r _ _) (fun c9 => ?_) (fun c9 => ?_)
      · refine r_iconst (pc := 29) dX3_isSafe_29 ?_
        exact e_retB (pc := 30) dX3_isSafe_30 rfl (by first | (left; rfl) | (right; rfl) | exact bZ_01 _ | omega) (by first | exact (bZ_t (hk.trans (fnd_e (by omega)))).symm | exact (bZ_f (by show ¬ fndZ (fun a => 0 < crZ (T 0) a x) 0 (T 0 0).toNat = -1; rw [hk, fnd_s (by omega), if_pos (by omega)]; omega)).symm)
      · refine r_aload_n (pc := 12) dX3_isSafe_12 rfl ?_
        refine r_iload_n (pc := 13) dX3_isSafe_13 rfl ?_
        refine r_iload_n (pc := 14) dX3_isSafe_14 rfl ?_
        refine r_callV (pc := 15) (kb' := 0) dX3_isSafe_15 kX3_crackedBy q2898 (t_crackedBy hm hI (by omega) (by omega)) hm.1.1 rfl (Nat.le_refl _) (Nat.le_of_ble_eq_true rfl) rfl rfl (Nat.le_of_ble_eq_true rfl) (fun _ _ q => q.elim) (fun _ _ hq => go_E hq ?_)
        have h8 := h9 (by omega)
        refine r_if_le (pc := 18) (tgt := 23) dX3_isSafe_18 (by decide) (by first | omega | exact rfB_in _ | exact nz_in _ | exact hm.r _ _) (fun c18 => ?_) (fun c18 => ?_)
        · refine r_iinc (pc := 23) (L' := [_, _, _]) dX3_isSafe_23 rfl rfl ?_
          refine r_goto (pc := 26) (tgt := 2) dX3_isSafe_26 (by decide) ?_
          exact ih2 _ (by omega) (by rw [hk, fnd_s (by omega), if_neg (by omega)]) (by omega)
        · refine r_iconst (pc := 21) dX3_isSafe_21 ?_
          exact e_retB (pc := 22) dX3_isSafe_22 rfl (by first | (left; rfl) | (right; rfl) | exact bZ_01 _ | omega) (by first | exact (bZ_t (hk.trans (fnd_e (by omega)))).symm | exact (bZ_f (by show ¬ fndZ (fun a => 0 < crZ (T 0) a x) 0 (T 0 0).toNat = -1; rw [hk, fnd_s (by omega), if_pos (by omega)]; omega)).symm)
  exact loop2 ((T 0 0).toNat + 1) _ (by omega) (by rw [Int.sub_zero]) (by omega)
theorem t_safest {G : Gl} {m : Nat} {ad : Nat → Nat} {h0 h9 : Hp} {T : TM} (hm : TI m ad h0 T h9) (hI : RI (T 0))  : Ct G 5 0 yX3_safest (Cond.code yX3_safest cX3_safest 2 (some .int)) [.ref m] h9 (RT m ad h9 (zSaf (T 0)) (sT T 5 0 (kSaf (T 0)))) noX := by
  have hm := hm.nw
  have hb := hI.1
  have o9 := fun x => onSh_in (r := T 0) (s := x) (by omega)
  have p9 : ∀ x, InR (plOf (T 0) x) := fun x => (fnd_in (N := T 0 1) (p := fun k => T 0 (12 + k) = x) (by omega)).2.2
  refine Ct.of (own := eM) (nm := "safest") (by decide +kernel) rfl rfl (L := [some (.ref m), none]) rfl (Nat.le_of_ble_eq_true rfl) rfl ?_
  refine r_aload_n (pc := 0) dX3_safest_0 rfl ?_
  refine r_iconst (pc := 1) dX3_safest_1 ?_
  refine pX3_25 (pc := 2) dX3_safest_2 hm.1.1 (by decide) (Nat.le_of_ble_eq_true rfl) ?_
  refine t_put 5 rfl hm (by first | omega | exact rfB_in _ | exact nz_in _ | exact hm.r _ _) (fun h hm => ?_)
  refine r_bipush (pc := 5) dX3_safest_5 (by decide) ?_
  refine r_istore_n (pc := 7) (L' := [_, _]) dX3_safest_7 rfl ?_
  have loop8 : ∀ (n : Nat) (x : Int) , (9 ≤ x ∧ x ≤ 99) → sfZ (T 0) 90 = sfZ (T 0) (x - 9).toNat → x - 8 < n → Go G eM cX3_safest (2, some .int, "safest", []) 5 0 (RT m ad h9 (zSaf (T 0)) (sT T 5 0 (kSaf (T 0)))) noX 0 h 8 [some (.ref m), some (.int (iZ x))] [] := by
    intro n
    induction n with
    | zero => intro x hx hk hn; omega
    | succ n ih8 =>
      intro x hx hk hn
      refine r_iload_n (pc := 8) dX3_safest_8 rfl ?_
      refine r_bipush (pc := 9) dX3_safest_9 (by decide) ?_
      refine r_icmp_lt (pc := 11) (tgt := 30) dX3_safest_11 (by decide) (by first | omega | exact rfB_in _ | exact nz_in _ | exact hm.r _ _) (by first | omega | exact rfB_in _ | exact nz_in _ | exact hm.r _ _) (fun c11 => ?_) (fun c11 => ?_)
      · have g1 : sfZ (T 0) 90 = -1 := (by rw [hk, sf_e (by omega)])
        refine r_aload_n (pc := 30) dX3_safest_30 rfl ?_
        refine r_iconst (pc := 31) dX3_safest_31 ?_
        refine r_callV (pc := 32) (kb' := 0) dX3_safest_32 kX3_no q2823 (t_no hm (by first | omega | (simp only [th0]; omega))) hm.1.1 rfl (Nat.le_refl _) (Nat.le_of_ble_eq_true rfl) rfl rfl (Nat.le_of_ble_eq_true rfl) (fun _ _ q => q.elim) (fun _ _ hq => go_T hq (fun h hm1 => ?_))
        have hm := hm.tr hm1
        try simp only [th0]
        exact e_retT (pc := 35) dX3_safest_35 rfl hm (by unfold zSaf; (repeat' split) <;> first | rfl | omega) (by first | (rw [sT_sT]; congr 1; unfold kSaf; (repeat' split) <;> first | rfl | omega) | (congr 1; unfold kSaf; (repeat' split) <;> first | rfl | omega))
      · refine r_aload_n (pc := 14) dX3_safest_14 rfl ?_
        refine r_iload_n (pc := 15) dX3_safest_15 rfl ?_
        refine r_callV (pc := 16) (kb' := 0) dX3_safest_16 kX3_isSafe q3048 (t_isSafe hm (by first | exact hI | (rw [th0]; exact hI)) (by first | omega | (simp only [th0]; omega))) hm.1.1 rfl (Nat.le_refl _) (Nat.le_of_ble_eq_true rfl) rfl rfl (Nat.le_of_ble_eq_true rfl) (fun _ _ q => q.elim) (fun _ _ hq => go_E hq ?_)
        try simp only [th0]
        refine r_ifB_eq (pc := 19) (tgt := 24) dX3_safest_19 (by decide) (fun c19 => ?_) (fun c19 => ?_)
        · refine r_iinc (pc := 24) (L' := [_, _]) dX3_safest_24 rfl rfl ?_
          refine r_goto (pc := 27) (tgt := 8) dX3_safest_27 (by decide) ?_
          exact ih8 _ (by omega) (by rw [hk, sf_s (by omega), if_neg c19]) (by omega)
        · have g1 : sfZ (T 0) 90 = x := (by rw [hk, sf_s (by omega), if_pos c19])
          refine r_iload_n (pc := 22) dX3_safest_22 rfl ?_
          exact e_retT (pc := 23) dX3_safest_23 rfl hm (by unfold zSaf; (repeat' split) <;> first | rfl | omega) (by first | (rw [sT_sT]; congr 1; unfold kSaf; (repeat' split) <;> first | rfl | omega) | (congr 1; unfold kSaf; (repeat' split) <;> first | rfl | omega))
  exact loop8 92 _ (by omega) rfl (by omega)
theorem t_safeHeat {G : Gl} {m : Nat} {ad : Nat → Nat} {h0 h : Hp} {T : TM} (hm : TI m ad h0 T h) (hI : RI (T 0)) : Ct G 6 0 yX3_safeHeat (Cond.code yX3_safeHeat cX3_safeHeat 1 (some .int)) [.ref m] h (RT m ad h (zSaf (T 0)) (sT T 5 0 (kSaf (T 0)))) noX := by
  have hm := hm.nw
  refine Ct.of (own := eM) (nm := "safeHeat") (by decide +kernel) rfl rfl (L := [some (.ref m)]) rfl (Nat.le_of_ble_eq_true rfl) rfl ?_
  refine r_aload_n (pc := 0) dX3_safeHeat_0 rfl ?_
  refine r_callV (pc := 1) (kb' := 0) dX3_safeHeat_1 kX3_safest q3044 (t_safest hm hI) hm.1.1 rfl (Nat.le_refl _) (Nat.le_of_ble_eq_true rfl) rfl rfl (Nat.le_of_ble_eq_true rfl) (fun _ _ q => q.elim) (fun _ _ hq => go_T hq (fun h hm1 => ?_))
  have hm := hm.tr hm1
  exact e_retT (pc := 4) dX3_safeHeat_4 rfl hm rfl rfl
theorem t_safeAgain {G : Gl} {m : Nat} {ad : Nat → Nat} {h0 h : Hp} {T : TM} (hm : TI m ad h0 T h) (hI : RI (T 0)) : Ct G 6 0 yX3_safeAgain (Cond.code yX3_safeAgain cX3_safeAgain 1 (some .int)) [.ref m] h (RT m ad h (zSaf (T 0)) (sT T 5 0 (kSaf (T 0)))) noX := by
  have hm := hm.nw
  refine Ct.of (own := eM) (nm := "safeAgain") (by decide +kernel) rfl rfl (L := [some (.ref m)]) rfl (Nat.le_of_ble_eq_true rfl) rfl ?_
  refine r_aload_n (pc := 0) dX3_safeAgain_0 rfl ?_
  refine r_callV (pc := 1) (kb' := 0) dX3_safeAgain_1 kX3_safest q3044 (t_safest hm hI) hm.1.1 rfl (Nat.le_refl _) (Nat.le_of_ble_eq_true rfl) rfl rfl (Nat.le_of_ble_eq_true rfl) (fun _ _ q => q.elim) (fun _ _ hq => go_T hq (fun h hm1 => ?_))
  have hm := hm.tr hm1
  exact e_retT (pc := 4) dX3_safeAgain_4 rfl hm rfl rfl
theorem t_firingHeat {G : Gl} {m : Nat} {ad : Nat → Nat} {h0 h9 : Hp} {T : TM} (hm : TI m ad h0 T h9) {a : Int} (hI : RI (T 0)) (ha : InR a) : Ct G 3 0 yX3_firingHeat (Cond.code yX3_firingHeat cX3_firingHeat 3 (some .int)) [.ref m, .int (iZ a)] h9 (RT m ad h9 (zFir (T 0) a) (sT T 5 0 (kFir (T 0) a))) noX := by
  have hm := hm.nw
  have hb := hI.1
  have o9 := fun x => onSh_in (r := T 0) (s := x) (by omega)
  have p9 : ∀ x, InR (plOf (T 0) x) := fun x => (fnd_in (N := T 0 1) (p := fun k => T 0 (12 + k) = x) (by omega)).2.2
  refine Ct.of (own := eM) (nm := "firingHeat") (by decide +kernel) rfl rfl (L := [some (.ref m), some (.int (iZ a)), none]) rfl (Nat.le_of_ble_eq_true rfl) rfl ?_
  refine r_aload_n (pc := 0) dX3_firingHeat_0 rfl ?_
  refine r_aload_n (pc := 1) dX3_firingHeat_1 rfl ?_
  refine r_iload_n (pc := 2) dX3_firingHeat_2 rfl ?_
  refine r_callV (pc := 3) (kb' := 0) dX3_firingHeat_3 kX3_isArticle q2851 (t_isArticle hm (by first | exact hI | (rw [th0]; exact hI)) (by first | omega | (simp only [th0]; omega))) hm.1.1 rfl (Nat.le_refl _) (Nat.le_of_ble_eq_true rfl) rfl rfl (Nat.le_of_ble_eq_true rfl) (fun _ _ q => q.elim) (fun _ _ hq => go_E hq ?_)
  try simp only [th0]
  refine r_ifB_eq (pc := 6) (tgt := 13) dX3_firingHeat_6 (by decide) (fun c6 => ?_) (fun c6 => ?_)
  · refine r_iconst (pc := 13) dX3_firingHeat_13 ?_
    refine pX3_25 (pc := 14) dX3_firingHeat_14 hm.1.1 (by decide) (Nat.le_of_ble_eq_true rfl) ?_
    refine t_put 5 rfl hm (by first | omega | exact rfB_in _ | exact nz_in _ | exact hm.r _ _) (fun h hm => ?_)
    refine r_aload_n (pc := 17) dX3_firingHeat_17 rfl ?_
    refine gX3_25 (pc := 18) dX3_firingHeat_18 hm.1.1 rfl ?_; have r18 := hm.r 5 0
    refine go_nm (fun z18 e18 => ?_)
    have r18 := InR_of e18 r18
    rw [sT_s] at e18
    refine r_if_le (pc := 21) (tgt := 26) dX3_firingHeat_21 (by decide) (by first | omega | exact rfB_in _ | exact nz_in _ | exact hm.r _ _) (fun c21 => ?_) (fun c21 => ?_)
    · refine r_bipush (pc := 26) dX3_firingHeat_26 (by decide) ?_
      refine r_istore_n (pc := 28) (L' := [_, _, _]) dX3_firingHeat_28 rfl ?_
      have loop29 : ∀ (n : Nat) (x : Int) , (10 ≤ x ∧ x ≤ 100) → ffZ (T 0) a = fndZ (fun x => firP (T 0) a x) x (100 - x).toNat → 100 - x < n → Go G eM cX3_firingHeat (3, some .int, "firingHeat", []) 3 0 (RT m ad h9 (zFir (T 0) a) (sT T 5 0 (kFir (T 0) a))) noX 0 h 29 [some (.ref m), some (.int (iZ a)), some (.int (iZ x))] [] := by
        intro n
        induction n with
        | zero => intro x hx hk hn; omega
        | succ n ih29 =>
          intro x hx hk hn
          refine r_iload_n (pc := 29) dX3_firingHeat_29 rfl ?_
          refine r_bipush (pc := 30) dX3_firingHeat_30 (by decide) ?_
          refine r_icmp_gt (pc := 32) (tgt := 52) dX3_firingHeat_32 (by decide) (by first | omega | exact rfB_in _ | exact nz_in _ | exact hm.r _ _) (by first | omega | exact rfB_in _ | exact nz_in _ | exact hm.r _ _) (fun c32 => ?_) (fun c32 => ?_)
          · have g1 : ffZ (T 0) a = -1 := (by rw [hk, fnd_e (by omega)])
            refine r_aload_n (pc := 52) dX3_firingHeat_52 rfl ?_
            refine r_iconst (pc := 53) dX3_firingHeat_53 ?_
            refine r_callV (pc := 54) (kb' := 0) dX3_firingHeat_54 kX3_no q2823 (t_no hm (by first | omega | (simp only [th0]; omega))) hm.1.1 rfl (Nat.le_refl _) (Nat.le_of_ble_eq_true rfl) rfl rfl (Nat.le_of_ble_eq_true rfl) (fun _ _ q => q.elim) (fun _ _ hq => go_T hq (fun h hm1 => ?_))
            have hm := hm.tr hm1
            try simp only [th0]
            exact e_retT (pc := 57) dX3_firingHeat_57 rfl hm (by unfold zFir; (repeat' split) <;> first | rfl | omega) (by first | (rw [sT_sT]; congr 1; unfold kFir; (repeat' split) <;> first | rfl | omega) | (congr 1; unfold kFir; (repeat' split) <;> first | rfl | omega))
          · refine r_aload_n (pc := 35) dX3_firingHeat_35 rfl ?_
            refine r_iload_n (pc := 36) dX3_firingHeat_36 rfl ?_
            refine r_iload_n (pc := 37) dX3_firingHeat_37 rfl ?_
            refine r_callV (pc := 38) (kb' := 0) dX3_firingHeat_38 kX3_firesAt q2921 (t_firesAt hm (by first | exact hI | (rw [th0]; exact hI)) (by first | omega | (simp only [th0]; omega)) (by first | omega | (simp only [th0]; omega))) hm.1.1 rfl (Nat.le_refl _) (Nat.le_of_ble_eq_true rfl) rfl rfl (Nat.le_of_ble_eq_true rfl) (fun _ _ q => q.elim) (fun _ _ hq => go_E hq ?_)
            try simp only [th0]
            refine r_ifB_eq (pc := 41) (tgt := 46) dX3_firingHeat_41 (by decide) (fun c41 => ?_) (fun c41 => ?_)
            · refine r_iinc (pc := 46) (L' := [_, _, _]) dX3_firingHeat_46 rfl rfl ?_
              refine r_goto (pc := 49) (tgt := 29) dX3_firingHeat_49 (by decide) ?_
              exact ih29 _ (by omega) (by rw [hk, fnd_s (by omega), if_neg c41]) (by omega)
            · have g1 : ffZ (T 0) a = x := (by rw [hk, fnd_s (by omega), if_pos c41])
              refine r_iload_n (pc := 44) dX3_firingHeat_44 rfl ?_
              exact e_retT (pc := 45) dX3_firingHeat_45 rfl hm (by unfold zFir; (repeat' split) <;> first | rfl | omega) (by first | (rw [sT_sT]; congr 1; unfold kFir; (repeat' split) <;> first | rfl | omega) | (congr 1; unfold kFir; (repeat' split) <;> first | rfl | omega))
      exact loop29 92 _ (by omega) rfl (by omega)
    · refine r_iconst (pc := 24) dX3_firingHeat_24 ?_
      exact e_retT (pc := 25) dX3_firingHeat_25 rfl hm (by unfold zFir; (repeat' split) <;> first | rfl | omega) (by first | (rw [sT_sT]; congr 1; unfold kFir; (repeat' split) <;> first | rfl | omega) | (congr 1; unfold kFir; (repeat' split) <;> first | rfl | omega))
  · refine r_iconst (pc := 9) dX3_firingHeat_9 ?_
    refine r_goto (pc := 10) (tgt := 14) dX3_firingHeat_10 (by decide) ?_
    refine pX3_25 (pc := 14) dX3_firingHeat_14 hm.1.1 (by decide) (Nat.le_of_ble_eq_true rfl) ?_
    refine t_put 5 rfl hm (by first | omega | exact rfB_in _ | exact nz_in _ | exact hm.r _ _) (fun h hm => ?_)
    refine r_aload_n (pc := 17) dX3_firingHeat_17 rfl ?_
    refine gX3_25 (pc := 18) dX3_firingHeat_18 hm.1.1 rfl ?_; have r18 := hm.r 5 0
    refine go_nm (fun z18 e18 => ?_)
    have r18 := InR_of e18 r18
    rw [sT_s] at e18
    refine r_if_le (pc := 21) (tgt := 26) dX3_firingHeat_21 (by decide) (by first | omega | exact rfB_in _ | exact nz_in _ | exact hm.r _ _) (fun c21 => ?_) (fun c21 => ?_)
    · refine r_bipush (pc := 26) dX3_firingHeat_26 (by decide) ?_
      refine r_istore_n (pc := 28) (L' := [_, _, _]) dX3_firingHeat_28 rfl ?_
      have loop29 : ∀ (n : Nat) (x : Int) , (10 ≤ x ∧ x ≤ 100) → ffZ (T 0) a = fndZ (fun x => firP (T 0) a x) x (100 - x).toNat → 100 - x < n → Go G eM cX3_firingHeat (3, some .int, "firingHeat", []) 3 0 (RT m ad h9 (zFir (T 0) a) (sT T 5 0 (kFir (T 0) a))) noX 0 h 29 [some (.ref m), some (.int (iZ a)), some (.int (iZ x))] [] := by
        intro n
        induction n with
        | zero => intro x hx hk hn; omega
        | succ n ih29 =>
          intro x hx hk hn
          refine r_iload_n (pc := 29) dX3_firingHeat_29 rfl ?_
          refine r_bipush (pc := 30) dX3_firingHeat_30 (by decide) ?_
          refine r_icmp_gt (pc := 32) (tgt := 52) dX3_firingHeat_32 (by decide) (by first | omega | exact rfB_in _ | exact nz_in _ | exact hm.r _ _) (by first | omega | exact rfB_in _ | exact nz_in _ | exact hm.r _ _) (fun c32 => ?_) (fun c32 => ?_)
          · have g1 : ffZ (T 0) a = -1 := (by rw [hk, fnd_e (by omega)])
            refine r_aload_n (pc := 52) dX3_firingHeat_52 rfl ?_
            refine r_iconst (pc := 53) dX3_firingHeat_53 ?_
            refine r_callV (pc := 54) (kb' := 0) dX3_firingHeat_54 kX3_no q2823 (t_no hm (by first | omega | (simp only [th0]; omega))) hm.1.1 rfl (Nat.le_refl _) (Nat.le_of_ble_eq_true rfl) rfl rfl (Nat.le_of_ble_eq_true rfl) (fun _ _ q => q.elim) (fun _ _ hq => go_T hq (fun h hm1 => ?_))
            have hm := hm.tr hm1
            try simp only [th0]
            exact e_retT (pc := 57) dX3_firingHeat_57 rfl hm (by unfold zFir; (repeat' split) <;> first | rfl | omega) (by first | (rw [sT_sT]; congr 1; unfold kFir; (repeat' split) <;> first | rfl | omega) | (congr 1; unfold kFir; (repeat' split) <;> first | rfl | omega))
          · refine r_aload_n (pc := 35) dX3_firingHeat_35 rfl ?_
            refine r_iload_n (pc := 36) dX3_firingHeat_36 rfl ?_
            refine r_iload_n (pc := 37) dX3_firingHeat_37 rfl ?_
            refine r_callV (pc := 38) (kb' := 0) dX3_firingHeat_38 kX3_firesAt q2921 (t_firesAt hm (by first | exact hI | (rw [th0]; exact hI)) (by first | omega | (simp only [th0]; omega)) (by first | omega | (simp only [th0]; omega))) hm.1.1 rfl (Nat.le_refl _) (Nat.le_of_ble_eq_true rfl) rfl rfl (Nat.le_of_ble_eq_true rfl) (fun _ _ q => q.elim) (fun _ _ hq => go_E hq ?_)
            try simp only [th0]
            refine r_ifB_eq (pc := 41) (tgt := 46) dX3_firingHeat_41 (by decide) (fun c41 => ?_) (fun c41 => ?_)
            · refine r_iinc (pc := 46) (L' := [_, _, _]) dX3_firingHeat_46 rfl rfl ?_
              refine r_goto (pc := 49) (tgt := 29) dX3_firingHeat_49 (by decide) ?_
              exact ih29 _ (by omega) (by rw [hk, fnd_s (by omega), if_neg c41]) (by omega)
            · have g1 : ffZ (T 0) a = x := (by rw [hk, fnd_s (by omega), if_pos c41])
              refine r_iload_n (pc := 44) dX3_firingHeat_44 rfl ?_
              exact e_retT (pc := 45) dX3_firingHeat_45 rfl hm (by unfold zFir; (repeat' split) <;> first | rfl | omega) (by first | (rw [sT_sT]; congr 1; unfold kFir; (repeat' split) <;> first | rfl | omega) | (congr 1; unfold kFir; (repeat' split) <;> first | rfl | omega))
      exact loop29 92 _ (by omega) rfl (by omega)
    · refine r_iconst (pc := 24) dX3_firingHeat_24 ?_
      exact e_retT (pc := 25) dX3_firingHeat_25 rfl hm (by unfold zFir; (repeat' split) <;> first | rfl | omega) (by first | (rw [sT_sT]; congr 1; unfold kFir; (repeat' split) <;> first | rfl | omega) | (congr 1; unfold kFir; (repeat' split) <;> first | rfl | omega))
