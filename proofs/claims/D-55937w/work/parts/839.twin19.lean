set_option maxRecDepth 100000
theorem t_behindBlank {G : Gl} {m : Nat} {ad : Nat → Nat} {h0 h9 : Hp} {T9 : TM} (hm : TI m ad h0 T9 h9) {most : Int} (hs : 0 ≤ T9 20 0 ∧ T9 20 0 ≤ 60 ∧ T9 19 0 ≤ 60) (hmo : 1 ≤ most ∧ most ≤ 2) : Ct G 3 0 yX3_behindBlank (Cond.code yX3_behindBlank cX3_behindBlank 4 (some .int)) [.ref m, .int (iZ most)] h9 (RT m ad h9 ((bb (T9 15) (T9 19 0) most (T9 20 0) (T9 22 0)).1) (bbT T9 (bb (T9 15) (T9 19 0) most (T9 20 0) (T9 22 0)))) noX := by
  have hm := hm.nw
  have h22 := hm.1.2.2.2.2.2
  have x9 : InR (mkZ (T9 15) (T9 19 0) (T9 20 0) (T9 22 0)) := (by have := hm.r 15 (T9 20 0); unfold mkZ; split <;> omega)
  refine Ct.of (own := eM) (nm := "behindBlank") (by decide +kernel) rfl rfl (L := [some (.ref m), some (.int (iZ most)), none, none]) rfl (Nat.le_of_ble_eq_true rfl) rfl ?_
  refine r_aload_n (pc := 0) dX3_behindBlank_0 rfl ?_
  refine r_dup (pc := 1) dX3_behindBlank_1 rfl ?_
  refine gX3_78 (pc := 2) dX3_behindBlank_2 hm.1.1 rfl ?_; have r2 := hm.r 22 0
  refine r_aload_n (pc := 5) dX3_behindBlank_5 rfl ?_
  refine r_callV (pc := 6) (kb' := 0) dX3_behindBlank_6 kX3_mark q3146 (t_mark hm (by omega)) hm.1.1 rfl (Nat.le_refl _) (Nat.le_of_ble_eq_true rfl) rfl rfl (Nat.le_of_ble_eq_true rfl) (fun _ _ q => q.elim) (fun _ _ hq => go_E hq ?_)
  refine r_bipush (pc := 9) dX3_behindBlank_9 (by decide) ?_
  refine r_icmp_eq (pc := 11) (tgt := 18) dX3_behindBlank_11 (by decide) (by first | omega | exact rfB_in _ | exact nz_in _ | exact hm.r _ _) (by first | omega | exact rfB_in _ | exact nz_in _ | exact hm.r _ _) (fun c11 => ?_) (fun c11 => ?_)
  · have hk : T9 22 0 = 0 ∧ T9 20 0 < T9 19 0 ∧ T9 15 (T9 20 0) = 32 := mk_eq (by decide) c11
    refine r_iconst (pc := 18) dX3_behindBlank_18 ?_
    refine q_ior (pc := 19) dX3_behindBlank_19 ?_
    refine go_or0 ?_
    refine go_z (z' := 0) (by omega) ?_
    refine pX3_78 (pc := 20) dX3_behindBlank_20 (iZ01 (by first | (left; rfl) | (right; rfl) | exact bZ_01 _ | omega)) hm.1.1 (by decide) (Nat.le_of_ble_eq_true rfl) ?_
    refine t_putB 22 (by decide) hm (by first | (left; rfl) | (right; rfl) | exact bZ_01 _ | omega) (fun h hm => ?_)
    refine r_aload_n (pc := 23) dX3_behindBlank_23 rfl ?_
    refine r_dup (pc := 24) dX3_behindBlank_24 rfl ?_
    refine gX3_72 (pc := 25) dX3_behindBlank_25 hm.1.1 rfl ?_; have r25 := hm.r 20 0
    refine go_nm (fun z25 e25 => ?_)
    have r25 := InR_of e25 r25
    try simp [sT, cpT, cpN] at e25
    refine r_aload_n (pc := 28) dX3_behindBlank_28 rfl ?_
    refine gX3_78 (pc := 29) dX3_behindBlank_29 hm.1.1 rfl ?_; have r29 := hm.r 22 0
    refine go_z (z' := 0) (by simp [sT]) ?_
    refine r_if_eq (pc := 32) (tgt := 39) dX3_behindBlank_32 (by decide) (by decide) (fun _ => ?_) (fun q => absurd (by decide) q)
    refine r_iconst (pc := 39) dX3_behindBlank_39 ?_
    refine r_iadd (pc := 40) dX3_behindBlank_40 ?_
    refine pX3_72 (pc := 41) dX3_behindBlank_41 hm.1.1 (by decide) (Nat.le_of_ble_eq_true rfl) ?_
    refine t_put 20 rfl hm (by first | omega | exact rfB_in _ | exact nz_in _ | exact hm.r _ _) (fun h hm => ?_)
    refine r_aload_n (pc := 44) dX3_behindBlank_44 rfl ?_
    refine r_dup (pc := 45) dX3_behindBlank_45 rfl ?_
    refine gX3_78 (pc := 46) dX3_behindBlank_46 hm.1.1 rfl ?_; have r46 := hm.r 22 0
    refine go_z (z' := 0) (by simp [sT]) ?_
    refine r_aload_n (pc := 49) dX3_behindBlank_49 rfl ?_
    refine r_callV (pc := 50) (kb' := 0) dX3_behindBlank_50 kX3_isDigit q3150 (t_isDigit hm (by simp [sT]; omega)) hm.1.1 rfl (Nat.le_refl _) (Nat.le_of_ble_eq_true rfl) rfl rfl (Nat.le_of_ble_eq_true rfl) (fun _ _ q => q.elim) (fun _ _ hq => go_E hq ?_)
    refine r_ifB_ne (pc := 53) (tgt := 60) dX3_behindBlank_53 (by decide) (fun c53 => ?_) (fun c53 => ?_)
    · have hd := dg_mk.mp c53
      simp [sT] at hd
      rw [e25] at hd
      refine r_iconst (pc := 60) dX3_behindBlank_60 ?_
      refine q_ior (pc := 61) dX3_behindBlank_61 ?_
      refine go_or0 ?_
      refine pX3_78 (pc := 62) dX3_behindBlank_62 (iZ01 (by first | (left; rfl) | (right; rfl) | exact bZ_01 _ | omega)) hm.1.1 (by decide) (Nat.le_of_ble_eq_true rfl) ?_
      refine t_putB 22 (by decide) hm (by first | (left; rfl) | (right; rfl) | exact bZ_01 _ | omega) (fun h hm => ?_)
      refine r_iconst (pc := 65) dX3_behindBlank_65 ?_
      refine r_istore_n (pc := 66) (L' := [_, _, _, _]) dX3_behindBlank_66 rfl ?_
      refine r_iconst (pc := 67) dX3_behindBlank_67 ?_
      refine r_istore_n (pc := 68) (L' := [_, _, _, _]) dX3_behindBlank_68 rfl ?_
      have loop69 : ∀ (n : Nat) (v k p w : Int) (h : Hp) (T : TM), TI m ad h9 T h → (0 ≤ k ∧ k ≤ most) → (0 ≤ v ∧ (k = 0 ∧ v = 0 ∨ k = 1 ∧ v ≤ 9 ∨ k = 2 ∧ v ≤ 99)) → (0 ≤ p ∧ p ≤ 60) → (w = 0 ∨ w = 1) → T = bbT T9 (0, p, w) → bb (T9 15) (T9 19 0) most (T9 20 0) (T9 22 0) = dgW (T9 15) (T9 19 0) w (most - k).toNat p v → most - k < n → Go G eM cX3_behindBlank (4, some .int, "behindBlank", []) 3 0 (RT m ad h9 ((bb (T9 15) (T9 19 0) most (T9 20 0) (T9 22 0)).1) (bbT T9 (bb (T9 15) (T9 19 0) most (T9 20 0) (T9 22 0)))) noX 0 h 69 [some (.ref m), some (.int (iZ most)), some (.int (iZ v)), some (.int (iZ k))] [] := by
        intro n
        induction n with
        | zero => intro v k p w h T hm hz hv hp hw hT hb hn; omega
        | succ n ih69 =>
          intro v k p w h T hm hz hv hp hw hT hb hn
          subst hT
          have q15 : bbT T9 (0, p, w) 15 = T9 15 := (by funext j; simp [bbT, sT])
          have q19 : bbT T9 (0, p, w) 19 0 = T9 19 0 := (by simp [bbT, sT])
          have q20 : bbT T9 (0, p, w) 20 0 = p := (by simp [bbT, sT])
          have q22 : bbT T9 (0, p, w) 22 0 = w := (by simp [bbT, sT])
          refine r_iload_n (pc := 69) dX3_behindBlank_69 rfl ?_
          refine r_iload_n (pc := 70) dX3_behindBlank_70 rfl ?_
          refine r_icmp_ge (pc := 71) (tgt := 115) dX3_behindBlank_71 (by decide) (by first | omega | exact rfB_in _ | exact nz_in _ | exact hm.r _ _) (by first | omega | exact rfB_in _ | exact nz_in _ | exact hm.r _ _) (fun c71 => ?_) (fun c71 => ?_)
          · refine r_iload_n (pc := 115) dX3_behindBlank_115 rfl ?_
            exact e_retT (pc := 116) dX3_behindBlank_116 rfl hm (by rw [hb, dg_f hw (by first | (intro q; omega) | (intro q; exact c78 (dg_mk.mpr q.2)))]) (by rw [hb, dg_f hw (by first | (intro q; omega) | (intro q; exact c78 (dg_mk.mpr q.2)))]; rfl)
          · refine r_aload_n (pc := 74) dX3_behindBlank_74 rfl ?_
            refine r_callV (pc := 75) (kb' := 0) dX3_behindBlank_75 kX3_isDigit q3150 (t_isDigit hm (by rw [q20, q19]; omega)) hm.1.1 rfl (Nat.le_refl _) (Nat.le_of_ble_eq_true rfl) rfl rfl (Nat.le_of_ble_eq_true rfl) (fun _ _ q => q.elim) (fun _ _ hq => go_E hq ?_)
            rw [q15, q19, q20, q22]
            refine r_ifB_eq (pc := 78) (tgt := 115) dX3_behindBlank_78 (by decide) (fun c78 => ?_) (fun c78 => ?_)
            · refine r_iload_n (pc := 115) dX3_behindBlank_115 rfl ?_
              exact e_retT (pc := 116) dX3_behindBlank_116 rfl hm (by rw [hb, dg_f hw (by first | (intro q; omega) | (intro q; exact c78 (dg_mk.mpr q.2)))]) (by rw [hb, dg_f hw (by first | (intro q; omega) | (intro q; exact c78 (dg_mk.mpr q.2)))]; rfl)
            · have hq := dg_mk.mp c78
              refine r_bipush (pc := 81) dX3_behindBlank_81 (by decide) ?_
              refine r_iload_n (pc := 83) dX3_behindBlank_83 rfl ?_
              refine r_imul (pc := 84) dX3_behindBlank_84 ?_
              refine r_aload_n (pc := 85) dX3_behindBlank_85 rfl ?_
              refine gX3_57 (pc := 86) dX3_behindBlank_86 hm.1.1 rfl ?_
              refine r_aload_n (pc := 89) dX3_behindBlank_89 rfl ?_
              refine gX3_72 (pc := 90) dX3_behindBlank_90 hm.1.1 rfl ?_; have r90 := hm.r 20 0
              refine go_nm (fun z90 e90 => ?_)
              have r90 := InR_of e90 r90
              rw [q20] at e90
              refine t_iald (pc := 93) (lim := 60) 15 dX3_behindBlank_93 hm (by decide) rfl (by first | omega | exact rfB_in _ | exact nz_in _ | exact hm.r _ _) (fun r93 => ?_)
              refine go_nm (fun z93 e93 => ?_)
              have r93 := InR_of e93 r93
              rw [q15, e90] at e93
              refine r_iadd (pc := 94) dX3_behindBlank_94 ?_
              refine r_bipush (pc := 95) dX3_behindBlank_95 (by decide) ?_
              refine r_isub (pc := 97) dX3_behindBlank_97 ?_
              refine r_istore_n (pc := 98) (L' := [_, _, _, _]) dX3_behindBlank_98 rfl ?_
              refine r_aload_n (pc := 99) dX3_behindBlank_99 rfl ?_
              refine r_dup (pc := 100) dX3_behindBlank_100 rfl ?_
              refine gX3_72 (pc := 101) dX3_behindBlank_101 hm.1.1 rfl ?_; have r101 := hm.r 20 0
              refine go_nm (fun z101 e101 => ?_)
              have r101 := InR_of e101 r101
              rw [q20] at e101
              refine r_iconst (pc := 104) dX3_behindBlank_104 ?_
              refine r_iadd (pc := 105) dX3_behindBlank_105 ?_
              refine pX3_72 (pc := 106) dX3_behindBlank_106 hm.1.1 (by decide) (Nat.le_of_ble_eq_true rfl) ?_
              refine t_put 20 rfl hm (by first | omega | exact rfB_in _ | exact nz_in _ | exact hm.r _ _) (fun h hm => ?_)
              refine r_iinc (pc := 109) (L' := [_, _, _, _]) dX3_behindBlank_109 rfl rfl ?_
              refine r_goto (pc := 112) (tgt := 69) dX3_behindBlank_112 (by decide) ?_
              exact ih69 _ _ (p + 1) w _ _ hm (by omega) (by omega) (by omega) hw (by rw [e101]; exact (by funext k j; simp only [bbT, sT]; (repeat' split) <;> (subst_vars; first | rfl | omega | (congr 1; omega) | (simp_all; done) | (simp_all; omega)))) (by rw [hb, dg_t (by omega) hq, e93, show (most - (k + 1)).toNat = (most - k).toNat - 1 by omega]) (by omega)
      skip
      exact loop69 3 0 0 (T9 20 0 + 1) 0 _ _ hm (by omega) (by omega) (by omega) (by omega) (by funext k j; simp only [bbT, sT]; (repeat' split) <;> (subst_vars; first | rfl | omega | (congr 1; omega) | (simp_all; done) | (simp_all; omega))) (by unfold bb; first | (rw [if_neg hk]; rfl) | (rw [if_pos hk]; first | (rw [if_pos (by omega), Int.sub_zero]; rfl) | (rw [if_neg (by omega)]; rfl))) (by omega)
    · have hd := fun q => c53 (dg_mk.mpr q)
      simp [sT] at hd
      rw [e25] at hd
      refine r_iconst (pc := 56) dX3_behindBlank_56 ?_
      refine r_goto (pc := 57) (tgt := 61) dX3_behindBlank_57 (by decide) ?_
      refine q_ior (pc := 61) dX3_behindBlank_61 ?_
      refine go_or1 (by first | omega | exact hm.1.2.2.2.2.2) ?_
      refine pX3_78 (pc := 62) dX3_behindBlank_62 (iZ01 (by first | (left; rfl) | (right; rfl) | exact bZ_01 _ | omega)) hm.1.1 (by decide) (Nat.le_of_ble_eq_true rfl) ?_
      refine t_putB 22 (by decide) hm (by first | (left; rfl) | (right; rfl) | exact bZ_01 _ | omega) (fun h hm => ?_)
      refine r_iconst (pc := 65) dX3_behindBlank_65 ?_
      refine r_istore_n (pc := 66) (L' := [_, _, _, _]) dX3_behindBlank_66 rfl ?_
      refine r_iconst (pc := 67) dX3_behindBlank_67 ?_
      refine r_istore_n (pc := 68) (L' := [_, _, _, _]) dX3_behindBlank_68 rfl ?_
      have loop69 : ∀ (n : Nat) (v k p w : Int) (h : Hp) (T : TM), TI m ad h9 T h → (0 ≤ k ∧ k ≤ most) → (0 ≤ v ∧ (k = 0 ∧ v = 0 ∨ k = 1 ∧ v ≤ 9 ∨ k = 2 ∧ v ≤ 99)) → (0 ≤ p ∧ p ≤ 60) → (w = 0 ∨ w = 1) → T = bbT T9 (0, p, w) → bb (T9 15) (T9 19 0) most (T9 20 0) (T9 22 0) = dgW (T9 15) (T9 19 0) w (most - k).toNat p v → most - k < n → Go G eM cX3_behindBlank (4, some .int, "behindBlank", []) 3 0 (RT m ad h9 ((bb (T9 15) (T9 19 0) most (T9 20 0) (T9 22 0)).1) (bbT T9 (bb (T9 15) (T9 19 0) most (T9 20 0) (T9 22 0)))) noX 0 h 69 [some (.ref m), some (.int (iZ most)), some (.int (iZ v)), some (.int (iZ k))] [] := by
        intro n
        induction n with
        | zero => intro v k p w h T hm hz hv hp hw hT hb hn; omega
        | succ n ih69 =>
          intro v k p w h T hm hz hv hp hw hT hb hn
          subst hT
          have q15 : bbT T9 (0, p, w) 15 = T9 15 := (by funext j; simp [bbT, sT])
          have q19 : bbT T9 (0, p, w) 19 0 = T9 19 0 := (by simp [bbT, sT])
          have q20 : bbT T9 (0, p, w) 20 0 = p := (by simp [bbT, sT])
          have q22 : bbT T9 (0, p, w) 22 0 = w := (by simp [bbT, sT])
          refine r_iload_n (pc := 69) dX3_behindBlank_69 rfl ?_
          refine r_iload_n (pc := 70) dX3_behindBlank_70 rfl ?_
          refine r_icmp_ge (pc := 71) (tgt := 115) dX3_behindBlank_71 (by decide) (by first | omega | exact rfB_in _ | exact nz_in _ | exact hm.r _ _) (by first | omega | exact rfB_in _ | exact nz_in _ | exact hm.r _ _) (fun c71 => ?_) (fun c71 => ?_)
          · refine r_iload_n (pc := 115) dX3_behindBlank_115 rfl ?_
            exact e_retT (pc := 116) dX3_behindBlank_116 rfl hm (by rw [hb, dg_f hw (by first | (intro q; omega) | (intro q; exact c78 (dg_mk.mpr q.2)))]) (by rw [hb, dg_f hw (by first | (intro q; omega) | (intro q; exact c78 (dg_mk.mpr q.2)))]; rfl)
          · refine r_aload_n (pc := 74) dX3_behindBlank_74 rfl ?_
            refine r_callV (pc := 75) (kb' := 0) dX3_behindBlank_75 kX3_isDigit q3150 (t_isDigit hm (by rw [q20, q19]; omega)) hm.1.1 rfl (Nat.le_refl _) (Nat.le_of_ble_eq_true rfl) rfl rfl (Nat.le_of_ble_eq_true rfl) (fun _ _ q => q.elim) (fun _ _ hq => go_E hq ?_)
            rw [q15, q19, q20, q22]
            refine r_ifB_eq (pc := 78) (tgt := 115) dX3_behindBlank_78 (by decide) (fun c78 => ?_) (fun c78 => ?_)
            · refine r_iload_n (pc := 115) dX3_behindBlank_115 rfl ?_
              exact e_retT (pc := 116) dX3_behindBlank_116 rfl hm (by rw [hb, dg_f hw (by first | (intro q; omega) | (intro q; exact c78 (dg_mk.mpr q.2)))]) (by rw [hb, dg_f hw (by first | (intro q; omega) | (intro q; exact c78 (dg_mk.mpr q.2)))]; rfl)
            · have hq := dg_mk.mp c78
              refine r_bipush (pc := 81) dX3_behindBlank_81 (by decide) ?_
              refine r_iload_n (pc := 83) dX3_behindBlank_83 rfl ?_
              refine r_imul (pc := 84) dX3_behindBlank_84 ?_
              refine r_aload_n (pc := 85) dX3_behindBlank_85 rfl ?_
              refine gX3_57 (pc := 86) dX3_behindBlank_86 hm.1.1 rfl ?_
              refine r_aload_n (pc := 89) dX3_behindBlank_89 rfl ?_
              refine gX3_72 (pc := 90) dX3_behindBlank_90 hm.1.1 rfl ?_; have r90 := hm.r 20 0
              refine go_nm (fun z90 e90 => ?_)
              have r90 := InR_of e90 r90
              rw [q20] at e90
              refine t_iald (pc := 93) (lim := 60) 15 dX3_behindBlank_93 hm (by decide) rfl (by first | omega | exact rfB_in _ | exact nz_in _ | exact hm.r _ _) (fun r93 => ?_)
              refine go_nm (fun z93 e93 => ?_)
              have r93 := InR_of e93 r93
              rw [q15, e90] at e93
              refine r_iadd (pc := 94) dX3_behindBlank_94 ?_
              refine r_bipush (pc := 95) dX3_behindBlank_95 (by decide) ?_
              refine r_isub (pc := 97) dX3_behindBlank_97 ?_
              refine r_istore_n (pc := 98) (L' := [_, _, _, _]) dX3_behindBlank_98 rfl ?_
              refine r_aload_n (pc := 99) dX3_behindBlank_99 rfl ?_
              refine r_dup (pc := 100) dX3_behindBlank_100 rfl ?_
              refine gX3_72 (pc := 101) dX3_behindBlank_101 hm.1.1 rfl ?_; have r101 := hm.r 20 0
              refine go_nm (fun z101 e101 => ?_)
              have r101 := InR_of e101 r101
              rw [q20] at e101
              refine r_iconst (pc := 104) dX3_behindBlank_104 ?_
              refine r_iadd (pc := 105) dX3_behindBlank_105 ?_
              refine pX3_72 (pc := 106) dX3_behindBlank_106 hm.1.1 (by decide) (Nat.le_of_ble_eq_true rfl) ?_
              refine t_put 20 rfl hm (by first | omega | exact rfB_in _ | exact nz_in _ | exact hm.r _ _) (fun h hm => ?_)
              refine r_iinc (pc := 109) (L' := [_, _, _, _]) dX3_behindBlank_109 rfl rfl ?_
              refine r_goto (pc := 112) (tgt := 69) dX3_behindBlank_112 (by decide) ?_
              exact ih69 _ _ (p + 1) w _ _ hm (by omega) (by omega) (by omega) hw (by rw [e101]; exact (by funext k j; simp only [bbT, sT]; (repeat' split) <;> (subst_vars; first | rfl | omega | (congr 1; omega) | (simp_all; done) | (simp_all; omega)))) (by rw [hb, dg_t (by omega) hq, e93, show (most - (k + 1)).toNat = (most - k).toNat - 1 by omega]) (by omega)
      skip
      exact loop69 3 0 0 (T9 20 0 + 1) 1 _ _ hm (by omega) (by omega) (by omega) (by omega) (by funext k j; simp only [bbT, sT]; (repeat' split) <;> (subst_vars; first | rfl | omega | (congr 1; omega) | (simp_all; done) | (simp_all; omega))) (by unfold bb; first | (rw [if_neg hk]; rfl) | (rw [if_pos hk]; first | (rw [if_pos (by omega), Int.sub_zero]; rfl) | (rw [if_neg (by omega)]; rfl))) (by omega)
  · have hk : ¬ (T9 22 0 = 0 ∧ T9 20 0 < T9 19 0 ∧ T9 15 (T9 20 0) = 32) := fun q => c11 ((if_pos ⟨q.1, q.2.1⟩).trans q.2.2)
    refine r_iconst (pc := 14) dX3_behindBlank_14 ?_
    refine r_goto (pc := 15) (tgt := 19) dX3_behindBlank_15 (by decide) ?_
    refine q_ior (pc := 19) dX3_behindBlank_19 ?_
    refine go_or1 (by first | omega | exact hm.1.2.2.2.2.2) ?_
    refine pX3_78 (pc := 20) dX3_behindBlank_20 (iZ01 (by first | (left; rfl) | (right; rfl) | exact bZ_01 _ | omega)) hm.1.1 (by decide) (Nat.le_of_ble_eq_true rfl) ?_
    refine t_putB 22 (by decide) hm (by first | (left; rfl) | (right; rfl) | exact bZ_01 _ | omega) (fun h hm => ?_)
    refine r_aload_n (pc := 23) dX3_behindBlank_23 rfl ?_
    refine r_dup (pc := 24) dX3_behindBlank_24 rfl ?_
    refine gX3_72 (pc := 25) dX3_behindBlank_25 hm.1.1 rfl ?_; have r25 := hm.r 20 0
    refine go_nm (fun z25 e25 => ?_)
    have r25 := InR_of e25 r25
    try simp [sT, cpT, cpN] at e25
    refine r_aload_n (pc := 28) dX3_behindBlank_28 rfl ?_
    refine gX3_78 (pc := 29) dX3_behindBlank_29 hm.1.1 rfl ?_; have r29 := hm.r 22 0
    refine go_z (z' := 1) (by simp [sT]) ?_
    refine r_if_eq (pc := 32) (tgt := 39) dX3_behindBlank_32 (by decide) (by decide) (fun q => absurd q (by decide)) (fun _ => ?_)
    refine r_iconst (pc := 35) dX3_behindBlank_35 ?_
    refine r_goto (pc := 36) (tgt := 40) dX3_behindBlank_36 (by decide) ?_
    refine r_iadd (pc := 40) dX3_behindBlank_40 ?_
    refine pX3_72 (pc := 41) dX3_behindBlank_41 hm.1.1 (by decide) (Nat.le_of_ble_eq_true rfl) ?_
    refine t_put 20 rfl hm (by first | omega | exact rfB_in _ | exact nz_in _ | exact hm.r _ _) (fun h hm => ?_)
    refine r_aload_n (pc := 44) dX3_behindBlank_44 rfl ?_
    refine r_dup (pc := 45) dX3_behindBlank_45 rfl ?_
    refine gX3_78 (pc := 46) dX3_behindBlank_46 hm.1.1 rfl ?_; have r46 := hm.r 22 0
    refine go_z (z' := 1) (by simp [sT]) ?_
    refine r_aload_n (pc := 49) dX3_behindBlank_49 rfl ?_
    refine r_callV (pc := 50) (kb' := 0) dX3_behindBlank_50 kX3_isDigit q3150 (t_isDigit hm (by simp [sT]; omega)) hm.1.1 rfl (Nat.le_refl _) (Nat.le_of_ble_eq_true rfl) rfl rfl (Nat.le_of_ble_eq_true rfl) (fun _ _ q => q.elim) (fun _ _ hq => go_E hq ?_)
    refine r_ifB_ne (pc := 53) (tgt := 60) dX3_behindBlank_53 (by decide) (fun c53 => ?_) (fun c53 => ?_)
    · exact absurd (dg_mk.mp c53).1 (by simp [sT])
    · refine r_iconst (pc := 56) dX3_behindBlank_56 ?_
      refine r_goto (pc := 57) (tgt := 61) dX3_behindBlank_57 (by decide) ?_
      refine q_ior (pc := 61) dX3_behindBlank_61 ?_
      refine go_or1 (by first | omega | exact hm.1.2.2.2.2.2) ?_
      refine pX3_78 (pc := 62) dX3_behindBlank_62 (iZ01 (by first | (left; rfl) | (right; rfl) | exact bZ_01 _ | omega)) hm.1.1 (by decide) (Nat.le_of_ble_eq_true rfl) ?_
      refine t_putB 22 (by decide) hm (by first | (left; rfl) | (right; rfl) | exact bZ_01 _ | omega) (fun h hm => ?_)
      refine r_iconst (pc := 65) dX3_behindBlank_65 ?_
      refine r_istore_n (pc := 66) (L' := [_, _, _, _]) dX3_behindBlank_66 rfl ?_
      refine r_iconst (pc := 67) dX3_behindBlank_67 ?_
      refine r_istore_n (pc := 68) (L' := [_, _, _, _]) dX3_behindBlank_68 rfl ?_
      have loop69 : ∀ (n : Nat) (v k p w : Int) (h : Hp) (T : TM), TI m ad h9 T h → (0 ≤ k ∧ k ≤ most) → (0 ≤ v ∧ (k = 0 ∧ v = 0 ∨ k = 1 ∧ v ≤ 9 ∨ k = 2 ∧ v ≤ 99)) → (0 ≤ p ∧ p ≤ 60) → (w = 0 ∨ w = 1) → T = bbT T9 (0, p, w) → bb (T9 15) (T9 19 0) most (T9 20 0) (T9 22 0) = dgW (T9 15) (T9 19 0) w (most - k).toNat p v → most - k < n → Go G eM cX3_behindBlank (4, some .int, "behindBlank", []) 3 0 (RT m ad h9 ((bb (T9 15) (T9 19 0) most (T9 20 0) (T9 22 0)).1) (bbT T9 (bb (T9 15) (T9 19 0) most (T9 20 0) (T9 22 0)))) noX 0 h 69 [some (.ref m), some (.int (iZ most)), some (.int (iZ v)), some (.int (iZ k))] [] := by
        intro n
        induction n with
        | zero => intro v k p w h T hm hz hv hp hw hT hb hn; omega
        | succ n ih69 =>
          intro v k p w h T hm hz hv hp hw hT hb hn
          subst hT
          have q15 : bbT T9 (0, p, w) 15 = T9 15 := (by funext j; simp [bbT, sT])
          have q19 : bbT T9 (0, p, w) 19 0 = T9 19 0 := (by simp [bbT, sT])
          have q20 : bbT T9 (0, p, w) 20 0 = p := (by simp [bbT, sT])
          have q22 : bbT T9 (0, p, w) 22 0 = w := (by simp [bbT, sT])
          refine r_iload_n (pc := 69) dX3_behindBlank_69 rfl ?_
          refine r_iload_n (pc := 70) dX3_behindBlank_70 rfl ?_
          refine r_icmp_ge (pc := 71) (tgt := 115) dX3_behindBlank_71 (by decide) (by first | omega | exact rfB_in _ | exact nz_in _ | exact hm.r _ _) (by first | omega | exact rfB_in _ | exact nz_in _ | exact hm.r _ _) (fun c71 => ?_) (fun c71 => ?_)
          · refine r_iload_n (pc := 115) dX3_behindBlank_115 rfl ?_
            exact e_retT (pc := 116) dX3_behindBlank_116 rfl hm (by rw [hb, dg_f hw (by first | (intro q; omega) | (intro q; exact c78 (dg_mk.mpr q.2)))]) (by rw [hb, dg_f hw (by first | (intro q; omega) | (intro q; exact c78 (dg_mk.mpr q.2)))]; rfl)
          · refine r_aload_n (pc := 74) dX3_behindBlank_74 rfl ?_
            refine r_callV (pc := 75) (kb' := 0) dX3_behindBlank_75 kX3_isDigit q3150 (t_isDigit hm (by rw [q20, q19]; omega)) hm.1.1 rfl (Nat.le_refl _) (Nat.le_of_ble_eq_true rfl) rfl rfl (Nat.le_of_ble_eq_true rfl) (fun _ _ q => q.elim) (fun _ _ hq => go_E hq ?_)
            rw [q15, q19, q20, q22]
            refine r_ifB_eq (pc := 78) (tgt := 115) dX3_behindBlank_78 (by decide) (fun c78 => ?_) (fun c78 => ?_)
            · refine r_iload_n (pc := 115) dX3_behindBlank_115 rfl ?_
              exact e_retT (pc := 116) dX3_behindBlank_116 rfl hm (by rw [hb, dg_f hw (by first | (intro q; omega) | (intro q; exact c78 (dg_mk.mpr q.2)))]) (by rw [hb, dg_f hw (by first | (intro q; omega) | (intro q; exact c78 (dg_mk.mpr q.2)))]; rfl)
            · have hq := dg_mk.mp c78
              refine r_bipush (pc := 81) dX3_behindBlank_81 (by decide) ?_
              refine r_iload_n (pc := 83) dX3_behindBlank_83 rfl ?_
              refine r_imul (pc := 84) dX3_behindBlank_84 ?_
              refine r_aload_n (pc := 85) dX3_behindBlank_85 rfl ?_
              refine gX3_57 (pc := 86) dX3_behindBlank_86 hm.1.1 rfl ?_
              refine r_aload_n (pc := 89) dX3_behindBlank_89 rfl ?_
              refine gX3_72 (pc := 90) dX3_behindBlank_90 hm.1.1 rfl ?_; have r90 := hm.r 20 0
              refine go_nm (fun z90 e90 => ?_)
              have r90 := InR_of e90 r90
              rw [q20] at e90
              refine t_iald (pc := 93) (lim := 60) 15 dX3_behindBlank_93 hm (by decide) rfl (by first | omega | exact rfB_in _ | exact nz_in _ | exact hm.r _ _) (fun r93 => ?_)
              refine go_nm (fun z93 e93 => ?_)
              have r93 := InR_of e93 r93
              rw [q15, e90] at e93
              refine r_iadd (pc := 94) dX3_behindBlank_94 ?_
              refine r_bipush (pc := 95) dX3_behindBlank_95 (by decide) ?_
              refine r_isub (pc := 97) dX3_behindBlank_97 ?_
              refine r_istore_n (pc := 98) (L' := [_, _, _, _]) dX3_behindBlank_98 rfl ?_
              refine r_aload_n (pc := 99) dX3_behindBlank_99 rfl ?_
              refine r_dup (pc := 100) dX3_behindBlank_100 rfl ?_
              refine gX3_72 (pc := 101) dX3_behindBlank_101 hm.1.1 rfl ?_; have r101 := hm.r 20 0
              refine go_nm (fun z101 e101 => ?_)
              have r101 := InR_of e101 r101
              rw [q20] at e101
              refine r_iconst (pc := 104) dX3_behindBlank_104 ?_
              refine r_iadd (pc := 105) dX3_behindBlank_105 ?_
              refine pX3_72 (pc := 106) dX3_behindBlank_106 hm.1.1 (by decide) (Nat.le_of_ble_eq_true rfl) ?_
              refine t_put 20 rfl hm (by first | omega | exact rfB_in _ | exact nz_in _ | exact hm.r _ _) (fun h hm => ?_)
              refine r_iinc (pc := 109) (L' := [_, _, _, _]) dX3_behindBlank_109 rfl rfl ?_
              refine r_goto (pc := 112) (tgt := 69) dX3_behindBlank_112 (by decide) ?_
              exact ih69 _ _ (p + 1) w _ _ hm (by omega) (by omega) (by omega) hw (by rw [e101]; exact (by funext k j; simp only [bbT, sT]; (repeat' split) <;> (subst_vars; first | rfl | omega | (congr 1; omega) | (simp_all; done) | (simp_all; omega)))) (by rw [hb, dg_t (by omega) hq, e93, show (most - (k + 1)).toNat = (most - k).toNat - 1 by omega]) (by omega)
      skip
      exact loop69 3 0 0 (T9 20 0) 1 _ _ hm (by omega) (by omega) (by omega) (by omega) (by funext k j; simp only [bbT, sT]; (repeat' split) <;> (subst_vars; first | rfl | omega | (congr 1; omega) | (simp_all; done) | (simp_all; omega))) (by unfold bb; first | (rw [if_neg hk]; rfl) | (rw [if_pos hk]; first | (rw [if_pos (by omega), Int.sub_zero]; rfl) | (rw [if_neg (by omega)]; rfl))) (by omega)
