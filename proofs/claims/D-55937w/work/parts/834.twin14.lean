set_option maxRecDepth 100000
theorem t_ranked {G : Gl} {m : Nat} {ad : Nat → Nat} {h0 h9 : Hp} {T : TM} (hm : TI m ad h0 T h9) {k p : Int} (hI : RI (T 0)) (hk : InR k) (hp : InR p) : Ct G 3 0 yX3_ranked (Cond.code yX3_ranked cX3_ranked 6 (some .int)) [.ref m, .int (iZ k), .int (iZ p)] h9 (RT m ad h9 (zRan (T 0) k p) (sT T 5 0 (kRan (T 0) k p))) noX := by
  have hm := hm.nw
  have hb := hI.1
  have o9 := fun x => onSh_in (r := T 0) (s := x) (by omega)
  have p9 : ∀ x, InR (plOf (T 0) x) := fun x => (fnd_in (N := T 0 1) (p := fun k => T 0 (12 + k) = x) (by omega)).2.2
  have x9 : ∀ a, InR (fA (T 0) a (wK k)) := fun a => hm.r 0 _
  refine Ct.of (own := eM) (nm := "ranked") (by decide +kernel) rfl rfl (L := [some (.ref m), some (.int (iZ k)), some (.int (iZ p)), none, none, none]) rfl (Nat.le_of_ble_eq_true rfl) rfl ?_
  refine r_aload_n (pc := 0) dX3_ranked_0 rfl ?_
  refine r_iconst (pc := 1) dX3_ranked_1 ?_
  refine pX3_25 (pc := 2) dX3_ranked_2 hm.1.1 (by decide) (Nat.le_of_ble_eq_true rfl) ?_
  refine t_put 5 rfl hm (by first | omega | exact rfB_in _ | exact nz_in _ | exact hm.r _ _) (fun h hm => ?_)
  refine r_iload_n (pc := 5) dX3_ranked_5 rfl ?_
  refine r_iconst (pc := 6) dX3_ranked_6 ?_
  refine r_iconst (pc := 7) dX3_ranked_7 ?_
  refine r_callS (pc := 8) (kb' := 0) dX3_ranked_8 kX3_in q2794 (t_in (by first | omega | (simp only [th0]; omega)) (by first | omega | (simp only [th0]; omega)) (by first | omega | (simp only [th0]; omega))) (Nat.le_refl _) (Nat.le_of_ble_eq_true rfl) rfl rfl (Nat.le_of_ble_eq_true rfl) (fun _ _ q => q.elim) (fun _ _ hq => go_E hq ?_)
  try simp only [th0]
  refine r_ifB_ne (pc := 11) (tgt := 20) dX3_ranked_11 (by decide) (fun c11 => ?_) (fun c11 => ?_)
  · refine r_iconst (pc := 20) dX3_ranked_20 ?_
    refine r_istore_n (pc := 21) (L' := [_, _, _, _, _, _]) dX3_ranked_21 rfl ?_
    have loop22 : ∀ (n : Nat) (a : Int) , (0 ≤ a ∧ a ≤ T 0 0) → rkF (T 0) k p = fndZ (fun a => rkN (T 0) k a = p) a (T 0 0 - a).toNat → T 0 0 - a < n → Go G eM cX3_ranked (6, some .int, "ranked", []) 3 0 (RT m ad h9 (zRan (T 0) k p) (sT T 5 0 (kRan (T 0) k p))) noX 0 h 22 [some (.ref m), some (.int (iZ k)), some (.int (iZ p)), some (.int (iZ a)), none, none] [] := by
      intro n
      induction n with
      | zero => intro a ha hk2 hn; omega
      | succ n ih22 =>
        intro a ha hk2 hn
        refine r_iload_n (pc := 22) dX3_ranked_22 rfl ?_
        refine r_aload_n (pc := 23) dX3_ranked_23 rfl ?_
        refine gX3_7 (pc := 24) dX3_ranked_24 hm.1.1 rfl ?_
        refine r_iconst (pc := 27) dX3_ranked_27 ?_
        refine t_iald (pc := 28) (lim := 140) 0 dX3_ranked_28 hm (by decide) rfl (by first | omega | exact rfB_in _ | exact nz_in _ | exact hm.r _ _) (fun r28 => ?_)
        refine go_nm (fun z28 e28 => ?_)
        have r28 := InR_of e28 r28
        try simp [sT, cpT, cpN] at e28
        refine r_icmp_ge (pc := 29) (tgt := 117) dX3_ranked_29 (by decide) (by first | omega | exact rfB_in _ | exact nz_in _ | exact hm.r _ _) (by first | omega | exact rfB_in _ | exact nz_in _ | exact hm.r _ _) (fun c29 => ?_) (fun c29 => ?_)
        · have g1 : rkF (T 0) k p = -1 := (by rw [hk2, fnd_e (by omega)])
          refine r_aload_n (pc := 117) dX3_ranked_117 rfl ?_
          refine r_iconst (pc := 118) dX3_ranked_118 ?_
          refine r_callV (pc := 119) (kb' := 0) dX3_ranked_119 kX3_no q2823 (t_no hm (by first | omega | (simp only [th0]; omega))) hm.1.1 rfl (Nat.le_refl _) (Nat.le_of_ble_eq_true rfl) rfl rfl (Nat.le_of_ble_eq_true rfl) (fun _ _ q => q.elim) (fun _ _ hq => go_T hq (fun h hm1 => ?_))
          have hm := hm.tr hm1
          try simp only [th0]
          exact e_retT (pc := 122) dX3_ranked_122 rfl hm (by unfold zRan; (repeat' split) <;> first | rfl | omega) (by first | (rw [sT_sT]; congr 1; unfold kRan; (repeat' split) <;> first | rfl | omega) | (congr 1; unfold kRan; (repeat' split) <;> first | rfl | omega))
        · refine r_iconst (pc := 32) dX3_ranked_32 ?_
          refine r_istore (pc := 33) (L' := [_, _, _, _, _, _]) dX3_ranked_33 rfl ?_
          refine r_iconst (pc := 35) dX3_ranked_35 ?_
          refine r_istore (pc := 36) (L' := [_, _, _, _, _, _]) dX3_ranked_36 rfl ?_
          have loop38 : ∀ (n : Nat) (v o : Int) , (0 ≤ o ∧ o ≤ T 0 0) → v = sumI o (fun o => bZ (rkP (T 0) k a o)) → T 0 0 - o < n → Go G eM cX3_ranked (6, some .int, "ranked", []) 3 0 (RT m ad h9 (zRan (T 0) k p) (sT T 5 0 (kRan (T 0) k p))) noX 0 h 38 [some (.ref m), some (.int (iZ k)), some (.int (iZ p)), some (.int (iZ a)), some (.int (iZ v)), some (.int (iZ o))] [] := by
            intro n
            induction n with
            | zero => intro v o ho hv hn; omega
            | succ n ih38 =>
              intro v o ho hv hn
              have h7 := sumB_in (p := fun o => rkP (T 0) k a o) ho.1
              refine r_iload (pc := 38) dX3_ranked_38 rfl ?_
              refine r_aload_n (pc := 40) dX3_ranked_40 rfl ?_
              refine gX3_7 (pc := 41) dX3_ranked_41 hm.1.1 rfl ?_
              refine r_iconst (pc := 44) dX3_ranked_44 ?_
              refine t_iald (pc := 45) (lim := 140) 0 dX3_ranked_45 hm (by decide) rfl (by first | omega | exact rfB_in _ | exact nz_in _ | exact hm.r _ _) (fun r45 => ?_)
              refine go_nm (fun z45 e45 => ?_)
              have r45 := InR_of e45 r45
              try simp [sT, cpT, cpN] at e45
              refine r_icmp_ge (pc := 46) (tgt := 103) dX3_ranked_46 (by decide) (by first | omega | exact rfB_in _ | exact nz_in _ | exact hm.r _ _) (by first | omega | exact rfB_in _ | exact nz_in _ | exact hm.r _ _) (fun c46 => ?_) (fun c46 => ?_)
              · refine r_iload (pc := 103) dX3_ranked_103 rfl ?_
                refine r_iload_n (pc := 105) dX3_ranked_105 rfl ?_
                refine r_icmp_ne (pc := 106) (tgt := 111) dX3_ranked_106 (by decide) (by first | omega | exact rfB_in _ | exact nz_in _ | exact hm.r _ _) (by first | omega | exact rfB_in _ | exact nz_in _ | exact hm.r _ _) (fun c106 => ?_) (fun c106 => ?_)
                · refine r_iinc (pc := 111) (L' := [_, _, _, _, _, _]) dX3_ranked_111 rfl rfl ?_
                  refine r_goto (pc := 114) (tgt := 22) dX3_ranked_114 (by decide) ?_
                  refine go_L (L' := [some _, some _, some _, some _, none, none]) ⟨rfl, rfl, rfl, rfl, trivial⟩ ?_
                  exact ih22 _ (by omega) (by rw [hk2, fnd_s (by omega), if_neg (by unfold rkN; rw [← show o = T 0 0 by omega, ← hv]; omega)]) (by omega)
                · have g1 : rkF (T 0) k p = a := (by rw [hk2, fnd_s (by omega), if_pos (by unfold rkN; rw [← show o = T 0 0 by omega, ← hv]; omega)])
                  refine r_iload_n (pc := 109) dX3_ranked_109 rfl ?_
                  exact e_retT (pc := 110) dX3_ranked_110 rfl hm (by unfold zRan; (repeat' split) <;> first | rfl | omega) (by first | (rw [sT_sT]; congr 1; unfold kRan; (repeat' split) <;> first | rfl | omega) | (congr 1; unfold kRan; (repeat' split) <;> first | rfl | omega))
              · refine r_iload (pc := 49) dX3_ranked_49 rfl ?_
                refine r_aload_n (pc := 51) dX3_ranked_51 rfl ?_
                refine r_iload (pc := 52) dX3_ranked_52 rfl ?_
                refine r_iload_n (pc := 54) dX3_ranked_54 rfl ?_
                refine r_callV (pc := 55) (kb' := 0) dX3_ranked_55 kX3_measured q3084 (t_measured hm (by first | omega | (simp only [th0]; omega)) (by first | omega | (simp only [th0]; omega))) hm.1.1 rfl (Nat.le_refl _) (Nat.le_of_ble_eq_true rfl) rfl rfl (Nat.le_of_ble_eq_true rfl) (fun _ _ q => q.elim) (fun _ _ hq => go_E hq ?_)
                try simp only [th0]
                refine r_aload_n (pc := 58) dX3_ranked_58 rfl ?_
                refine r_iload_n (pc := 59) dX3_ranked_59 rfl ?_
                refine r_iload_n (pc := 60) dX3_ranked_60 rfl ?_
                refine r_callV (pc := 61) (kb' := 0) dX3_ranked_61 kX3_measured q3084 (t_measured hm (by first | omega | (simp only [th0]; omega)) (by first | omega | (simp only [th0]; omega))) hm.1.1 rfl (Nat.le_refl _) (Nat.le_of_ble_eq_true rfl) rfl rfl (Nat.le_of_ble_eq_true rfl) (fun _ _ q => q.elim) (fun _ _ hq => go_E hq ?_)
                try simp only [th0]
                have x1 := x9 o
                have x2 := x9 a
                refine r_icmp_gt (pc := 64) (tgt := 89) dX3_ranked_64 (by decide) (by first | omega | exact rfB_in _ | exact nz_in _ | exact hm.r _ _) (by first | omega | exact rfB_in _ | exact nz_in _ | exact hm.r _ _) (fun c64 => ?_) (fun c64 => ?_)
                · refine r_iconst (pc := 89) dX3_ranked_89 ?_
                  refine r_goto (pc := 90) (tgt := 94) dX3_ranked_90 (by decide) ?_
                  refine r_iadd (pc := 94) dX3_ranked_94 ?_
                  refine r_istore (pc := 95) (L' := [_, _, _, _, _, _]) dX3_ranked_95 rfl ?_
                  refine r_iinc (pc := 97) (L' := [_, _, _, _, _, _]) dX3_ranked_97 rfl rfl ?_
                  refine r_goto (pc := 100) (tgt := 38) dX3_ranked_100 (by decide) ?_
                  exact ih38 _ _ (by omega) (by rw [sumI_s ho.1, hv]; congr 1; first | exact (bZ_t (by omega)).symm | exact (bZ_f (by omega)).symm) (by omega)
                · refine r_aload_n (pc := 67) dX3_ranked_67 rfl ?_
                  refine r_iload (pc := 68) dX3_ranked_68 rfl ?_
                  refine r_iload_n (pc := 70) dX3_ranked_70 rfl ?_
                  refine r_callV (pc := 71) (kb' := 0) dX3_ranked_71 kX3_measured q3084 (t_measured hm (by first | omega | (simp only [th0]; omega)) (by first | omega | (simp only [th0]; omega))) hm.1.1 rfl (Nat.le_refl _) (Nat.le_of_ble_eq_true rfl) rfl rfl (Nat.le_of_ble_eq_true rfl) (fun _ _ q => q.elim) (fun _ _ hq => go_E hq ?_)
                  try simp only [th0]
                  refine r_aload_n (pc := 74) dX3_ranked_74 rfl ?_
                  refine r_iload_n (pc := 75) dX3_ranked_75 rfl ?_
                  refine r_iload_n (pc := 76) dX3_ranked_76 rfl ?_
                  refine r_callV (pc := 77) (kb' := 0) dX3_ranked_77 kX3_measured q3084 (t_measured hm (by first | omega | (simp only [th0]; omega)) (by first | omega | (simp only [th0]; omega))) hm.1.1 rfl (Nat.le_refl _) (Nat.le_of_ble_eq_true rfl) rfl rfl (Nat.le_of_ble_eq_true rfl) (fun _ _ q => q.elim) (fun _ _ hq => go_E hq ?_)
                  try simp only [th0]
                  have x1 := x9 o
                  have x2 := x9 a
                  refine r_icmp_ne (pc := 80) (tgt := 93) dX3_ranked_80 (by decide) (by first | omega | exact rfB_in _ | exact nz_in _ | exact hm.r _ _) (by first | omega | exact rfB_in _ | exact nz_in _ | exact hm.r _ _) (fun c80 => ?_) (fun c80 => ?_)
                  · refine r_iconst (pc := 93) dX3_ranked_93 ?_
                    refine r_iadd (pc := 94) dX3_ranked_94 ?_
                    refine r_istore (pc := 95) (L' := [_, _, _, _, _, _]) dX3_ranked_95 rfl ?_
                    refine r_iinc (pc := 97) (L' := [_, _, _, _, _, _]) dX3_ranked_97 rfl rfl ?_
                    refine r_goto (pc := 100) (tgt := 38) dX3_ranked_100 (by decide) ?_
                    exact ih38 _ _ (by omega) (by rw [sumI_s ho.1, hv]; congr 1; first | exact (bZ_t (by omega)).symm | exact (bZ_f (by omega)).symm) (by omega)
                  · refine r_iload (pc := 83) dX3_ranked_83 rfl ?_
                    refine r_iload_n (pc := 85) dX3_ranked_85 rfl ?_
                    refine r_icmp_ge (pc := 86) (tgt := 93) dX3_ranked_86 (by decide) (by first | omega | exact rfB_in _ | exact nz_in _ | exact hm.r _ _) (by first | omega | exact rfB_in _ | exact nz_in _ | exact hm.r _ _) (fun c86 => ?_) (fun c86 => ?_)
                    · refine r_iconst (pc := 93) dX3_ranked_93 ?_
                      refine r_iadd (pc := 94) dX3_ranked_94 ?_
                      refine r_istore (pc := 95) (L' := [_, _, _, _, _, _]) dX3_ranked_95 rfl ?_
                      refine r_iinc (pc := 97) (L' := [_, _, _, _, _, _]) dX3_ranked_97 rfl rfl ?_
                      refine r_goto (pc := 100) (tgt := 38) dX3_ranked_100 (by decide) ?_
                      exact ih38 _ _ (by omega) (by rw [sumI_s ho.1, hv]; congr 1; first | exact (bZ_t (by omega)).symm | exact (bZ_f (by omega)).symm) (by omega)
                    · refine r_iconst (pc := 89) dX3_ranked_89 ?_
                      refine r_goto (pc := 90) (tgt := 94) dX3_ranked_90 (by decide) ?_
                      refine r_iadd (pc := 94) dX3_ranked_94 ?_
                      refine r_istore (pc := 95) (L' := [_, _, _, _, _, _]) dX3_ranked_95 rfl ?_
                      refine r_iinc (pc := 97) (L' := [_, _, _, _, _, _]) dX3_ranked_97 rfl rfl ?_
                      refine r_goto (pc := 100) (tgt := 38) dX3_ranked_100 (by decide) ?_
                      exact ih38 _ _ (by omega) (by rw [sumI_s ho.1, hv]; congr 1; first | exact (bZ_t (by omega)).symm | exact (bZ_f (by omega)).symm) (by omega)
          exact loop38 ((T 0 0).toNat + 1) _ _ (by omega) sumI_0.symm (by omega)
    exact loop22 ((T 0 0).toNat + 1) _ (by omega) (by rw [Int.sub_zero]; rfl) (by omega)
  · refine r_aload_n (pc := 14) dX3_ranked_14 rfl ?_
    refine r_iconst (pc := 15) dX3_ranked_15 ?_
    refine r_callV (pc := 16) (kb' := 0) dX3_ranked_16 kX3_no q2823 (t_no hm (by first | omega | (simp only [th0]; omega))) hm.1.1 rfl (Nat.le_refl _) (Nat.le_of_ble_eq_true rfl) rfl rfl (Nat.le_of_ble_eq_true rfl) (fun _ _ q => q.elim) (fun _ _ hq => go_T hq (fun h hm1 => ?_))
    have hm := hm.tr hm1
    try simp only [th0]
    exact e_retT (pc := 19) dX3_ranked_19 rfl hm (by unfold zRan; (repeat' split) <;> first | rfl | omega) (by first | (rw [sT_sT]; congr 1; unfold kRan; (repeat' split) <;> first | rfl | omega) | (congr 1; unfold kRan; (repeat' split) <;> first | rfl | omega))
theorem t_fullest {G : Gl} {m : Nat} {ad : Nat → Nat} {h0 h9 : Hp} {T : TM} (hm : TI m ad h0 T h9) {p : Int} (hI : RI (T 0)) (hp : InR p) : Ct G 4 0 yX3_fullest (Cond.code yX3_fullest cX3_fullest 5 (some .int)) [.ref m, .int (iZ p)] h9 (RT m ad h9 (zFul (T 0) p) (sT T 5 0 (kFul (T 0) p))) noX := by
  have hm := hm.nw
  have hb := hI.1
  have o9 := fun x => onSh_in (r := T 0) (s := x) (by omega)
  have p9 : ∀ x, InR (plOf (T 0) x) := fun x => (fnd_in (N := T 0 1) (p := fun k => T 0 (12 + k) = x) (by omega)).2.2
  refine Ct.of (own := eM) (nm := "fullest") (by decide +kernel) rfl rfl (L := [some (.ref m), some (.int (iZ p)), none, none, none]) rfl (Nat.le_of_ble_eq_true rfl) rfl ?_
  refine r_aload_n (pc := 0) dX3_fullest_0 rfl ?_
  refine r_iconst (pc := 1) dX3_fullest_1 ?_
  refine pX3_25 (pc := 2) dX3_fullest_2 hm.1.1 (by decide) (Nat.le_of_ble_eq_true rfl) ?_
  refine t_put 5 rfl hm (by first | omega | exact rfB_in _ | exact nz_in _ | exact hm.r _ _) (fun h hm => ?_)
  refine r_iconst (pc := 5) dX3_fullest_5 ?_
  refine r_istore_n (pc := 6) (L' := [_, _, _, _, _]) dX3_fullest_6 rfl ?_
  have loop7 : ∀ (n : Nat) (a : Int) , (0 ≤ a ∧ a ≤ 3) → flF (T 0) p = fndZ (fun s => flN (T 0) s = p) a (3 - a).toNat → 3 - a < n → Go G eM cX3_fullest (5, some .int, "fullest", []) 4 0 (RT m ad h9 (zFul (T 0) p) (sT T 5 0 (kFul (T 0) p))) noX 0 h 7 [some (.ref m), some (.int (iZ p)), some (.int (iZ a)), none, none] [] := by
    intro n
    induction n with
    | zero => intro a ha hk2 hn; omega
    | succ n ih7 =>
      intro a ha hk2 hn
      refine r_iload_n (pc := 7) dX3_fullest_7 rfl ?_
      refine r_iconst (pc := 8) dX3_fullest_8 ?_
      refine r_icmp_ge (pc := 9) (tgt := 60) dX3_fullest_9 (by decide) (by first | omega | exact rfB_in _ | exact nz_in _ | exact hm.r _ _) (by first | omega | exact rfB_in _ | exact nz_in _ | exact hm.r _ _) (fun c9 => ?_) (fun c9 => ?_)
      · have g1 : flF (T 0) p = -1 := (by rw [hk2, fnd_e (by omega)])
        refine r_aload_n (pc := 60) dX3_fullest_60 rfl ?_
        refine r_iconst (pc := 61) dX3_fullest_61 ?_
        refine r_callV (pc := 62) (kb' := 0) dX3_fullest_62 kX3_no q2823 (t_no hm (by first | omega | (simp only [th0]; omega))) hm.1.1 rfl (Nat.le_refl _) (Nat.le_of_ble_eq_true rfl) rfl rfl (Nat.le_of_ble_eq_true rfl) (fun _ _ q => q.elim) (fun _ _ hq => go_T hq (fun h hm1 => ?_))
        have hm := hm.tr hm1
        try simp only [th0]
        exact e_retT (pc := 65) dX3_fullest_65 rfl hm (by unfold zFul; (repeat' split) <;> first | rfl | omega) (by first | (rw [sT_sT]; congr 1; unfold kFul; (repeat' split) <;> first | rfl | omega) | (congr 1; unfold kFul; (repeat' split) <;> first | rfl | omega))
      · refine r_iconst (pc := 12) dX3_fullest_12 ?_
        refine r_istore_n (pc := 13) (L' := [_, _, _, _, _]) dX3_fullest_13 rfl ?_
        refine r_iconst (pc := 14) dX3_fullest_14 ?_
        refine r_istore (pc := 15) (L' := [_, _, _, _, _]) dX3_fullest_15 rfl ?_
        have loop17 : ∀ (n : Nat) (v o : Int) , (0 ≤ o ∧ o ≤ 3) → v = sumI o (fun o => bZ (flP (T 0) o a)) → 3 - o < n → Go G eM cX3_fullest (5, some .int, "fullest", []) 4 0 (RT m ad h9 (zFul (T 0) p) (sT T 5 0 (kFul (T 0) p))) noX 0 h 17 [some (.ref m), some (.int (iZ p)), some (.int (iZ a)), some (.int (iZ v)), some (.int (iZ o))] [] := by
          intro n
          induction n with
          | zero => intro v o ho hv hn; omega
          | succ n ih17 =>
            intro v o ho hv hn
            have h7 := sumB_in (p := fun o => flP (T 0) o a) ho.1
            refine r_iload (pc := 17) dX3_fullest_17 rfl ?_
            refine r_iconst (pc := 19) dX3_fullest_19 ?_
            refine r_icmp_ge (pc := 20) (tgt := 47) dX3_fullest_20 (by decide) (by first | omega | exact rfB_in _ | exact nz_in _ | exact hm.r _ _) (by first | omega | exact rfB_in _ | exact nz_in _ | exact hm.r _ _) (fun c20 => ?_) (fun c20 => ?_)
            · refine r_iload_n (pc := 47) dX3_fullest_47 rfl ?_
              refine r_iload_n (pc := 48) dX3_fullest_48 rfl ?_
              refine r_icmp_ne (pc := 49) (tgt := 54) dX3_fullest_49 (by decide) (by first | omega | exact rfB_in _ | exact nz_in _ | exact hm.r _ _) (by first | omega | exact rfB_in _ | exact nz_in _ | exact hm.r _ _) (fun c49 => ?_) (fun c49 => ?_)
              · refine r_iinc (pc := 54) (L' := [_, _, _, _, _]) dX3_fullest_54 rfl rfl ?_
                refine r_goto (pc := 57) (tgt := 7) dX3_fullest_57 (by decide) ?_
                refine go_L (L' := [some _, some _, some _, none, none]) ⟨rfl, rfl, rfl, trivial⟩ ?_
                exact ih7 _ (by omega) (by rw [hk2, fnd_s (by omega), if_neg (by unfold flN; rw [← show o = 3 by omega, ← hv]; omega)]) (by omega)
              · have g1 : flF (T 0) p = a := (by rw [hk2, fnd_s (by omega), if_pos (by unfold flN; rw [← show o = 3 by omega, ← hv]; omega)])
                refine r_iload_n (pc := 52) dX3_fullest_52 rfl ?_
                exact e_retT (pc := 53) dX3_fullest_53 rfl hm (by unfold zFul; (repeat' split) <;> first | rfl | omega) (by first | (rw [sT_sT]; congr 1; unfold kFul; (repeat' split) <;> first | rfl | omega) | (congr 1; unfold kFul; (repeat' split) <;> first | rfl | omega))
            · refine r_iload_n (pc := 23) dX3_fullest_23 rfl ?_
              refine r_aload_n (pc := 24) dX3_fullest_24 rfl ?_
              refine r_iload (pc := 25) dX3_fullest_25 rfl ?_
              refine r_iload_n (pc := 27) dX3_fullest_27 rfl ?_
              refine r_callV (pc := 28) (kb' := 0) dX3_fullest_28 kX3_isFuller q3092 (t_isFuller hm (by first | exact hI | (rw [th0]; exact hI)) (by first | omega | (simp only [th0]; omega)) (by first | omega | (simp only [th0]; omega))) hm.1.1 rfl (Nat.le_refl _) (Nat.le_of_ble_eq_true rfl) rfl rfl (Nat.le_of_ble_eq_true rfl) (fun _ _ q => q.elim) (fun _ _ hq => go_E hq ?_)
              try simp only [th0]
              refine r_ifB_eq (pc := 31) (tgt := 38) dX3_fullest_31 (by decide) (fun c31 => ?_) (fun c31 => ?_)
              · refine r_iconst (pc := 38) dX3_fullest_38 ?_
                refine r_iadd (pc := 39) dX3_fullest_39 ?_
                refine r_istore_n (pc := 40) (L' := [_, _, _, _, _]) dX3_fullest_40 rfl ?_
                refine r_iinc (pc := 41) (L' := [_, _, _, _, _]) dX3_fullest_41 rfl rfl ?_
                refine r_goto (pc := 44) (tgt := 17) dX3_fullest_44 (by decide) ?_
                exact ih17 _ _ (by omega) (by rw [sumI_s ho.1, hv]; congr 1; first | exact (bZ_t c31).symm | exact (bZ_f c31).symm) (by omega)
              · refine r_iconst (pc := 34) dX3_fullest_34 ?_
                refine r_goto (pc := 35) (tgt := 39) dX3_fullest_35 (by decide) ?_
                refine r_iadd (pc := 39) dX3_fullest_39 ?_
                refine r_istore_n (pc := 40) (L' := [_, _, _, _, _]) dX3_fullest_40 rfl ?_
                refine r_iinc (pc := 41) (L' := [_, _, _, _, _]) dX3_fullest_41 rfl rfl ?_
                refine r_goto (pc := 44) (tgt := 17) dX3_fullest_44 (by decide) ?_
                exact ih17 _ _ (by omega) (by rw [sumI_s ho.1, hv]; congr 1; first | exact (bZ_t c31).symm | exact (bZ_f c31).symm) (by omega)
        exact loop17 4 _ _ (by omega) sumI_0.symm (by omega)
  exact loop7 4 _ (by omega) rfl (by omega)
