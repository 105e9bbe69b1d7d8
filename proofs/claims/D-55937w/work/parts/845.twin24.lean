set_option maxRecDepth 100000
theorem t_run {G : Gl} {m : Nat} {ad : Nat → Nat} {h0 h9 : Hp} {T9 : TM} (hm : TI m ad h0 T9 h9) (hI : RI (T9 0)) (hC : 0 ≤ T9 6 0 ∧ T9 6 0 ≤ 8) (hf : 0 ≤ T9 18 0 ∧ T9 18 0 ≤ 60) : Ct G 7 0 yX3_run (Cond.code yX3_run cX3_run 2 (some .int)) [.ref m] h9 (RZ m ad h9 (RuP T9)) noX := by
  have hm := hm.nw
  have hb := hI.1
  refine Ct.of (own := eM) (nm := "run") (by decide +kernel) rfl rfl (L := [some (.ref m), none]) rfl (Nat.le_of_ble_eq_true rfl) rfl ?_
  refine r_aload_n (pc := 0) dX3_run_0 rfl ?_
  refine r_callV (pc := 1) (kb' := 0) dX3_run_1 kX3_begins q2783 (t_begins hm) hm.1.1 rfl (Nat.le_refl _) (Nat.le_of_ble_eq_true rfl) rfl rfl (Nat.le_of_ble_eq_true rfl) (fun _ _ q => q.elim) (fun _ _ hq => go_V hq (fun h hm1 => ?_))
  have hm := hm.tr hm1
  refine r_aload_n (pc := 4) dX3_run_4 rfl ?_
  refine r_callV (pc := 5) (kb' := 0) dX3_run_5 kX3_reads q3124 (t_reads hm (by rw [bg_k (by decide) (by decide)]; exact hf)) hm.1.1 rfl (Nat.le_refl _) (Nat.le_of_ble_eq_true rfl) rfl rfl (Nat.le_of_ble_eq_true rfl) (fun _ _ q => q.elim) (fun _ _ hq => go_P hq (fun T h hP hm1 => ?_))
  have hm := hm.tr hm1
  obtain ⟨T1, rfl⟩ : ∃ T1, T1 = T := ⟨T, rfl⟩
  refine r_aload_n (pc := 8) dX3_run_8 rfl ?_
  refine r_aload_n (pc := 9) dX3_run_9 rfl ?_
  refine gX3_78 (pc := 10) dX3_run_10 hm.1.1 rfl ?_; have r10 := hm.r 22 0
  refine go_nm (fun z10 e10 => ?_)
  have r10 := InR_of e10 r10
  refine r_if_eq (pc := 13) (tgt := 23) dX3_run_13 (by decide) (by first | omega | exact rfB_in _ | exact nz_in _ | exact hm.r _ _) (fun c13 => ?_) (fun c13 => ?_)
  · refine r_iconst (pc := 23) dX3_run_23 ?_
    refine pX3_50 (pc := 24) dX3_run_24 hm.1.1 (by decide) (Nat.le_of_ble_eq_true rfl) ?_
    refine t_put 13 rfl hm (by first | omega | exact rfB_in _ | exact nz_in _ | exact hm.r _ _) (fun h hm => ?_)
    refine r_aload_n (pc := 27) dX3_run_27 rfl ?_
    refine gX3_78 (pc := 28) dX3_run_28 hm.1.1 rfl ?_; have r28 := hm.r 22 0
    refine go_nm (fun z28 e28 => ?_)
    have r28 := InR_of e28 r28
    try simp [sT, cpT, cpN] at e28
    refine r_if_eq (pc := 31) (tgt := 40) dX3_run_31 (by decide) (by first | omega | exact rfB_in _ | exact nz_in _ | exact hm.r _ _) (fun c31 => ?_) (fun c31 => ?_)
    · have h7 := rd_7 (tx := T9 15) (n := T9 18 0) hf.1
      have hB := ru_b hP (by omega)
      refine r_iconst (pc := 40) dX3_run_40 ?_
      refine r_istore_n (pc := 41) (L' := [_, _]) dX3_run_41 rfl ?_
      have loop42 : ∀ (n : Nat) (k : Int) (R : Row) (h : Hp) (T : TM), TI m ad h9 T h → (0 ≤ k ∧ k ≤ (rd (T9 15) (T9 18 0)).1.length) → doL (rd (T9 15) (T9 18 0)).1 (T9 0) 0 = doL ((rd (T9 15) (T9 18 0)).1.drop k.toNat) R k → RI R → (∀ j, ¬ (0 ≤ j ∧ j < 140) → R j = T9 0 j) → T = uT (sT T1 13 0 (-1)) R → (rd (T9 15) (T9 18 0)).1.length - k < n → Go G eM cX3_run (2, some .int, "run", []) 7 0 (RZ m ad h9 (RuP T9)) noX 0 h 42 [some (.ref m), some (.int (iZ k))] [] := by
        intro n
        induction n with
        | zero => intro k R h T hm hk hd hR hO hT hn; omega
        | succ n ih42 =>
          intro k R h T hm hk hd hR hO hT hn
          subst hT
          refine r_iload_n (pc := 42) dX3_run_42 rfl ?_
          refine r_aload_n (pc := 43) dX3_run_43 rfl ?_
          refine gX3_75 (pc := 44) dX3_run_44 hm.1.1 rfl ?_; have r44 := hm.r 21 0
          refine go_nm (fun z44 e44 => ?_)
          have r44 := InR_of e44 r44
          rw [uT_k (by decide), hB.2.2.2.2.1] at e44
          refine r_icmp_ge (pc := 47) (tgt := 113) dX3_run_47 (by decide) (by first | omega | exact rfB_in _ | exact nz_in _ | exact hm.r _ _) (by first | omega | exact rfB_in _ | exact nz_in _ | exact hm.r _ _) (fun c47 => ?_) (fun c47 => ?_)
          · refine r_aload_n (pc := 113) dX3_run_113 rfl ?_
            refine r_aload_n (pc := 114) dX3_run_114 rfl ?_
            refine gX3_75 (pc := 115) dX3_run_115 hm.1.1 rfl ?_; have r115 := hm.r 21 0
            refine go_nm (fun z115 e115 => ?_)
            have r115 := InR_of e115 r115
            rw [uT_k (by decide), hB.2.2.2.2.1] at e115
            refine r_callV (pc := 118) (kb' := 0) dX3_run_118 kX3_keeps q2835 (t_keeps hm (by omega) (by rw [uT_k (by decide), hB.1 6 (by omega) (by omega), bg_k (by decide) (by decide)]; exact hC)) hm.1.1 rfl (Nat.le_refl _) (Nat.le_of_ble_eq_true rfl) rfl rfl (Nat.le_of_ble_eq_true rfl) (fun _ _ q => q.elim) (fun _ _ hq => go_T hq (fun h hm1 => ?_))
            have hm := hm.tr hm1
            exact e_retZ (pc := 121) dX3_run_121 rfl hm (by first | exact ru_w hP (by omega) rfl | (rw [e76, e84]; exact ru_f hB hO hd hc hp) | exact ru_k hB hd (by omega) e115)
          · obtain ⟨c, hc⟩ : ∃ c, (rd (T9 15) (T9 18 0)).1[k.toNat]? = some c := ⟨_, List.getElem?_eq_getElem (by omega)⟩
            refine r_aload_n (pc := 50) dX3_run_50 rfl ?_
            refine r_iload_n (pc := 51) dX3_run_51 rfl ?_
            refine r_callV (pc := 52) (kb' := 0) dX3_run_52 kX3_cannot q3154 (t_cannot hm (by rw [uT_0]; exact hR) (by omega) (by rw [uT_k (by decide), uT_k (by decide), show k = (k.toNat : Int) by omega]; exact hB.2.2.2.2.2 _ c hc) (by exact (h7.1 c (List.mem_of_getElem? hc)).1)) hm.1.1 rfl (Nat.le_refl _) (Nat.le_of_ble_eq_true rfl) rfl rfl (Nat.le_of_ble_eq_true rfl) (fun _ _ q => q.elim) (fun _ _ hq => go_T hq (fun h hm1 => ?_))
            have hm := hm.tr hm1
            rw [uT_0]
            refine r_if_ne (pc := 55) (tgt := 61) dX3_run_55 (by decide) (by first | omega | exact rfB_in _ | exact nz_in _ | exact hm.r _ _) (fun c55 => ?_) (fun c55 => ?_)
            · obtain ⟨pp, hp⟩ : ∃ p, refC R c = some p := (by rcases rf_cases (refC R c) with q | q; exact absurd (rfB_none q) c55; exact q)
              have hm := hm.to (cnT_s (p := pp) (by rw [uT_0]; exact hp))
              refine r_aload_n (pc := 61) dX3_run_61 rfl ?_
              refine gX3_13 (pc := 62) dX3_run_62 hm.1.1 rfl ?_
              refine r_iconst (pc := 65) dX3_run_65 ?_
              refine r_aload_n (pc := 66) dX3_run_66 rfl ?_
              refine gX3_7 (pc := 67) dX3_run_67 hm.1.1 rfl ?_
              refine r_iconst (pc := 70) dX3_run_70 ?_
              refine r_callS (pc := 71) (kb' := 0) dX3_run_71 kX3_copies q2787 (t_copies hm (by decide) (by decide) (by simp only [szF]; omega) (by simp only [szF]; omega) (by omega)) (Nat.le_refl _) (Nat.le_of_ble_eq_true rfl) rfl rfl (Nat.le_of_ble_eq_true rfl) (fun _ _ q => q.elim) (fun _ _ hq => go_V hq (fun h hm1 => ?_))
              have hm := hm.tr hm1
              refine r_aload_n (pc := 74) dX3_run_74 rfl ?_
              refine r_aload_n (pc := 75) dX3_run_75 rfl ?_
              refine gX3_32 (pc := 76) dX3_run_76 hm.1.1 rfl ?_; have r76 := hm.r 7 0
              refine go_nm (fun z76 e76 => ?_)
              have r76 := InR_of e76 r76
              simp [cpT, cpN, bdT, sT] at e76
              refine pX3_44 (pc := 79) dX3_run_79 hm.1.1 (by decide) (Nat.le_of_ble_eq_true rfl) ?_
              refine t_put 11 rfl hm (by first | omega | exact rfB_in _ | exact nz_in _ | exact hm.r _ _) (fun h hm => ?_)
              refine r_aload_n (pc := 82) dX3_run_82 rfl ?_
              refine r_aload_n (pc := 83) dX3_run_83 rfl ?_
              refine gX3_35 (pc := 84) dX3_run_84 hm.1.1 rfl ?_; have r84 := hm.r 8 0
              refine go_nm (fun z84 e84 => ?_)
              have r84 := InR_of e84 r84
              simp [cpT, cpN, bdT, sT] at e84
              refine pX3_47 (pc := 87) dX3_run_87 hm.1.1 (by decide) (Nat.le_of_ble_eq_true rfl) ?_
              refine t_put 12 rfl hm (by first | omega | exact rfB_in _ | exact nz_in _ | exact hm.r _ _) (fun h hm => ?_)
              refine r_aload_n (pc := 90) dX3_run_90 rfl ?_
              refine r_bipush (pc := 91) dX3_run_91 (by decide) ?_
              refine pX3_38 (pc := 93) dX3_run_93 hm.1.1 (by decide) (Nat.le_of_ble_eq_true rfl) ?_
              refine t_put 9 rfl hm (by first | omega | exact rfB_in _ | exact nz_in _ | exact hm.r _ _) (fun h hm => ?_)
              refine r_aload_n (pc := 96) dX3_run_96 rfl ?_
              refine r_iload_n (pc := 97) dX3_run_97 rfl ?_
              refine pX3_41 (pc := 98) dX3_run_98 hm.1.1 (by decide) (Nat.le_of_ble_eq_true rfl) ?_
              refine t_put 10 rfl hm (by first | omega | exact rfB_in _ | exact nz_in _ | exact hm.r _ _) (fun h hm => ?_)
              refine r_aload_n (pc := 101) dX3_run_101 rfl ?_
              refine r_iconst (pc := 102) dX3_run_102 ?_
              refine r_callV (pc := 103) (kb' := 0) dX3_run_103 kX3_no q2823 (t_no hm (by omega)) hm.1.1 rfl (Nat.le_refl _) (Nat.le_of_ble_eq_true rfl) rfl rfl (Nat.le_of_ble_eq_true rfl) (fun _ _ q => q.elim) (fun _ _ hq => go_T hq (fun h hm1 => ?_))
              have hm := hm.tr hm1
              exact e_retZ (pc := 106) dX3_run_106 rfl hm (by first | exact ru_w hP (by omega) rfl | (rw [e76, e84]; exact ru_f hB hO hd hc hp) | exact ru_k hB hd (by omega) e115)
            · have hn : refC R c = none := rfB_0.mp (by omega)
              have hm := hm.to ((cnT_n (by rw [uT_0]; exact hn) (by rw [uT_0])).trans uT_uT)
              refine r_goto (pc := 58) (tgt := 107) dX3_run_58 (by decide) ?_
              refine r_iinc (pc := 107) (L' := [_, _]) dX3_run_107 rfl rfl ?_
              refine r_goto (pc := 110) (tgt := 42) dX3_run_110 (by decide) ?_
              exact ih42 (k + 1) (efC R c) _ _ hm (by omega) (by rw [hd, List.drop_eq_getElem_cons (List.getElem?_eq_some_iff.mp hc).1, (List.getElem?_eq_some_iff.mp hc).2, doL_t hn, show (k + 1).toNat = k.toNat + 1 by omega]) (RI_ef hR hn) (fun j hj => (ef_out hR hn hj).trans (hO j hj)) rfl (by omega)
      skip
      exact loop42 11 0 (T9 0) _ _ hm (by omega) rfl hI (fun _ _ => rfl) (by funext i j; unfold uT; split; (rename_i q; rw [q, hB.1 0 (by omega) (by omega), bg_k (by decide) (by decide)]); rfl) (by omega)
    · exact absurd c13 (by omega)
  · refine r_aload_n (pc := 16) dX3_run_16 rfl ?_
    refine gX3_72 (pc := 17) dX3_run_17 hm.1.1 rfl ?_; have r17 := hm.r 20 0
    refine r_goto (pc := 20) (tgt := 24) dX3_run_20 (by decide) ?_
    refine pX3_50 (pc := 24) dX3_run_24 hm.1.1 (by decide) (Nat.le_of_ble_eq_true rfl) ?_
    refine t_put 13 rfl hm (by first | omega | exact rfB_in _ | exact nz_in _ | exact hm.r _ _) (fun h hm => ?_)
    refine r_aload_n (pc := 27) dX3_run_27 rfl ?_
    refine gX3_78 (pc := 28) dX3_run_28 hm.1.1 rfl ?_; have r28 := hm.r 22 0
    refine go_nm (fun z28 e28 => ?_)
    have r28 := InR_of e28 r28
    try simp [sT, cpT, cpN] at e28
    refine r_if_eq (pc := 31) (tgt := 40) dX3_run_31 (by decide) (by first | omega | exact rfB_in _ | exact nz_in _ | exact hm.r _ _) (fun c31 => ?_) (fun c31 => ?_)
    · exact absurd c13 (by omega)
    · refine r_aload_n (pc := 34) dX3_run_34 rfl ?_
      refine r_iconst (pc := 35) dX3_run_35 ?_
      refine r_callV (pc := 36) (kb' := 0) dX3_run_36 kX3_no q2823 (t_no hm (by omega)) hm.1.1 rfl (Nat.le_refl _) (Nat.le_of_ble_eq_true rfl) rfl rfl (Nat.le_of_ble_eq_true rfl) (fun _ _ q => q.elim) (fun _ _ hq => go_T hq (fun h hm1 => ?_))
      have hm := hm.tr hm1
      exact e_retZ (pc := 39) dX3_run_39 rfl hm (by first | exact ru_w hP (by omega) rfl | (rw [e76, e84]; exact ru_f hB hO hd hc hp) | exact ru_k hB hd (by omega) e115)
