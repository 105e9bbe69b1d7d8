set_option maxRecDepth 100000
theorem t_citations {G : Gl} {m : Nat} {ad : Nat → Nat} {h0 h9 : Hp} {T9 : TM} (hm : TI m ad h0 T9 h9) {a : Int} (hI : RI (T9 0)) (ha : InR a) : Ct G 7 0 yX3_citations (Cond.code yX3_citations cX3_citations 5 (some .int)) [.ref m, .int (iZ a)] h9 (RY m ad h9 (zCit (T9 0) a) (sT T9 5 0 (kCit (T9 0) a))) noX := by
  have hm := hm.nw
  obtain ⟨T, e0, hE, hm⟩ : ∃ T : TM, T 0 = T9 0 ∧ E2 T T9 ∧ TI m ad h9 T h9 := ⟨T9, rfl, E2.rf, hm⟩
  have hb := hI.1
  have o9 := fun x => onSh_in (r := T9 0) (s := x) (by omega)
  have p9 : ∀ x, InR (plOf (T9 0) x) := fun x => (fnd_in (N := T9 0 1) (p := fun k => T9 0 (12 + k) = x) (by omega)).2.2
  refine Ct.of (own := eM) (nm := "citations") (by decide +kernel) rfl rfl (L := [some (.ref m), some (.int (iZ a)), none, none, none]) rfl (Nat.le_of_ble_eq_true rfl) rfl ?_
  refine r_aload_n (pc := 0) dX3_citations_0 rfl ?_
  refine r_aload_n (pc := 1) dX3_citations_1 rfl ?_
  refine r_iload_n (pc := 2) dX3_citations_2 rfl ?_
  refine r_callV (pc := 3) (kb' := 0) dX3_citations_3 kX3_isArticle q2851 (t_isArticle hm (by rw [e0]; exact hI) (by first | omega | (simp only [e0]; omega))) hm.1.1 rfl (Nat.le_refl _) (Nat.le_of_ble_eq_true rfl) rfl rfl (Nat.le_of_ble_eq_true rfl) (fun _ _ q => q.elim) (fun _ _ hq => go_E hq ?_)
  try simp only [e0]
  refine r_ifB_eq (pc := 6) (tgt := 13) dX3_citations_6 (by decide) (fun c6 => ?_) (fun c6 => ?_)
  · refine r_iconst (pc := 13) dX3_citations_13 ?_
    refine pX3_25 (pc := 14) dX3_citations_14 hm.1.1 (by decide) (Nat.le_of_ble_eq_true rfl) ?_
    refine t_put 5 rfl hm (by first | omega | exact rfB_in _ | exact nz_in _ | exact hm.r _ _) (fun h hm => ?_)
    obtain ⟨T, e0, hE, hm⟩ := E2.gen e0 hE hm (by decide)
    refine r_aload_n (pc := 17) dX3_citations_17 rfl ?_
    refine gX3_25 (pc := 18) dX3_citations_18 hm.1.1 rfl ?_; have r18 := hm.r 5 0
    refine go_nm (fun z18 e18 => ?_)
    have r18 := InR_of e18 r18
    rw [hE 5 (by decide) (by decide)] at e18; simp only [sT_s] at e18
    refine r_if_le (pc := 21) (tgt := 26) dX3_citations_21 (by decide) (by first | omega | exact rfB_in _ | exact nz_in _ | exact hm.r _ _) (fun c21 => ?_) (fun c21 => ?_)
    · refine r_aload_n (pc := 26) dX3_citations_26 rfl ?_
      refine gX3_7 (pc := 27) dX3_citations_27 hm.1.1 rfl ?_
      refine r_iconst (pc := 30) dX3_citations_30 ?_
      refine r_aload_n (pc := 31) dX3_citations_31 rfl ?_
      refine gX3_16 (pc := 32) dX3_citations_32 hm.1.1 rfl ?_
      refine r_iconst (pc := 35) dX3_citations_35 ?_
      refine r_callS (pc := 36) (kb' := 0) dX3_citations_36 kX3_copies q2787 (t_copies hm (by decide) (by decide) (by simp only [szF]; omega) (by simp only [szF]; omega) (by first | omega | (simp only [e0]; omega))) (Nat.le_refl _) (Nat.le_of_ble_eq_true rfl) rfl rfl (Nat.le_of_ble_eq_true rfl) (fun _ _ q => q.elim) (fun _ _ hq => go_V hq (fun h hm1 => ?_))
      have hm := hm.tr hm1
      obtain ⟨T, e0, hE, hm⟩ := E2.genC e0 hE hm
      refine r_iconst (pc := 39) dX3_citations_39 ?_
      have ho := hI.2.1 a (by omega) (by omega)
      unfold artOk at ho
      refine r_istore_n (pc := 40) (L' := [_, _, _, _, _]) dX3_citations_40 rfl ?_
      refine r_iconst (pc := 41) dX3_citations_41 ?_
      refine r_istore_n (pc := 42) (L' := [_, _, _, _, _]) dX3_citations_42 rfl ?_
      have loop43 : ∀ (n : Nat) (R : Row) (f : Nat) (c u : Int) (h : Hp) (T : TM), TI m ad h9 T h → ctR (T9 0) a = ctS a f R c → fA R a 2 < f → (R 0 = T9 0 0 ∧ 0 ≤ c ∧ 0 ≤ fA R a 2 ∧ c + fA R a 2 ≤ 9 ∧ 0 < f) → RI R → T 0 = R → E2 T (uT (cpT (sT T9 5 0 0) 0 0 2 0) R) → (∀ j, ¬ (0 ≤ j ∧ j < 140) → R j = T9 0 j) → fA R a 2 < n → Go G eM cX3_citations (5, some .int, "citations", []) 7 0 (RY m ad h9 (zCit (T9 0) a) (sT T9 5 0 (kCit (T9 0) a))) noX 0 h 43 [some (.ref m), some (.int (iZ a)), some (.int (iZ c)), some (.int (iZ u)), none] [] := by
        intro n
        induction n with
        | zero => intro R f c u h T hm hk hf hg hI e0 hE hO hn; omega
        | succ n ih43 =>
          intro R f c u h T hm hk hf hg hI e0 hE hO hn
          have hbR := hI.1
          have hoR := hI.2.1 a (by omega) (by omega)
          unfold artOk at hoR
          have xx : InR (bfZ R a) := (by have := bf_in (r := R) (a := a) (R 2).toNat; rw [show bfS R a (R 2).toNat = bfZ R a from rfl] at this; omega)
          refine r_aload_n (pc := 43) dX3_citations_43 rfl ?_
          refine r_iload_n (pc := 44) dX3_citations_44 rfl ?_
          refine r_iconst (pc := 45) dX3_citations_45 ?_
          refine r_callV (pc := 46) (kb' := 0) dX3_citations_46 kX3_av q2815 (t_av hm (by first | omega | (simp only [e0]; omega)) (by first | omega | (simp only [e0]; omega))) hm.1.1 rfl (Nat.le_refl _) (Nat.le_of_ble_eq_true rfl) rfl rfl (Nat.le_of_ble_eq_true rfl) (fun _ _ q => q.elim) (fun _ _ hq => go_E hq ?_)
          try simp only [e0]
          refine r_if_le (pc := 49) (tgt := 77) dX3_citations_49 (by decide) (by first | omega | exact rfB_in _ | exact nz_in _ | exact hm.r _ _) (fun c49 => ?_) (fun c49 => ?_)
          · refine r_aload_n (pc := 77) dX3_citations_77 rfl ?_
            refine r_iload_n (pc := 78) dX3_citations_78 rfl ?_
            refine r_iconst (pc := 79) dX3_citations_79 ?_
            refine r_callV (pc := 80) (kb' := 0) dX3_citations_80 kX3_av q2815 (t_av hm (by first | omega | (simp only [e0]; omega)) (by first | omega | (simp only [e0]; omega))) hm.1.1 rfl (Nat.le_refl _) (Nat.le_of_ble_eq_true rfl) rfl rfl (Nat.le_of_ble_eq_true rfl) (fun _ _ q => q.elim) (fun _ _ hq => go_E hq ?_)
            try simp only [e0]
            refine r_if_le (pc := 83) (tgt := 90) dX3_citations_83 (by decide) (by first | omega | exact rfB_in _ | exact nz_in _ | exact hm.r _ _) (fun c83 => ?_) (fun c83 => ?_)
            · refine r_iconst (pc := 90) dX3_citations_90 ?_
              have hC : ctR (T9 0) a = (R, c) := ct_f (by omega) hk (by omega)
              refine r_istore (pc := 91) (L' := [_, _, _, _, _]) dX3_citations_91 rfl ?_
              refine r_aload_n (pc := 93) dX3_citations_93 rfl ?_
              refine gX3_16 (pc := 94) dX3_citations_94 hm.1.1 rfl ?_
              refine r_iconst (pc := 97) dX3_citations_97 ?_
              refine r_aload_n (pc := 98) dX3_citations_98 rfl ?_
              refine gX3_7 (pc := 99) dX3_citations_99 hm.1.1 rfl ?_
              refine r_iconst (pc := 102) dX3_citations_102 ?_
              refine r_callS (pc := 103) (kb' := 0) dX3_citations_103 kX3_copies q2787 (t_copies hm (by decide) (by decide) (by simp only [szF]; omega) (by simp only [szF]; omega) (by first | omega | (simp only [e0]; omega))) (Nat.le_refl _) (Nat.le_of_ble_eq_true rfl) rfl rfl (Nat.le_of_ble_eq_true rfl) (fun _ _ q => q.elim) (fun _ _ hq => go_V hq (fun h hm1 => ?_))
              have hm := hm.tr hm1
              have hE3 := ct_back e0 hE hO
              refine r_iload (pc := 106) dX3_citations_106 rfl ?_
              refine r_if_eq (pc := 108) (tgt := 119) dX3_citations_108 (by decide) (by decide) (fun _ => ?_) (fun q => absurd (by decide) q)
              refine r_iload_n (pc := 119) dX3_citations_119 rfl ?_
              exact e_retY (pc := 120) dX3_citations_120 rfl hm hE3 (by unfold zCit; rw [if_neg (by omega), hC]; first | exact (if_pos (by show 0 < fA R a 2; omega)).symm | exact (if_neg (by show ¬ 0 < fA R a 2; omega)).symm) (by congr 1; unfold kCit; rw [if_neg (by omega), hC]; first | exact (if_pos (by show 0 < fA R a 2; omega)).symm | exact (if_neg (by show ¬ 0 < fA R a 2; omega)).symm)
            · refine r_iconst (pc := 86) dX3_citations_86 ?_
              refine r_goto (pc := 87) (tgt := 91) dX3_citations_87 (by decide) ?_
              have hC : ctR (T9 0) a = (R, c) := ct_f (by omega) hk (by omega)
              refine r_istore (pc := 91) (L' := [_, _, _, _, _]) dX3_citations_91 rfl ?_
              refine r_aload_n (pc := 93) dX3_citations_93 rfl ?_
              refine gX3_16 (pc := 94) dX3_citations_94 hm.1.1 rfl ?_
              refine r_iconst (pc := 97) dX3_citations_97 ?_
              refine r_aload_n (pc := 98) dX3_citations_98 rfl ?_
              refine gX3_7 (pc := 99) dX3_citations_99 hm.1.1 rfl ?_
              refine r_iconst (pc := 102) dX3_citations_102 ?_
              refine r_callS (pc := 103) (kb' := 0) dX3_citations_103 kX3_copies q2787 (t_copies hm (by decide) (by decide) (by simp only [szF]; omega) (by simp only [szF]; omega) (by first | omega | (simp only [e0]; omega))) (Nat.le_refl _) (Nat.le_of_ble_eq_true rfl) rfl rfl (Nat.le_of_ble_eq_true rfl) (fun _ _ q => q.elim) (fun _ _ hq => go_V hq (fun h hm1 => ?_))
              have hm := hm.tr hm1
              have hE3 := ct_back e0 hE hO
              refine r_iload (pc := 106) dX3_citations_106 rfl ?_
              refine r_if_eq (pc := 108) (tgt := 119) dX3_citations_108 (by decide) (by decide) (fun q => absurd q (by decide)) (fun _ => ?_)
              refine r_aload_n (pc := 111) dX3_citations_111 rfl ?_
              refine r_iconst (pc := 112) dX3_citations_112 ?_
              refine r_callV (pc := 113) (kb' := 0) dX3_citations_113 kX3_no q2823 (t_no hm (by first | omega | (simp only [e0]; omega))) hm.1.1 rfl (Nat.le_refl _) (Nat.le_of_ble_eq_true rfl) rfl rfl (Nat.le_of_ble_eq_true rfl) (fun _ _ q => q.elim) (fun _ _ hq => go_T hq (fun h hm1 => ?_))
              have hm := hm.tr hm1
              have hE3 := hE3.put (k := 5) (i := 0) (z := 2)
              rw [sT_sT] at hE3
              refine r_goto (pc := 116) (tgt := 120) dX3_citations_116 (by decide) ?_
              exact e_retY (pc := 120) dX3_citations_120 rfl hm hE3 (by unfold zCit; rw [if_neg (by omega), hC]; first | exact (if_pos (by show 0 < fA R a 2; omega)).symm | exact (if_neg (by show ¬ 0 < fA R a 2; omega)).symm) (by congr 1; unfold kCit; rw [if_neg (by omega), hC]; first | exact (if_pos (by show 0 < fA R a 2; omega)).symm | exact (if_neg (by show ¬ 0 < fA R a 2; omega)).symm)
          · refine r_aload_n (pc := 52) dX3_citations_52 rfl ?_
            refine r_iload_n (pc := 53) dX3_citations_53 rfl ?_
            refine r_callV (pc := 54) (kb' := 0) dX3_citations_54 kX3_bestFor q3072 (t_bestFor hm (by rw [e0]; exact hI) (by first | omega | (simp only [e0]; omega))) hm.1.1 rfl (Nat.le_refl _) (Nat.le_of_ble_eq_true rfl) rfl rfl (Nat.le_of_ble_eq_true rfl) (fun _ _ q => q.elim) (fun _ _ hq => go_X hq ?_)
            try simp only [e0]
            intro T h hE1 hm1
            have e0 := hE1.z.trans e0
            have hm := hm.tr hm1
            have hE := hE1.tr hE
            try simp only [e0]
            refine r_if_lt (pc := 57) (tgt := 77) dX3_citations_57 (by decide) (by first | omega | exact rfB_in _ | exact nz_in _ | exact hm.r _ _) (fun c57 => ?_) (fun c57 => ?_)
            · refine r_aload_n (pc := 77) dX3_citations_77 rfl ?_
              refine r_iload_n (pc := 78) dX3_citations_78 rfl ?_
              refine r_iconst (pc := 79) dX3_citations_79 ?_
              refine r_callV (pc := 80) (kb' := 0) dX3_citations_80 kX3_av q2815 (t_av hm (by first | omega | (simp only [e0]; omega)) (by first | omega | (simp only [e0]; omega))) hm.1.1 rfl (Nat.le_refl _) (Nat.le_of_ble_eq_true rfl) rfl rfl (Nat.le_of_ble_eq_true rfl) (fun _ _ q => q.elim) (fun _ _ hq => go_E hq ?_)
              try simp only [e0]
              refine r_if_le (pc := 83) (tgt := 90) dX3_citations_83 (by decide) (by first | omega | exact rfB_in _ | exact nz_in _ | exact hm.r _ _) (fun c83 => ?_) (fun c83 => ?_)
              · refine r_iconst (pc := 90) dX3_citations_90 ?_
                have hC : ctR (T9 0) a = (R, c) := ct_f (by omega) hk (by omega)
                refine r_istore (pc := 91) (L' := [_, _, _, _, _]) dX3_citations_91 rfl ?_
                refine r_aload_n (pc := 93) dX3_citations_93 rfl ?_
                refine gX3_16 (pc := 94) dX3_citations_94 hm.1.1 rfl ?_
                refine r_iconst (pc := 97) dX3_citations_97 ?_
                refine r_aload_n (pc := 98) dX3_citations_98 rfl ?_
                refine gX3_7 (pc := 99) dX3_citations_99 hm.1.1 rfl ?_
                refine r_iconst (pc := 102) dX3_citations_102 ?_
                refine r_callS (pc := 103) (kb' := 0) dX3_citations_103 kX3_copies q2787 (t_copies hm (by decide) (by decide) (by simp only [szF]; omega) (by simp only [szF]; omega) (by first | omega | (simp only [e0]; omega))) (Nat.le_refl _) (Nat.le_of_ble_eq_true rfl) rfl rfl (Nat.le_of_ble_eq_true rfl) (fun _ _ q => q.elim) (fun _ _ hq => go_V hq (fun h hm1 => ?_))
                have hm := hm.tr hm1
                have hE3 := ct_back e0 hE hO
                refine r_iload (pc := 106) dX3_citations_106 rfl ?_
                refine r_if_eq (pc := 108) (tgt := 119) dX3_citations_108 (by decide) (by decide) (fun _ => ?_) (fun q => absurd (by decide) q)
                refine r_iload_n (pc := 119) dX3_citations_119 rfl ?_
                exact e_retY (pc := 120) dX3_citations_120 rfl hm hE3 (by unfold zCit; rw [if_neg (by omega), hC]; first | exact (if_pos (by show 0 < fA R a 2; omega)).symm | exact (if_neg (by show ¬ 0 < fA R a 2; omega)).symm) (by congr 1; unfold kCit; rw [if_neg (by omega), hC]; first | exact (if_pos (by show 0 < fA R a 2; omega)).symm | exact (if_neg (by show ¬ 0 < fA R a 2; omega)).symm)
              · refine r_iconst (pc := 86) dX3_citations_86 ?_
                refine r_goto (pc := 87) (tgt := 91) dX3_citations_87 (by decide) ?_
                have hC : ctR (T9 0) a = (R, c) := ct_f (by omega) hk (by omega)
                refine r_istore (pc := 91) (L' := [_, _, _, _, _]) dX3_citations_91 rfl ?_
                refine r_aload_n (pc := 93) dX3_citations_93 rfl ?_
                refine gX3_16 (pc := 94) dX3_citations_94 hm.1.1 rfl ?_
                refine r_iconst (pc := 97) dX3_citations_97 ?_
                refine r_aload_n (pc := 98) dX3_citations_98 rfl ?_
                refine gX3_7 (pc := 99) dX3_citations_99 hm.1.1 rfl ?_
                refine r_iconst (pc := 102) dX3_citations_102 ?_
                refine r_callS (pc := 103) (kb' := 0) dX3_citations_103 kX3_copies q2787 (t_copies hm (by decide) (by decide) (by simp only [szF]; omega) (by simp only [szF]; omega) (by first | omega | (simp only [e0]; omega))) (Nat.le_refl _) (Nat.le_of_ble_eq_true rfl) rfl rfl (Nat.le_of_ble_eq_true rfl) (fun _ _ q => q.elim) (fun _ _ hq => go_V hq (fun h hm1 => ?_))
                have hm := hm.tr hm1
                have hE3 := ct_back e0 hE hO
                refine r_iload (pc := 106) dX3_citations_106 rfl ?_
                refine r_if_eq (pc := 108) (tgt := 119) dX3_citations_108 (by decide) (by decide) (fun q => absurd q (by decide)) (fun _ => ?_)
                refine r_aload_n (pc := 111) dX3_citations_111 rfl ?_
                refine r_iconst (pc := 112) dX3_citations_112 ?_
                refine r_callV (pc := 113) (kb' := 0) dX3_citations_113 kX3_no q2823 (t_no hm (by first | omega | (simp only [e0]; omega))) hm.1.1 rfl (Nat.le_refl _) (Nat.le_of_ble_eq_true rfl) rfl rfl (Nat.le_of_ble_eq_true rfl) (fun _ _ q => q.elim) (fun _ _ hq => go_T hq (fun h hm1 => ?_))
                have hm := hm.tr hm1
                have hE3 := hE3.put (k := 5) (i := 0) (z := 2)
                rw [sT_sT] at hE3
                refine r_goto (pc := 116) (tgt := 120) dX3_citations_116 (by decide) ?_
                exact e_retY (pc := 120) dX3_citations_120 rfl hm hE3 (by unfold zCit; rw [if_neg (by omega), hC]; first | exact (if_pos (by show 0 < fA R a 2; omega)).symm | exact (if_neg (by show ¬ 0 < fA R a 2; omega)).symm) (by congr 1; unfold kCit; rw [if_neg (by omega), hC]; first | exact (if_pos (by show 0 < fA R a 2; omega)).symm | exact (if_neg (by show ¬ 0 < fA R a 2; omega)).symm)
            · have hw := bfZ_in (a := a) hI (by omega)
              have hle : ciN R (bfZ R a) a ≤ fA R a 2 := (by unfold ciN leZ; split <;> omega)
              have hci := ci_k (r := R) (a := a) hw.1 (by omega) (by omega)
              refine r_aload_n (pc := 60) dX3_citations_60 rfl ?_
              refine r_aload_n (pc := 61) dX3_citations_61 rfl ?_
              refine r_iload_n (pc := 62) dX3_citations_62 rfl ?_
              refine r_callV (pc := 63) (kb' := 0) dX3_citations_63 kX3_bestFor q3072 (t_bestFor hm (by rw [e0]; exact hI) (by first | omega | (simp only [e0]; omega))) hm.1.1 rfl (Nat.le_refl _) (Nat.le_of_ble_eq_true rfl) rfl rfl (Nat.le_of_ble_eq_true rfl) (fun _ _ q => q.elim) (fun _ _ hq => go_X hq ?_)
              try simp only [e0]
              intro T h hE1 hm1
              have e0 := hE1.z.trans e0
              have hm := hm.tr hm1
              have hE := hE1.tr hE
              try simp only [e0]
              refine r_iload_n (pc := 66) dX3_citations_66 rfl ?_
              refine r_callV (pc := 67) (kb' := 0) dX3_citations_67 kX3_cites q2945 (t_cites hm (by rw [e0]; exact hI) (by rw [e0]; omega) (by rw [e0]; omega)) hm.1.1 rfl (Nat.le_refl _) (Nat.le_of_ble_eq_true rfl) rfl rfl (Nat.le_of_ble_eq_true rfl) (fun _ _ q => q.elim) (fun _ _ hq => go_T hq (fun h hm1 => ?_))
              have hm := hm.tr hm1
              simp only [e0] at hm ⊢
              obtain ⟨T, e0, hE, hm⟩ := E2.genU hE hm
              refine r_istore_n (pc := 70) (L' := [_, _, _, _, _]) dX3_citations_70 rfl ?_
              refine r_iinc (pc := 71) (L' := [_, _, _, _, _]) dX3_citations_71 rfl rfl ?_
              refine r_goto (pc := 74) (tgt := 43) dX3_citations_74 (by decide) ?_
              exact ih43 _ _ _ _ _ _ hm (ct_t (by omega) hk (by omega) (by omega)) (by rw [ci_k hw.1 (by omega) (by omega)]; omega) (by rw [ci_k hw.1 (by omega) (by omega), ci_o hw.1 (by omega) (by omega) (by omega) (by omega) (by omega) (by omega) (by omega) (by omega)]; omega) (RI_ci hI hw.1 hw.2.1 hw.2.2.1 hw.2.2.2.1) e0 hE (fun j hj => (ci_o hw.1 (by omega) (by omega) (by omega) (by omega) (by omega) (by omega) (by omega) (by omega)).trans (hO j hj)) (by omega)
      exact loop43 10 _ _ _ _ _ _ hm rfl (by omega) (by omega) hI e0 (by first | exact hE | (exfalso; omega)) (fun _ _ => rfl) (by omega)
    · refine r_iconst (pc := 24) dX3_citations_24 ?_
      exact e_retY (pc := 25) dX3_citations_25 rfl hm hE.to3 (show zCit (T9 0) a = 0 from if_pos (by omega)).symm (by first | (exfalso; omega) | (congr 1; exact (show kCit (T9 0) a = 1 from if_pos (by omega)).symm))
  · refine r_iconst (pc := 9) dX3_citations_9 ?_
    refine r_goto (pc := 10) (tgt := 14) dX3_citations_10 (by decide) ?_
    refine pX3_25 (pc := 14) dX3_citations_14 hm.1.1 (by decide) (Nat.le_of_ble_eq_true rfl) ?_
    refine t_put 5 rfl hm (by first | omega | exact rfB_in _ | exact nz_in _ | exact hm.r _ _) (fun h hm => ?_)
    obtain ⟨T, e0, hE, hm⟩ := E2.gen e0 hE hm (by decide)
    refine r_aload_n (pc := 17) dX3_citations_17 rfl ?_
    refine gX3_25 (pc := 18) dX3_citations_18 hm.1.1 rfl ?_; have r18 := hm.r 5 0
    refine go_nm (fun z18 e18 => ?_)
    have r18 := InR_of e18 r18
    rw [hE 5 (by decide) (by decide)] at e18; simp only [sT_s] at e18
    refine r_if_le (pc := 21) (tgt := 26) dX3_citations_21 (by decide) (by first | omega | exact rfB_in _ | exact nz_in _ | exact hm.r _ _) (fun c21 => ?_) (fun c21 => ?_)
    · refine r_aload_n (pc := 26) dX3_citations_26 rfl ?_
      refine gX3_7 (pc := 27) dX3_citations_27 hm.1.1 rfl ?_
      refine r_iconst (pc := 30) dX3_citations_30 ?_
      refine r_aload_n (pc := 31) dX3_citations_31 rfl ?_
      refine gX3_16 (pc := 32) dX3_citations_32 hm.1.1 rfl ?_
      refine r_iconst (pc := 35) dX3_citations_35 ?_
      refine r_callS (pc := 36) (kb' := 0) dX3_citations_36 kX3_copies q2787 (t_copies hm (by decide) (by decide) (by simp only [szF]; omega) (by simp only [szF]; omega) (by first | omega | (simp only [e0]; omega))) (Nat.le_refl _) (Nat.le_of_ble_eq_true rfl) rfl rfl (Nat.le_of_ble_eq_true rfl) (fun _ _ q => q.elim) (fun _ _ hq => go_V hq (fun h hm1 => ?_))
      have hm := hm.tr hm1
      obtain ⟨T, e0, hE, hm⟩ := E2.genC e0 hE hm
      refine r_iconst (pc := 39) dX3_citations_39 ?_
      have ho := hI.2.1 a (by omega) (by omega)
      unfold artOk at ho
      refine r_istore_n (pc := 40) (L' := [_, _, _, _, _]) dX3_citations_40 rfl ?_
      refine r_iconst (pc := 41) dX3_citations_41 ?_
      refine r_istore_n (pc := 42) (L' := [_, _, _, _, _]) dX3_citations_42 rfl ?_
      have loop43 : ∀ (n : Nat) (R : Row) (f : Nat) (c u : Int) (h : Hp) (T : TM), TI m ad h9 T h → ctR (T9 0) a = ctS a f R c → fA R a 2 < f → (R 0 = T9 0 0 ∧ 0 ≤ c ∧ 0 ≤ fA R a 2 ∧ c + fA R a 2 ≤ 9 ∧ 0 < f) → RI R → T 0 = R → E2 T (uT (cpT (sT T9 5 0 0) 0 0 2 0) R) → (∀ j, ¬ (0 ≤ j ∧ j < 140) → R j = T9 0 j) → fA R a 2 < n → Go G eM cX3_citations (5, some .int, "citations", []) 7 0 (RY m ad h9 (zCit (T9 0) a) (sT T9 5 0 (kCit (T9 0) a))) noX 0 h 43 [some (.ref m), some (.int (iZ a)), some (.int (iZ c)), some (.int (iZ u)), none] [] := by
        intro n
        induction n with
        | zero => intro R f c u h T hm hk hf hg hI e0 hE hO hn; omega
        | succ n ih43 =>
          intro R f c u h T hm hk hf hg hI e0 hE hO hn
          have hbR := hI.1
          have hoR := hI.2.1 a (by omega) (by omega)
          unfold artOk at hoR
          have xx : InR (bfZ R a) := (by have := bf_in (r := R) (a := a) (R 2).toNat; rw [show bfS R a (R 2).toNat = bfZ R a from rfl] at this; omega)
          refine r_aload_n (pc := 43) dX3_citations_43 rfl ?_
          refine r_iload_n (pc := 44) dX3_citations_44 rfl ?_
          refine r_iconst (pc := 45) dX3_citations_45 ?_
          refine r_callV (pc := 46) (kb' := 0) dX3_citations_46 kX3_av q2815 (t_av hm (by first | omega | (simp only [e0]; omega)) (by first | omega | (simp only [e0]; omega))) hm.1.1 rfl (Nat.le_refl _) (Nat.le_of_ble_eq_true rfl) rfl rfl (Nat.le_of_ble_eq_true rfl) (fun _ _ q => q.elim) (fun _ _ hq => go_E hq ?_)
          try simp only [e0]
          refine r_if_le (pc := 49) (tgt := 77) dX3_citations_49 (by decide) (by first | omega | exact rfB_in _ | exact nz_in _ | exact hm.r _ _) (fun c49 => ?_) (fun c49 => ?_)
          · refine r_aload_n (pc := 77) dX3_citations_77 rfl ?_
            refine r_iload_n (pc := 78) dX3_citations_78 rfl ?_
            refine r_iconst (pc := 79) dX3_citations_79 ?_
            refine r_callV (pc := 80) (kb' := 0) dX3_citations_80 kX3_av q2815 (t_av hm (by first | omega | (simp only [e0]; omega)) (by first | omega | (simp only [e0]; omega))) hm.1.1 rfl (Nat.le_refl _) (Nat.le_of_ble_eq_true rfl) rfl rfl (Nat.le_of_ble_eq_true rfl) (fun _ _ q => q.elim) (fun _ _ hq => go_E hq ?_)
            try simp only [e0]
            refine r_if_le (pc := 83) (tgt := 90) dX3_citations_83 (by decide) (by first | omega | exact rfB_in _ | exact nz_in _ | exact hm.r _ _) (fun c83 => ?_) (fun c83 => ?_)
            · refine r_iconst (pc := 90) dX3_citations_90 ?_
              have hC : ctR (T9 0) a = (R, c) := ct_f (by omega) hk (by omega)
              refine r_istore (pc := 91) (L' := [_, _, _, _, _]) dX3_citations_91 rfl ?_
              refine r_aload_n (pc := 93) dX3_citations_93 rfl ?_
              refine gX3_16 (pc := 94) dX3_citations_94 hm.1.1 rfl ?_
              refine r_iconst (pc := 97) dX3_citations_97 ?_
              refine r_aload_n (pc := 98) dX3_citations_98 rfl ?_
              refine gX3_7 (pc := 99) dX3_citations_99 hm.1.1 rfl ?_
              refine r_iconst (pc := 102) dX3_citations_102 ?_
              refine r_callS (pc := 103) (kb' := 0) dX3_citations_103 kX3_copies q2787 (t_copies hm (by decide) (by decide) (by simp only [szF]; omega) (by simp only [szF]; omega) (by first | omega | (simp only [e0]; omega))) (Nat.le_refl _) (Nat.le_of_ble_eq_true rfl) rfl rfl (Nat.le_of_ble_eq_true rfl) (fun _ _ q => q.elim) (fun _ _ hq => go_V hq (fun h hm1 => ?_))
              have hm := hm.tr hm1
              have hE3 := ct_back e0 hE hO
              refine r_iload (pc := 106) dX3_citations_106 rfl ?_
              refine r_if_eq (pc := 108) (tgt := 119) dX3_citations_108 (by decide) (by decide) (fun _ => ?_) (fun q => absurd (by decide) q)
              refine r_iload_n (pc := 119) dX3_citations_119 rfl ?_
              exact e_retY (pc := 120) dX3_citations_120 rfl hm hE3 (by unfold zCit; rw [if_neg (by omega), hC]; first | exact (if_pos (by show 0 < fA R a 2; omega)).symm | exact (if_neg (by show ¬ 0 < fA R a 2; omega)).symm) (by congr 1; unfold kCit; rw [if_neg (by omega), hC]; first | exact (if_pos (by show 0 < fA R a 2; omega)).symm | exact (if_neg (by show ¬ 0 < fA R a 2; omega)).symm)
            · refine r_iconst (pc := 86) dX3_citations_86 ?_
              refine r_goto (pc := 87) (tgt := 91) dX3_citations_87 (by decide) ?_
              have hC : ctR (T9 0) a = (R, c) := ct_f (by omega) hk (by omega)
              refine r_istore (pc := 91) (L' := [_, _, _, _, _]) dX3_citations_91 rfl ?_
              refine r_aload_n (pc := 93) dX3_citations_93 rfl ?_
              refine gX3_16 (pc := 94) dX3_citations_94 hm.1.1 rfl ?_
              refine r_iconst (pc := 97) dX3_citations_97 ?_
              refine r_aload_n (pc := 98) dX3_citations_98 rfl ?_
              refine gX3_7 (pc := 99) dX3_citations_99 hm.1.1 rfl ?_
              refine r_iconst (pc := 102) dX3_citations_102 ?_
              refine r_callS (pc := 103) (kb' := 0) dX3_citations_103 kX3_copies q2787 (t_copies hm (by decide) (by decide) (by simp only [szF]; omega) (by simp only [szF]; omega) (by first | omega | (simp only [e0]; omega))) (Nat.le_refl _) (Nat.le_of_ble_eq_true rfl) rfl rfl (Nat.le_of_ble_eq_true rfl) (fun _ _ q => q.elim) (fun _ _ hq => go_V hq (fun h hm1 => ?_))
              have hm := hm.tr hm1
              have hE3 := ct_back e0 hE hO
              refine r_iload (pc := 106) dX3_citations_106 rfl ?_
              refine r_if_eq (pc := 108) (tgt := 119) dX3_citations_108 (by decide) (by decide) (fun q => absurd q (by decide)) (fun _ => ?_)
              refine r_aload_n (pc := 111) dX3_citations_111 rfl ?_
              refine r_iconst (pc := 112) dX3_citations_112 ?_
              refine r_callV (pc := 113) (kb' := 0) dX3_citations_113 kX3_no q2823 (t_no hm (by first | omega | (simp only [e0]; omega))) hm.1.1 rfl (Nat.le_refl _) (Nat.le_of_ble_eq_true rfl) rfl rfl (Nat.le_of_ble_eq_true rfl) (fun _ _ q => q.elim) (fun _ _ hq => go_T hq (fun h hm1 => ?_))
              have hm := hm.tr hm1
              have hE3 := hE3.put (k := 5) (i := 0) (z := 2)
              rw [sT_sT] at hE3
              refine r_goto (pc := 116) (tgt := 120) dX3_citations_116 (by decide) ?_
              exact e_retY (pc := 120) dX3_citations_120 rfl hm hE3 (by unfold zCit; rw [if_neg (by omega), hC]; first | exact (if_pos (by show 0 < fA R a 2; omega)).symm | exact (if_neg (by show ¬ 0 < fA R a 2; omega)).symm) (by congr 1; unfold kCit; rw [if_neg (by omega), hC]; first | exact (if_pos (by show 0 < fA R a 2; omega)).symm | exact (if_neg (by show ¬ 0 < fA R a 2; omega)).symm)
          · refine r_aload_n (pc := 52) dX3_citations_52 rfl ?_
            refine r_iload_n (pc := 53) dX3_citations_53 rfl ?_
            refine r_callV (pc := 54) (kb' := 0) dX3_citations_54 kX3_bestFor q3072 (t_bestFor hm (by rw [e0]; exact hI) (by first | omega | (simp only [e0]; omega))) hm.1.1 rfl (Nat.le_refl _) (Nat.le_of_ble_eq_true rfl) rfl rfl (Nat.le_of_ble_eq_true rfl) (fun _ _ q => q.elim) (fun _ _ hq => go_X hq ?_)
            try simp only [e0]
            intro T h hE1 hm1
            have e0 := hE1.z.trans e0
            have hm := hm.tr hm1
            have hE := hE1.tr hE
            try simp only [e0]
            refine r_if_lt (pc := 57) (tgt := 77) dX3_citations_57 (by decide) (by first | omega | exact rfB_in _ | exact nz_in _ | exact hm.r _ _) (fun c57 => ?_) (fun c57 => ?_)
            · refine r_aload_n (pc := 77) dX3_citations_77 rfl ?_
              refine r_iload_n (pc := 78) dX3_citations_78 rfl ?_
              refine r_iconst (pc := 79) dX3_citations_79 ?_
              refine r_callV (pc := 80) (kb' := 0) dX3_citations_80 kX3_av q2815 (t_av hm (by first | omega | (simp only [e0]; omega)) (by first | omega | (simp only [e0]; omega))) hm.1.1 rfl (Nat.le_refl _) (Nat.le_of_ble_eq_true rfl) rfl rfl (Nat.le_of_ble_eq_true rfl) (fun _ _ q => q.elim) (fun _ _ hq => go_E hq ?_)
              try simp only [e0]
              refine r_if_le (pc := 83) (tgt := 90) dX3_citations_83 (by decide) (by first | omega | exact rfB_in _ | exact nz_in _ | exact hm.r _ _) (fun c83 => ?_) (fun c83 => ?_)
              · refine r_iconst (pc := 90) dX3_citations_90 ?_
                have hC : ctR (T9 0) a = (R, c) := ct_f (by omega) hk (by omega)
                refine r_istore (pc := 91) (L' := [_, _, _, _, _]) dX3_citations_91 rfl ?_
                refine r_aload_n (pc := 93) dX3_citations_93 rfl ?_
                refine gX3_16 (pc := 94) dX3_citations_94 hm.1.1 rfl ?_
                refine r_iconst (pc := 97) dX3_citations_97 ?_
                refine r_aload_n (pc := 98) dX3_citations_98 rfl ?_
                refine gX3_7 (pc := 99) dX3_citations_99 hm.1.1 rfl ?_
                refine r_iconst (pc := 102) dX3_citations_102 ?_
                refine r_callS (pc := 103) (kb' := 0) dX3_citations_103 kX3_copies q2787 (t_copies hm (by decide) (by decide) (by simp only [szF]; omega) (by simp only [szF]; omega) (by first | omega | (simp only [e0]; omega))) (Nat.le_refl _) (Nat.le_of_ble_eq_true rfl) rfl rfl (Nat.le_of_ble_eq_true rfl) (fun _ _ q => q.elim) (fun _ _ hq => go_V hq (fun h hm1 => ?_))
                have hm := hm.tr hm1
                have hE3 := ct_back e0 hE hO
                refine r_iload (pc := 106) dX3_citations_106 rfl ?_
                refine r_if_eq (pc := 108) (tgt := 119) dX3_citations_108 (by decide) (by decide) (fun _ => ?_) (fun q => absurd (by decide) q)
                refine r_iload_n (pc := 119) dX3_citations_119 rfl ?_
                exact e_retY (pc := 120) dX3_citations_120 rfl hm hE3 (by unfold zCit; rw [if_neg (by omega), hC]; first | exact (if_pos (by show 0 < fA R a 2; omega)).symm | exact (if_neg (by show ¬ 0 < fA R a 2; omega)).symm) (by congr 1; unfold kCit; rw [if_neg (by omega), hC]; first | exact (if_pos (by show 0 < fA R a 2; omega)).symm | exact (if_neg (by show ¬ 0 < fA R a 2; omega)).symm)
              · refine r_iconst (pc := 86) dX3_citations_86 ?_
                refine r_goto (pc := 87) (tgt := 91) dX3_citations_87 (by decide) ?_
                have hC : ctR (T9 0) a = (R, c) := ct_f (by omega) hk (by omega)
                refine r_istore (pc := 91) (L' := [_, _, _, _, _]) dX3_citations_91 rfl ?_
                refine r_aload_n (pc := 93) dX3_citations_93 rfl ?_
                refine gX3_16 (pc := 94) dX3_citations_94 hm.1.1 rfl ?_
                refine r_iconst (pc := 97) dX3_citations_97 ?_
                refine r_aload_n (pc := 98) dX3_citations_98 rfl ?_
                refine gX3_7 (pc := 99) dX3_citations_99 hm.1.1 rfl ?_
                refine r_iconst (pc := 102) dX3_citations_102 ?_
                refine r_callS (pc := 103) (kb' := 0) dX3_citations_103 kX3_copies q2787 (t_copies hm (by decide) (by decide) (by simp only [szF]; omega) (by simp only [szF]; omega) (by first | omega | (simp only [e0]; omega))) (Nat.le_refl _) (Nat.le_of_ble_eq_true rfl) rfl rfl (Nat.le_of_ble_eq_true rfl) (fun _ _ q => q.elim) (fun _ _ hq => go_V hq (fun h hm1 => ?_))
                have hm := hm.tr hm1
                have hE3 := ct_back e0 hE hO
                refine r_iload (pc := 106) dX3_citations_106 rfl ?_
                refine r_if_eq (pc := 108) (tgt := 119) dX3_citations_108 (by decide) (by decide) (fun q => absurd q (by decide)) (fun _ => ?_)
                refine r_aload_n (pc := 111) dX3_citations_111 rfl ?_
                refine r_iconst (pc := 112) dX3_citations_112 ?_
                refine r_callV (pc := 113) (kb' := 0) dX3_citations_113 kX3_no q2823 (t_no hm (by first | omega | (simp only [e0]; omega))) hm.1.1 rfl (Nat.le_refl _) (Nat.le_of_ble_eq_true rfl) rfl rfl (Nat.le_of_ble_eq_true rfl) (fun _ _ q => q.elim) (fun _ _ hq => go_T hq (fun h hm1 => ?_))
                have hm := hm.tr hm1
                have hE3 := hE3.put (k := 5) (i := 0) (z := 2)
                rw [sT_sT] at hE3
                refine r_goto (pc := 116) (tgt := 120) dX3_citations_116 (by decide) ?_
                exact e_retY (pc := 120) dX3_citations_120 rfl hm hE3 (by unfold zCit; rw [if_neg (by omega), hC]; first | exact (if_pos (by show 0 < fA R a 2; omega)).symm | exact (if_neg (by show ¬ 0 < fA R a 2; omega)).symm) (by congr 1; unfold kCit; rw [if_neg (by omega), hC]; first | exact (if_pos (by show 0 < fA R a 2; omega)).symm | exact (if_neg (by show ¬ 0 < fA R a 2; omega)).symm)
            · have hw := bfZ_in (a := a) hI (by omega)
              have hle : ciN R (bfZ R a) a ≤ fA R a 2 := (by unfold ciN leZ; split <;> omega)
              have hci := ci_k (r := R) (a := a) hw.1 (by omega) (by omega)
              refine r_aload_n (pc := 60) dX3_citations_60 rfl ?_
              refine r_aload_n (pc := 61) dX3_citations_61 rfl ?_
              refine r_iload_n (pc := 62) dX3_citations_62 rfl ?_
              refine r_callV (pc := 63) (kb' := 0) dX3_citations_63 kX3_bestFor q3072 (t_bestFor hm (by rw [e0]; exact hI) (by first | omega | (simp only [e0]; omega))) hm.1.1 rfl (Nat.le_refl _) (Nat.le_of_ble_eq_true rfl) rfl rfl (Nat.le_of_ble_eq_true rfl) (fun _ _ q => q.elim) (fun _ _ hq => go_X hq ?_)
              try simp only [e0]
              intro T h hE1 hm1
              have e0 := hE1.z.trans e0
              have hm := hm.tr hm1
              have hE := hE1.tr hE
              try simp only [e0]
              refine r_iload_n (pc := 66) dX3_citations_66 rfl ?_
              refine r_callV (pc := 67) (kb' := 0) dX3_citations_67 kX3_cites q2945 (t_cites hm (by rw [e0]; exact hI) (by rw [e0]; omega) (by rw [e0]; omega)) hm.1.1 rfl (Nat.le_refl _) (Nat.le_of_ble_eq_true rfl) rfl rfl (Nat.le_of_ble_eq_true rfl) (fun _ _ q => q.elim) (fun _ _ hq => go_T hq (fun h hm1 => ?_))
              have hm := hm.tr hm1
              simp only [e0] at hm ⊢
              obtain ⟨T, e0, hE, hm⟩ := E2.genU hE hm
              refine r_istore_n (pc := 70) (L' := [_, _, _, _, _]) dX3_citations_70 rfl ?_
              refine r_iinc (pc := 71) (L' := [_, _, _, _, _]) dX3_citations_71 rfl rfl ?_
              refine r_goto (pc := 74) (tgt := 43) dX3_citations_74 (by decide) ?_
              exact ih43 _ _ _ _ _ _ hm (ct_t (by omega) hk (by omega) (by omega)) (by rw [ci_k hw.1 (by omega) (by omega)]; omega) (by rw [ci_k hw.1 (by omega) (by omega), ci_o hw.1 (by omega) (by omega) (by omega) (by omega) (by omega) (by omega) (by omega) (by omega)]; omega) (RI_ci hI hw.1 hw.2.1 hw.2.2.1 hw.2.2.2.1) e0 hE (fun j hj => (ci_o hw.1 (by omega) (by omega) (by omega) (by omega) (by omega) (by omega) (by omega) (by omega)).trans (hO j hj)) (by omega)
      exact loop43 10 _ _ _ _ _ _ hm rfl (by omega) (by omega) hI e0 (by first | exact hE | (exfalso; omega)) (fun _ _ => rfl) (by omega)
    · refine r_iconst (pc := 24) dX3_citations_24 ?_
      exact e_retY (pc := 25) dX3_citations_25 rfl hm hE.to3 (show zCit (T9 0) a = 0 from if_pos (by omega)).symm (by first | (exfalso; omega) | (congr 1; exact (show kCit (T9 0) a = 1 from if_pos (by omega)).symm))
