set_option maxRecDepth 100000
theorem t_goes {G : Gl} {m : Nat} {ad : Nat → Nat} {h0 h9 : Hp} {T9 : TM} (hm : TI m ad h0 T9 h9) {a : Int} (hI : RI (T9 0)) (ha : 0 ≤ a ∧ a < T9 0 0) : Ct G 2 0 yX3_goes (Cond.code yX3_goes cX3_goes 4 (none)) [.ref m, .int (iZ a)] h9 (RV m ad h9 (uT T9 (goR (T9 0) a))) noX := by
  have hm := hm.nw
  have hb := hI.1
  refine Ct.of (own := eM) (nm := "goes") (by decide +kernel) rfl rfl (L := [some (.ref m), some (.int (iZ a)), none, none]) rfl (Nat.le_of_ble_eq_true rfl) rfl ?_
  refine r_aload_n (pc := 0) dX3_goes_0 rfl ?_
  refine gX3_7 (pc := 1) dX3_goes_1 hm.1.1 rfl ?_
  refine r_iconst (pc := 4) dX3_goes_4 ?_
  refine r_dup2 (pc := 5) dX3_goes_5 rfl rfl ?_
  refine t_iald (pc := 6) (lim := 140) 0 dX3_goes_6 hm (by decide) rfl (by first | omega | exact rfB_in _ | exact nz_in _ | exact hm.r _ _) (fun r6 => ?_)
  refine go_nm (fun z6 e6 => ?_)
  have r6 := InR_of e6 r6
  refine r_iconst (pc := 7) dX3_goes_7 ?_
  refine r_isub (pc := 8) dX3_goes_8 ?_
  refine t_iast (pc := 9) (lim := 140) 0 dX3_goes_9 hm (by decide) rfl (by first | omega | exact rfB_in _ | exact nz_in _ | exact hm.r _ _) (by first | omega | exact rfB_in _ | exact nz_in _ | exact hm.r _ _) (fun h hm => ?_)
  refine r_aload_n (pc := 10) dX3_goes_10 rfl ?_
  refine gX3_7 (pc := 11) dX3_goes_11 hm.1.1 rfl ?_
  refine r_iconst (pc := 14) dX3_goes_14 ?_
  refine t_iald (pc := 15) (lim := 140) 0 dX3_goes_15 hm (by decide) rfl (by first | omega | exact rfB_in _ | exact nz_in _ | exact hm.r _ _) (fun r15 => ?_)
  refine go_nm (fun z15 e15 => ?_)
  have r15 := InR_of e15 r15
  try simp [sT, cpT, cpN] at e15
  refine r_istore_n (pc := 16) (L' := [_, _, _, _]) dX3_goes_16 rfl ?_
  refine r_bipush (pc := 17) dX3_goes_17 (by decide) ?_
  refine r_bipush (pc := 19) dX3_goes_19 (by decide) ?_
  refine r_iload_n (pc := 21) dX3_goes_21 rfl ?_
  refine r_imul (pc := 22) dX3_goes_22 ?_
  refine r_iadd (pc := 23) dX3_goes_23 ?_
  refine r_istore_n (pc := 24) (L' := [_, _, _, _]) dX3_goes_24 rfl ?_
  have loop25 : ∀ (n : Nat) (z : Int) (h : Hp) (T : TM), TI m ad h9 T h → (56 + 6 * a ≤ z ∧ z ≤ 56 + 6 * (T9 0 0 - 1)) → T = g1T T9 a z → 200 - z < n → Go G eM cX3_goes (4, none, "goes", []) 2 0 (RV m ad h9 (uT T9 (goR (T9 0) a))) noX 0 h 25 [some (.ref m), some (.int (iZ a)), some (.int (iZ (T9 0 0 - 1))), some (.int (iZ z))] [] := by
    intro n
    induction n with
    | zero => intro z h T hm hz hT hn; omega
    | succ n ih25 =>
      intro z h T hm hz hT hn
      refine r_iload_n (pc := 25) dX3_goes_25 rfl ?_
      refine r_bipush (pc := 26) dX3_goes_26 (by decide) ?_
      refine r_bipush (pc := 28) dX3_goes_28 (by decide) ?_
      refine r_iload_n (pc := 30) dX3_goes_30 rfl ?_
      refine r_imul (pc := 31) dX3_goes_31 ?_
      refine r_iadd (pc := 32) dX3_goes_32 ?_
      refine r_icmp_ge (pc := 33) (tgt := 57) dX3_goes_33 (by decide) (by first | omega | exact rfB_in _ | exact nz_in _ | exact hm.r _ _) (by first | omega | exact rfB_in _ | exact nz_in _ | exact hm.r _ _) (fun c33 => ?_) (fun c33 => ?_)
      · refine r_iconst (pc := 57) dX3_goes_57 ?_
        refine r_istore_n (pc := 58) (L' := [_, _, _, _]) dX3_goes_58 rfl ?_
        have loop59 : ∀ (n : Nat) (w : Int) (h : Hp) (T : TM), TI m ad h9 T h → (0 ≤ w ∧ w ≤ 6) → T = g2T T9 a w → 6 - w < n → Go G eM cX3_goes (4, none, "goes", []) 2 0 (RV m ad h9 (uT T9 (goR (T9 0) a))) noX 0 h 59 [some (.ref m), some (.int (iZ a)), some (.int (iZ (T9 0 0 - 1))), some (.int (iZ w))] [] := by
          intro n
          induction n with
          | zero => intro w h T hm hw hT2 hn; omega
          | succ n ih59 =>
            intro w h T hm hw hT2 hn
            refine r_iload_n (pc := 59) dX3_goes_59 rfl ?_
            refine r_bipush (pc := 60) dX3_goes_60 (by decide) ?_
            refine r_icmp_ge (pc := 62) (tgt := 78) dX3_goes_62 (by decide) (by first | omega | exact rfB_in _ | exact nz_in _ | exact hm.r _ _) (by first | omega | exact rfB_in _ | exact nz_in _ | exact hm.r _ _) (fun c62 => ?_) (fun c62 => ?_)
            · refine r_iconst (pc := 78) dX3_goes_78 ?_
              refine r_istore_n (pc := 79) (L' := [_, _, _, _]) dX3_goes_79 rfl ?_
              have loop80 : ∀ (n : Nat) (v : Int) (h : Hp) (T : TM), TI m ad h9 T h → (0 ≤ v ∧ v ≤ T9 0 1) → T = g3T T9 a v → T 0 1 = T9 0 1 → T9 0 1 - v < n → Go G eM cX3_goes (4, none, "goes", []) 2 0 (RV m ad h9 (uT T9 (goR (T9 0) a))) noX 0 h 80 [some (.ref m), some (.int (iZ a)), some (.int (iZ (T9 0 0 - 1))), some (.int (iZ v))] [] := by
                intro n
                induction n with
                | zero => intro v h T hm hv hT h1 hn; omega
                | succ n ih80 =>
                  intro v h T hm hv hT h1 hn
                  refine r_iload_n (pc := 80) dX3_goes_80 rfl ?_
                  refine r_aload_n (pc := 81) dX3_goes_81 rfl ?_
                  refine gX3_7 (pc := 82) dX3_goes_82 hm.1.1 rfl ?_
                  refine r_iconst (pc := 85) dX3_goes_85 ?_
                  refine t_iald (pc := 86) (lim := 140) 0 dX3_goes_86 hm (by decide) rfl (by first | omega | exact rfB_in _ | exact nz_in _ | exact hm.r _ _) (fun r86 => ?_)
                  refine r_icmp_ge (pc := 87) (tgt := 126) dX3_goes_87 (by decide) (by first | omega | exact rfB_in _ | exact nz_in _ | exact hm.r _ _) (by first | omega | exact rfB_in _ | exact nz_in _ | exact hm.r _ _) (fun c87 => ?_) (fun c87 => ?_)
                  · exact e_vret (pc := 126) dX3_goes_126 rfl hm (by rw [hT, show v = T9 0 1 by omega]; exact (by funext k j; simp only [g3T, g2T, zrT, g1T, uT, goR]; (repeat' split) <;> (subst_vars; first | rfl | omega | (congr 1; omega) | (simp_all; done) | (simp_all; omega))))
                  · refine r_aload_n (pc := 90) dX3_goes_90 rfl ?_
                    refine gX3_7 (pc := 91) dX3_goes_91 hm.1.1 rfl ?_
                    refine r_bipush (pc := 94) dX3_goes_94 (by decide) ?_
                    refine r_iload_n (pc := 96) dX3_goes_96 rfl ?_
                    refine r_iadd (pc := 97) dX3_goes_97 ?_
                    refine r_dup2 (pc := 98) dX3_goes_98 rfl rfl ?_
                    refine t_iald (pc := 99) (lim := 140) 0 dX3_goes_99 hm (by decide) rfl (by first | omega | exact rfB_in _ | exact nz_in _ | exact hm.r _ _) (fun r99 => ?_)
                    refine go_nm (fun z99 e99 => ?_)
                    have r99 := InR_of e99 r99
                    rw [hT, g3_at ha.1 ha.2 (by omega) (by omega)] at e99
                    refine r_aload_n (pc := 100) dX3_goes_100 rfl ?_
                    refine gX3_7 (pc := 101) dX3_goes_101 hm.1.1 rfl ?_
                    refine r_bipush (pc := 104) dX3_goes_104 (by decide) ?_
                    refine r_iload_n (pc := 106) dX3_goes_106 rfl ?_
                    refine r_iadd (pc := 107) dX3_goes_107 ?_
                    refine t_iald (pc := 108) (lim := 140) 0 dX3_goes_108 hm (by decide) rfl (by first | omega | exact rfB_in _ | exact nz_in _ | exact hm.r _ _) (fun r108 => ?_)
                    refine go_nm (fun z108 e108 => ?_)
                    have r108 := InR_of e108 r108
                    rw [hT, g3_at ha.1 ha.2 (by omega) (by omega)] at e108
                    refine r_iload_n (pc := 109) dX3_goes_109 rfl ?_
                    refine r_icmp_le (pc := 110) (tgt := 117) dX3_goes_110 (by decide) (by first | omega | exact rfB_in _ | exact nz_in _ | exact hm.r _ _) (by first | omega | exact rfB_in _ | exact nz_in _ | exact hm.r _ _) (fun c110 => ?_) (fun c110 => ?_)
                    · refine r_iconst (pc := 117) dX3_goes_117 ?_
                      refine r_isub (pc := 118) dX3_goes_118 ?_
                      refine t_iast (pc := 119) (lim := 140) 0 dX3_goes_119 hm (by decide) rfl (by first | omega | exact rfB_in _ | exact nz_in _ | exact hm.r _ _) (by first | omega | exact rfB_in _ | exact nz_in _ | exact hm.r _ _) (fun h hm => ?_)
                      refine r_iinc (pc := 120) (L' := [_, _, _, _]) dX3_goes_120 rfl rfl ?_
                      refine r_goto (pc := 123) (tgt := 80) dX3_goes_123 (by decide) ?_
                      exact ih80 _ _ _ hm (by omega) (by rw [e99, hT]; exact (by funext k j; simp only [g3T, g2T, zrT, g1T, sT]; (repeat' split) <;> (subst_vars; first | rfl | omega | (congr 1; omega) | (simp_all; done) | (simp_all; omega)))) (by rw [← h1]; exact sT_i (by omega)) (by omega)
                    · refine r_iconst (pc := 113) dX3_goes_113 ?_
                      refine r_goto (pc := 114) (tgt := 118) dX3_goes_114 (by decide) ?_
                      refine r_isub (pc := 118) dX3_goes_118 ?_
                      refine t_iast (pc := 119) (lim := 140) 0 dX3_goes_119 hm (by decide) rfl (by first | omega | exact rfB_in _ | exact nz_in _ | exact hm.r _ _) (by first | omega | exact rfB_in _ | exact nz_in _ | exact hm.r _ _) (fun h hm => ?_)
                      refine r_iinc (pc := 120) (L' := [_, _, _, _]) dX3_goes_120 rfl rfl ?_
                      refine r_goto (pc := 123) (tgt := 80) dX3_goes_123 (by decide) ?_
                      exact ih80 _ _ _ hm (by omega) (by rw [e99, hT]; exact (by funext k j; simp only [g3T, g2T, zrT, g1T, sT]; (repeat' split) <;> (subst_vars; first | rfl | omega | (congr 1; omega) | (simp_all; done) | (simp_all; omega)))) (by rw [← h1]; exact sT_i (by omega)) (by omega)
              exact loop80 13 _ _ _ hm (by omega) (by rw [hT2, show w = 6 by omega]; exact (by funext k j; simp only [g3T]; (repeat' split) <;> (subst_vars; first | rfl | omega | (congr 1; omega) | (simp_all; done) | (simp_all; omega)))) (by rw [hT2]; exact g2_at ha.1 ha.2 (by omega)) (by omega)
            · refine r_aload_n (pc := 65) dX3_goes_65 rfl ?_
              refine r_iload_n (pc := 66) dX3_goes_66 rfl ?_
              refine r_iload_n (pc := 67) dX3_goes_67 rfl ?_
              refine r_iconst (pc := 68) dX3_goes_68 ?_
              refine r_callV (pc := 69) (kb' := 0) dX3_goes_69 kX3_la q2831 (t_la hm (by omega) (by omega) (by omega)) hm.1.1 rfl (Nat.le_refl _) (Nat.le_of_ble_eq_true rfl) rfl rfl (Nat.le_of_ble_eq_true rfl) (fun _ _ q => q.elim) (fun _ _ hq => go_V hq (fun h hm1 => ?_))
              have hm := hm.tr hm1
              refine r_iinc (pc := 72) (L' := [_, _, _, _]) dX3_goes_72 rfl rfl ?_
              refine r_goto (pc := 75) (tgt := 59) dX3_goes_75 (by decide) ?_
              exact ih59 _ _ _ hm (by omega) (by rw [hT2]; exact (by funext k j; simp only [g2T, zrT, sT]; (repeat' split) <;> (subst_vars; first | rfl | omega | (congr 1; omega) | (simp_all; done) | (simp_all; omega)))) (by omega)
        exact loop59 7 _ _ _ hm (by omega) (by rw [hT, show z = 56 + 6 * (T9 0 0 - 1) by omega]; exact (by funext k j; simp only [g2T, zrT]; (repeat' split) <;> (subst_vars; first | rfl | omega | (congr 1; omega) | (simp_all; done) | (simp_all; omega)))) (by omega)
      · refine r_aload_n (pc := 36) dX3_goes_36 rfl ?_
        refine gX3_7 (pc := 37) dX3_goes_37 hm.1.1 rfl ?_
        refine r_iload_n (pc := 40) dX3_goes_40 rfl ?_
        refine r_aload_n (pc := 41) dX3_goes_41 rfl ?_
        refine gX3_7 (pc := 42) dX3_goes_42 hm.1.1 rfl ?_
        refine r_iload_n (pc := 45) dX3_goes_45 rfl ?_
        refine r_bipush (pc := 46) dX3_goes_46 (by decide) ?_
        refine r_iadd (pc := 48) dX3_goes_48 ?_
        refine t_iald (pc := 49) (lim := 140) 0 dX3_goes_49 hm (by decide) rfl (by first | omega | exact rfB_in _ | exact nz_in _ | exact hm.r _ _) (fun r49 => ?_)
        refine t_iast (pc := 50) (lim := 140) 0 dX3_goes_50 hm (by decide) rfl (by first | omega | exact rfB_in _ | exact nz_in _ | exact hm.r _ _) (by first | omega | exact rfB_in _ | exact nz_in _ | exact hm.r _ _) (fun h hm => ?_)
        refine r_iinc (pc := 51) (L' := [_, _, _, _]) dX3_goes_51 rfl rfl ?_
        refine r_goto (pc := 54) (tgt := 25) dX3_goes_54 (by decide) ?_
        exact ih25 _ _ _ hm (by omega) (by rw [hT]; exact (by funext k j; simp only [g1T, sT]; (repeat' split) <;> (subst_vars; first | rfl | omega | (congr 1; omega) | (simp_all; done) | (simp_all; omega)))) (by omega)
  rw [e15]; simp only [e6]
  exact loop25 201 _ _ _ hm (by omega) (by rw [e6]; exact (by funext k j; simp only [g1T, sT]; (repeat' split) <;> (subst_vars; first | rfl | omega | (congr 1; omega) | (simp_all; done) | (simp_all; omega)))) (by omega)
