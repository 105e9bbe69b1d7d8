set_option maxRecDepth 100000
theorem t_shardGoes {G : Gl} {m : Nat} {ad : Nat → Nat} {h0 h9 : Hp} {T9 : TM} (hm : TI m ad h0 T9 h9) {s : Int} (hs : 0 ≤ s ∧ s < T9 0 2 ∧ T9 0 2 ≤ 8) : Ct G 1 0 yX3_shardGoes (Cond.code yX3_shardGoes cX3_shardGoes 4 (none)) [.ref m, .int (iZ s)] h9 (RV m ad h9 (uT T9 (sgR (T9 0) s))) noX := by
  have hm := hm.nw
  refine Ct.of (own := eM) (nm := "shardGoes") (by decide +kernel) rfl rfl (L := [some (.ref m), some (.int (iZ s)), none, none]) rfl (Nat.le_of_ble_eq_true rfl) rfl ?_
  refine r_aload_n (pc := 0) dX3_shardGoes_0 rfl ?_
  refine gX3_7 (pc := 1) dX3_shardGoes_1 hm.1.1 rfl ?_
  refine r_iconst (pc := 4) dX3_shardGoes_4 ?_
  refine r_dup2 (pc := 5) dX3_shardGoes_5 rfl rfl ?_
  refine t_iald (pc := 6) (lim := 140) 0 dX3_shardGoes_6 hm (by decide) rfl (by first | omega | exact rfB_in _ | exact nz_in _ | exact hm.r _ _) (fun r6 => ?_)
  refine go_nm (fun z6 e6 => ?_)
  have r6 := InR_of e6 r6
  refine r_iconst (pc := 7) dX3_shardGoes_7 ?_
  refine r_isub (pc := 8) dX3_shardGoes_8 ?_
  refine t_iast (pc := 9) (lim := 140) 0 dX3_shardGoes_9 hm (by decide) rfl (by first | omega | exact rfB_in _ | exact nz_in _ | exact hm.r _ _) (by first | omega | exact rfB_in _ | exact nz_in _ | exact hm.r _ _) (fun h hm => ?_)
  refine r_aload_n (pc := 10) dX3_shardGoes_10 rfl ?_
  refine gX3_7 (pc := 11) dX3_shardGoes_11 hm.1.1 rfl ?_
  refine r_bipush (pc := 14) dX3_shardGoes_14 (by decide) ?_
  refine r_dup2 (pc := 16) dX3_shardGoes_16 rfl rfl ?_
  refine t_iald (pc := 17) (lim := 140) 0 dX3_shardGoes_17 hm (by decide) rfl (by first | omega | exact rfB_in _ | exact nz_in _ | exact hm.r _ _) (fun r17 => ?_)
  refine go_nm (fun z17 e17 => ?_)
  have r17 := InR_of e17 r17
  try simp [sT, cpT, cpN] at e17
  refine r_iconst (pc := 18) dX3_shardGoes_18 ?_
  refine r_iadd (pc := 19) dX3_shardGoes_19 ?_
  refine t_iastN (pc := 20) (lim := 140) 0 dX3_shardGoes_20 hm (by decide) rfl (by first | omega | exact rfB_in _ | exact nz_in _ | exact hm.r _ _) (fun h hm => ?_)
  refine r_aload_n (pc := 21) dX3_shardGoes_21 rfl ?_
  refine gX3_7 (pc := 22) dX3_shardGoes_22 hm.1.1 rfl ?_
  refine r_iconst (pc := 25) dX3_shardGoes_25 ?_
  refine t_iald (pc := 26) (lim := 140) 0 dX3_shardGoes_26 hm (by decide) rfl (by first | omega | exact rfB_in _ | exact nz_in _ | exact hm.r _ _) (fun r26 => ?_)
  refine go_nm (fun z26 e26 => ?_)
  have r26 := InR_of e26 r26
  try simp [sT, cpT, cpN] at e26
  refine r_istore_n (pc := 27) (L' := [_, _, _, _]) dX3_shardGoes_27 rfl ?_
  refine r_bipush (pc := 28) dX3_shardGoes_28 (by decide) ?_
  refine r_iconst (pc := 30) dX3_shardGoes_30 ?_
  refine r_iload_n (pc := 31) dX3_shardGoes_31 rfl ?_
  refine r_imul (pc := 32) dX3_shardGoes_32 ?_
  refine r_iadd (pc := 33) dX3_shardGoes_33 ?_
  refine r_istore_n (pc := 34) (L' := [_, _, _, _]) dX3_shardGoes_34 rfl ?_
  have loop35 : ∀ (n : Nat) (z : Int) (h : Hp) (T : TM), TI m ad h9 T h → (26 + 3 * s ≤ z ∧ z ≤ 26 + 3 * (T9 0 2 - 1)) → T = s1T T9 s z → 60 - z < n → Go G eM cX3_shardGoes (4, none, "shardGoes", []) 1 0 (RV m ad h9 (uT T9 (sgR (T9 0) s))) noX 0 h 35 [some (.ref m), some (.int (iZ s)), some (.int (iZ (T9 0 2 - 1))), some (.int (iZ z))] [] := by
    intro n
    induction n with
    | zero => intro z h T hm hz hT hn; omega
    | succ n ih35 =>
      intro z h T hm hz hT hn
      refine r_iload_n (pc := 35) dX3_shardGoes_35 rfl ?_
      refine r_bipush (pc := 36) dX3_shardGoes_36 (by decide) ?_
      refine r_iconst (pc := 38) dX3_shardGoes_38 ?_
      refine r_iload_n (pc := 39) dX3_shardGoes_39 rfl ?_
      refine r_imul (pc := 40) dX3_shardGoes_40 ?_
      refine r_iadd (pc := 41) dX3_shardGoes_41 ?_
      refine r_icmp_ge (pc := 42) (tgt := 65) dX3_shardGoes_42 (by decide) (by first | omega | exact rfB_in _ | exact nz_in _ | exact hm.r _ _) (by first | omega | exact rfB_in _ | exact nz_in _ | exact hm.r _ _) (fun c42 => ?_) (fun c42 => ?_)
      · refine r_iconst (pc := 65) dX3_shardGoes_65 ?_
        refine r_istore_n (pc := 66) (L' := [_, _, _, _]) dX3_shardGoes_66 rfl ?_
        have loop67 : ∀ (n : Nat) (w : Int) (h : Hp) (T : TM), TI m ad h9 T h → (0 ≤ w ∧ w ≤ 3) → T = zrT (s1T T9 s (26 + 3 * (T9 0 2 - 1))) (26 + 3 * (T9 0 2 - 1)) w → 3 - w < n → Go G eM cX3_shardGoes (4, none, "shardGoes", []) 1 0 (RV m ad h9 (uT T9 (sgR (T9 0) s))) noX 0 h 67 [some (.ref m), some (.int (iZ s)), some (.int (iZ (T9 0 2 - 1))), some (.int (iZ w))] [] := by
          intro n
          induction n with
          | zero => intro w h T hm hw hT2 hn; omega
          | succ n ih67 =>
            intro w h T hm hw hT2 hn
            refine r_iload_n (pc := 67) dX3_shardGoes_67 rfl ?_
            refine r_iconst (pc := 68) dX3_shardGoes_68 ?_
            refine r_icmp_ge (pc := 69) (tgt := 92) dX3_shardGoes_69 (by decide) (by first | omega | exact rfB_in _ | exact nz_in _ | exact hm.r _ _) (by first | omega | exact rfB_in _ | exact nz_in _ | exact hm.r _ _) (fun c69 => ?_) (fun c69 => ?_)
            · exact e_vret (pc := 92) dX3_shardGoes_92 rfl hm (by rw [hT2, show w = 3 by omega]; exact (by funext k j; simp only [zrT, s1T, uT, sgR]; (repeat' split) <;> (subst_vars; first | rfl | omega | (congr 1; omega) | (simp_all; done) | (simp_all; omega))))
            · refine r_aload_n (pc := 72) dX3_shardGoes_72 rfl ?_
              refine gX3_7 (pc := 73) dX3_shardGoes_73 hm.1.1 rfl ?_
              refine r_bipush (pc := 76) dX3_shardGoes_76 (by decide) ?_
              refine r_iconst (pc := 78) dX3_shardGoes_78 ?_
              refine r_iload_n (pc := 79) dX3_shardGoes_79 rfl ?_
              refine r_imul (pc := 80) dX3_shardGoes_80 ?_
              refine r_iadd (pc := 81) dX3_shardGoes_81 ?_
              refine r_iload_n (pc := 82) dX3_shardGoes_82 rfl ?_
              refine r_iadd (pc := 83) dX3_shardGoes_83 ?_
              refine r_iconst (pc := 84) dX3_shardGoes_84 ?_
              refine t_iast (pc := 85) (lim := 140) 0 dX3_shardGoes_85 hm (by decide) rfl (by first | omega | exact rfB_in _ | exact nz_in _ | exact hm.r _ _) (by first | omega | exact rfB_in _ | exact nz_in _ | exact hm.r _ _) (fun h hm => ?_)
              refine r_iinc (pc := 86) (L' := [_, _, _, _]) dX3_shardGoes_86 rfl rfl ?_
              refine r_goto (pc := 89) (tgt := 67) dX3_shardGoes_89 (by decide) ?_
              exact ih67 _ _ _ hm (by omega) (by rw [hT2]; exact (by funext k j; simp only [zrT, sT]; (repeat' split) <;> (subst_vars; first | rfl | omega | (congr 1; omega) | (simp_all; done) | (simp_all; omega)))) (by omega)
        exact loop67 4 _ _ _ hm (by omega) (by rw [hT, show z = 26 + 3 * (T9 0 2 - 1) by omega]; exact (by funext k j; simp only [zrT]; (repeat' split) <;> (subst_vars; first | rfl | omega | (congr 1; omega) | (simp_all; done) | (simp_all; omega)))) (by omega)
      · refine r_aload_n (pc := 45) dX3_shardGoes_45 rfl ?_
        refine gX3_7 (pc := 46) dX3_shardGoes_46 hm.1.1 rfl ?_
        refine r_iload_n (pc := 49) dX3_shardGoes_49 rfl ?_
        refine r_aload_n (pc := 50) dX3_shardGoes_50 rfl ?_
        refine gX3_7 (pc := 51) dX3_shardGoes_51 hm.1.1 rfl ?_
        refine r_iload_n (pc := 54) dX3_shardGoes_54 rfl ?_
        refine r_iconst (pc := 55) dX3_shardGoes_55 ?_
        refine r_iadd (pc := 56) dX3_shardGoes_56 ?_
        refine t_iald (pc := 57) (lim := 140) 0 dX3_shardGoes_57 hm (by decide) rfl (by first | omega | exact rfB_in _ | exact nz_in _ | exact hm.r _ _) (fun r57 => ?_)
        refine t_iast (pc := 58) (lim := 140) 0 dX3_shardGoes_58 hm (by decide) rfl (by first | omega | exact rfB_in _ | exact nz_in _ | exact hm.r _ _) (by first | omega | exact rfB_in _ | exact nz_in _ | exact hm.r _ _) (fun h hm => ?_)
        refine r_iinc (pc := 59) (L' := [_, _, _, _]) dX3_shardGoes_59 rfl rfl ?_
        refine r_goto (pc := 62) (tgt := 35) dX3_shardGoes_62 (by decide) ?_
        exact ih35 _ _ _ hm (by omega) (by rw [hT]; exact (by funext k j; simp only [s1T, sT]; (repeat' split) <;> (subst_vars; first | rfl | omega | (congr 1; omega) | (simp_all; done) | (simp_all; omega)))) (by omega)
  rw [e26]; simp only [e6]
  exact loop35 61 _ _ _ hm (by omega) (by rw [e17, e6]; exact (by funext k j; simp only [s1T, sT]; (repeat' split) <;> (subst_vars; first | rfl | omega | (congr 1; omega) | (simp_all; done) | (simp_all; omega)))) (by omega)
theorem t_shardComes {G : Gl} {m : Nat} {ad : Nat → Nat} {h0 h9 : Hp} {T9 : TM} (hm : TI m ad h0 T9 h9) {c : Int} (hc : InR c) (hs : 0 ≤ T9 0 2 ∧ T9 0 2 ≤ 8) : Ct G 2 0 yX3_shardComes (Cond.code yX3_shardComes cX3_shardComes 3 (none)) [.ref m, .int (iZ c)] h9 (RV m ad h9 (uT T9 (scR (T9 0) c))) noX := by
  have hm := hm.nw
  refine Ct.of (own := eM) (nm := "shardComes") (by decide +kernel) rfl rfl (L := [some (.ref m), some (.int (iZ c)), none]) rfl (Nat.le_of_ble_eq_true rfl) rfl ?_
  have join16 : ∀  (h : Hp) (T : TM), TI m ad h9 T h → (∀ k j, T k j = if k = 0 then sc1 (T9 0) j else T9 k j) → 0 ≤ T 0 2 ∧ T 0 2 ≤ 7 → Go G eM cX3_shardComes (3, none, "shardComes", []) 2 0 (RV m ad h9 (uT T9 (scR (T9 0) c))) noX 0 h 16 [some (.ref m), some (.int (iZ c)), none] [] := by
    intro h T hm hT h2
    refine r_aload_n (pc := 16) dX3_shardComes_16 rfl ?_
    refine gX3_7 (pc := 17) dX3_shardComes_17 hm.1.1 rfl ?_
    refine r_iconst (pc := 20) dX3_shardComes_20 ?_
    refine t_iald (pc := 21) (lim := 140) 0 dX3_shardComes_21 hm (by decide) rfl (by first | omega | exact rfB_in _ | exact nz_in _ | exact hm.r _ _) (fun r21 => ?_)
    refine go_nm (fun z21 e21 => ?_)
    have r21 := InR_of e21 r21
    refine r_istore_n (pc := 22) (L' := [_, _, _]) dX3_shardComes_22 rfl ?_
    refine r_aload_n (pc := 23) dX3_shardComes_23 rfl ?_
    refine gX3_7 (pc := 24) dX3_shardComes_24 hm.1.1 rfl ?_
    refine r_bipush (pc := 27) dX3_shardComes_27 (by decide) ?_
    refine r_iconst (pc := 29) dX3_shardComes_29 ?_
    refine r_iload_n (pc := 30) dX3_shardComes_30 rfl ?_
    refine r_imul (pc := 31) dX3_shardComes_31 ?_
    refine r_iadd (pc := 32) dX3_shardComes_32 ?_
    refine r_iconst (pc := 33) dX3_shardComes_33 ?_
    refine r_iadd (pc := 34) dX3_shardComes_34 ?_
    refine r_iload_n (pc := 35) dX3_shardComes_35 rfl ?_
    refine t_iast (pc := 36) (lim := 140) 0 dX3_shardComes_36 hm (by decide) rfl (by first | omega | exact rfB_in _ | exact nz_in _ | exact hm.r _ _) (by first | omega | exact rfB_in _ | exact nz_in _ | exact hm.r _ _) (fun h hm => ?_)
    refine r_aload_n (pc := 37) dX3_shardComes_37 rfl ?_
    refine gX3_7 (pc := 38) dX3_shardComes_38 hm.1.1 rfl ?_
    refine r_bipush (pc := 41) dX3_shardComes_41 (by decide) ?_
    refine r_iconst (pc := 43) dX3_shardComes_43 ?_
    refine r_iload_n (pc := 44) dX3_shardComes_44 rfl ?_
    refine r_imul (pc := 45) dX3_shardComes_45 ?_
    refine r_iadd (pc := 46) dX3_shardComes_46 ?_
    refine r_iconst (pc := 47) dX3_shardComes_47 ?_
    refine r_iadd (pc := 48) dX3_shardComes_48 ?_
    refine r_iconst (pc := 49) dX3_shardComes_49 ?_
    refine t_iast (pc := 50) (lim := 140) 0 dX3_shardComes_50 hm (by decide) rfl (by first | omega | exact rfB_in _ | exact nz_in _ | exact hm.r _ _) (by first | omega | exact rfB_in _ | exact nz_in _ | exact hm.r _ _) (fun h hm => ?_)
    refine r_aload_n (pc := 51) dX3_shardComes_51 rfl ?_
    refine gX3_7 (pc := 52) dX3_shardComes_52 hm.1.1 rfl ?_
    refine r_bipush (pc := 55) dX3_shardComes_55 (by decide) ?_
    refine r_iconst (pc := 57) dX3_shardComes_57 ?_
    refine r_iload_n (pc := 58) dX3_shardComes_58 rfl ?_
    refine r_imul (pc := 59) dX3_shardComes_59 ?_
    refine r_iadd (pc := 60) dX3_shardComes_60 ?_
    refine r_iconst (pc := 61) dX3_shardComes_61 ?_
    refine r_iadd (pc := 62) dX3_shardComes_62 ?_
    refine r_aload_n (pc := 63) dX3_shardComes_63 rfl ?_
    refine gX3_7 (pc := 64) dX3_shardComes_64 hm.1.1 rfl ?_
    refine r_iconst (pc := 67) dX3_shardComes_67 ?_
    refine t_iald (pc := 68) (lim := 140) 0 dX3_shardComes_68 hm (by decide) rfl (by first | omega | exact rfB_in _ | exact nz_in _ | exact hm.r _ _) (fun r68 => ?_)
    refine go_nm (fun z68 e68 => ?_)
    have r68 := InR_of e68 r68
    have g68 : z68 = T 0 3 := by (rw [e68]; try (simp only [sT, uT]; (repeat' split) <;> first | rfl | omega | (congr 1; omega)))
    refine t_iast (pc := 69) (lim := 140) 0 dX3_shardComes_69 hm (by decide) rfl (by first | omega | exact rfB_in _ | exact nz_in _ | exact hm.r _ _) (by first | omega | exact rfB_in _ | exact nz_in _ | exact hm.r _ _) (fun h hm => ?_)
    refine r_aload_n (pc := 70) dX3_shardComes_70 rfl ?_
    refine gX3_7 (pc := 71) dX3_shardComes_71 hm.1.1 rfl ?_
    refine r_iconst (pc := 74) dX3_shardComes_74 ?_
    refine r_dup2 (pc := 75) dX3_shardComes_75 rfl rfl ?_
    refine t_iald (pc := 76) (lim := 140) 0 dX3_shardComes_76 hm (by decide) rfl (by first | omega | exact rfB_in _ | exact nz_in _ | exact hm.r _ _) (fun r76 => ?_)
    refine go_nm (fun z76 e76 => ?_)
    have r76 := InR_of e76 r76
    have g76 : z76 = z21 := by (rw [e76]; try (simp only [sT, uT]; (repeat' split) <;> first | rfl | omega | (congr 1; omega)))
    refine r_iconst (pc := 77) dX3_shardComes_77 ?_
    refine r_iadd (pc := 78) dX3_shardComes_78 ?_
    refine t_iast (pc := 79) (lim := 140) 0 dX3_shardComes_79 hm (by decide) rfl (by first | omega | exact rfB_in _ | exact nz_in _ | exact hm.r _ _) (by first | omega | exact rfB_in _ | exact nz_in _ | exact hm.r _ _) (fun h hm => ?_)
    exact e_vret (pc := 80) dX3_shardComes_80 rfl hm (by funext k j; simp only [sT, uT, scR, g68, g76, e21, hT]; (repeat' split) <;> (subst_vars; first | rfl | omega | (simp_all; done)))
  refine r_aload_n (pc := 0) dX3_shardComes_0 rfl ?_
  refine gX3_7 (pc := 1) dX3_shardComes_1 hm.1.1 rfl ?_
  refine r_iconst (pc := 4) dX3_shardComes_4 ?_
  refine t_iald (pc := 5) (lim := 140) 0 dX3_shardComes_5 hm (by decide) rfl (by first | omega | exact rfB_in _ | exact nz_in _ | exact hm.r _ _) (fun r5 => ?_)
  refine r_bipush (pc := 6) dX3_shardComes_6 (by decide) ?_
  refine r_icmp_ne (pc := 8) (tgt := 16) dX3_shardComes_8 (by decide) (by first | omega | exact rfB_in _ | exact nz_in _ | exact hm.r _ _) (by first | omega | exact rfB_in _ | exact nz_in _ | exact hm.r _ _) (fun c8 => ?_) (fun c8 => ?_)
  · exact join16  _ _ hm (by first | (intro k j; rw [show sc1 (T9 0) = sgR (T9 0) 0 from if_pos (by omega)]; unfold uT; first | done | rfl) | (intro k j; rw [show sc1 (T9 0) = T9 0 from if_neg (by omega)]; (repeat' split) <;> (subst_vars; rfl))) (by first | (show 0 ≤ T9 0 2 - 1 ∧ T9 0 2 - 1 ≤ 7; omega) | omega)
  · refine r_aload_n (pc := 11) dX3_shardComes_11 rfl ?_
    refine r_iconst (pc := 12) dX3_shardComes_12 ?_
    refine r_callV (pc := 13) (kb' := 0) dX3_shardComes_13 kX3_shardGoes q2913 (t_shardGoes hm (by omega)) hm.1.1 rfl (Nat.le_refl _) (Nat.le_of_ble_eq_true rfl) rfl rfl (Nat.le_of_ble_eq_true rfl) (fun _ _ q => q.elim) (fun _ _ hq => go_V hq (fun h hm1 => ?_))
    have hm := hm.tr hm1
    exact join16  _ _ hm (by first | (intro k j; rw [show sc1 (T9 0) = sgR (T9 0) 0 from if_pos (by omega)]; unfold uT; first | done | rfl) | (intro k j; rw [show sc1 (T9 0) = T9 0 from if_neg (by omega)]; (repeat' split) <;> (subst_vars; rfl))) (by first | (show 0 ≤ T9 0 2 - 1 ∧ T9 0 2 - 1 ≤ 7; omega) | omega)
