set_option maxRecDepth 100000
set_option maxHeartbeats 8000000 in
theorem t_burns {G : Gl} {m : Nat} {ad : Nat → Nat} {h0 h9 : Hp} {T9 : TM} (hm : TI m ad h0 T9 h9) {x : Int} (hI : RI (T9 0)) (hx : 10 ≤ x ∧ x ≤ 99) : Ct G 5 0 yX3_burns (Cond.code yX3_burns cX3_burns 5 (some .int)) [.ref m, .int (iZ x)] h9 (RT m ad h9 ((buZ x (T9 0 0).toNat (T9 0) 0 0).2) (uT T9 (fiR (T9 0) x))) noX := by
  have hm := hm.nw
  refine Ct.of (own := eM) (nm := "burns") (by decide +kernel) rfl rfl (L := [some (.ref m), some (.int (iZ x)), none, none, none]) rfl (Nat.le_of_ble_eq_true rfl) rfl ?_
  refine r_iconst (pc := 0) dX3_burns_0 ?_
  refine r_istore_n (pc := 1) (L' := [_, _, _, _, _]) dX3_burns_1 rfl ?_
  refine r_iconst (pc := 2) dX3_burns_2 ?_
  refine r_istore_n (pc := 3) (L' := [_, _, _, _, _]) dX3_burns_3 rfl ?_
  have loop4 : ∀ (n : Nat) (b a : Int) (h : Hp) (T : TM), TI m ad h9 T h → RI (T 0) → (∀ k j, k ≠ 0 → T k j = T9 k j) → (0 ≤ a ∧ a ≤ T 0 0) → buZ x (T9 0 0).toNat (T9 0) 0 0 = buZ x (T 0 0 - a).toNat (T 0) a b → T 0 0 - a < n → Go G eM cX3_burns (5, some .int, "burns", []) 5 0 (RT m ad h9 ((buZ x (T9 0 0).toNat (T9 0) 0 0).2) (uT T9 (fiR (T9 0) x))) noX 0 h 4 [some (.ref m), some (.int (iZ x)), some (.int (iZ b)), some (.int (iZ a)), none] [] := by
    intro n
    induction n with
    | zero => intro b a h T hm hI2 hk ha hu hn; omega
    | succ n ih4 =>
      intro b a h T hm hI2 hk ha hu hn
      have hb := hI2.1
      have hoo := hI2.2.1 a ha.1
      refine r_iload_n (pc := 4) dX3_burns_4 rfl ?_
      refine r_aload_n (pc := 5) dX3_burns_5 rfl ?_
      refine gX3_7 (pc := 6) dX3_burns_6 hm.1.1 rfl ?_
      refine r_iconst (pc := 9) dX3_burns_9 ?_
      refine t_iald (pc := 10) (lim := 140) 0 dX3_burns_10 hm (by decide) rfl (by first | omega | exact rfB_in _ | exact nz_in _ | exact hm.r _ _) (fun r10 => ?_)
      refine r_icmp_ge (pc := 11) (tgt := 164) dX3_burns_11 (by decide) (by first | omega | exact rfB_in _ | exact nz_in _ | exact hm.r _ _) (by first | omega | exact rfB_in _ | exact nz_in _ | exact hm.r _ _) (fun c11 => ?_) (fun c11 => ?_)
      · refine r_aload_n (pc := 164) dX3_burns_164 rfl ?_
        refine gX3_7 (pc := 165) dX3_burns_165 hm.1.1 rfl ?_
        refine r_iconst (pc := 168) dX3_burns_168 ?_
        refine r_dup2 (pc := 169) dX3_burns_169 rfl rfl ?_
        refine t_iald (pc := 170) (lim := 140) 0 dX3_burns_170 hm (by decide) rfl (by first | omega | exact rfB_in _ | exact nz_in _ | exact hm.r _ _) (fun r170 => ?_)
        refine go_nm (fun z170 e170 => ?_)
        have r170 := InR_of e170 r170
        refine r_iconst (pc := 171) dX3_burns_171 ?_
        refine r_iadd (pc := 172) dX3_burns_172 ?_
        refine t_iastN (pc := 173) (lim := 140) 0 dX3_burns_173 hm (by decide) rfl (by first | omega | exact rfB_in _ | exact nz_in _ | exact hm.r _ _) (fun h hm => ?_)
        refine r_aload_n (pc := 174) dX3_burns_174 rfl ?_
        refine gX3_7 (pc := 175) dX3_burns_175 hm.1.1 rfl ?_
        refine r_iconst (pc := 178) dX3_burns_178 ?_
        refine r_dup2 (pc := 179) dX3_burns_179 rfl rfl ?_
        refine t_iald (pc := 180) (lim := 140) 0 dX3_burns_180 hm (by decide) rfl (by first | omega | exact rfB_in _ | exact nz_in _ | exact hm.r _ _) (fun r180 => ?_)
        refine go_nm (fun z180 e180 => ?_)
        have r180 := InR_of e180 r180
        rw [sT_i (by omega)] at e180
        refine r_iload_n (pc := 181) dX3_burns_181 rfl ?_
        refine r_iadd (pc := 182) dX3_burns_182 ?_
        refine t_iastN (pc := 183) (lim := 140) 0 dX3_burns_183 hm (by decide) rfl (by first | omega | exact rfB_in _ | exact nz_in _ | exact hm.r _ _) (fun h hm => ?_)
        refine r_iload_n (pc := 184) dX3_burns_184 rfl ?_
        exact e_retT (pc := 185) dX3_burns_185 rfl hm (by rw [hu, buZ_e (by omega)]) (by rw [e180, e170]; unfold fiR; rw [hu, buZ_e (by omega)]; funext k j; simp only [sT, uT]; (repeat' split) <;> (first | rfl | omega | exact hk _ _ (by omega) | (subst_vars; first | rfl | omega)))
      · have ho := hoo (by omega)
        have ho2 := ho
        unfold artOk at ho
        have h9 := cr_in ho2 hx
        have h97 := heat_in (s := fA (T 0) a 4) (x := x) (by omega) hx
        refine r_aload_n (pc := 14) dX3_burns_14 rfl ?_
        refine r_iload_n (pc := 15) dX3_burns_15 rfl ?_
        refine r_iconst (pc := 16) dX3_burns_16 ?_
        refine r_callV (pc := 17) (kb' := 0) dX3_burns_17 kX3_av q2815 (t_av hm (by omega) (by omega)) hm.1.1 rfl (Nat.le_refl _) (Nat.le_of_ble_eq_true rfl) rfl rfl (Nat.le_of_ble_eq_true rfl) (fun _ _ q => q.elim) (fun _ _ hq => go_E hq ?_)
        refine r_if_ge (pc := 20) (tgt := 29) dX3_burns_20 (by decide) (by first | omega | exact rfB_in _ | exact nz_in _ | exact hm.r _ _) (fun c20 => ?_) (fun c20 => ?_)
        · refine r_aload_n (pc := 29) dX3_burns_29 rfl ?_
          refine r_iload_n (pc := 30) dX3_burns_30 rfl ?_
          refine r_iload_n (pc := 31) dX3_burns_31 rfl ?_
          refine r_callV (pc := 32) (kb' := 0) dX3_burns_32 kX3_bursts q2894 (t_bursts hm hI2 (by omega) hx) hm.1.1 rfl (Nat.le_refl _) (Nat.le_of_ble_eq_true rfl) rfl rfl (Nat.le_of_ble_eq_true rfl) (fun _ _ q => q.elim) (fun _ _ hq => go_E hq ?_)
          refine r_ifB_eq (pc := 35) (tgt := 59) dX3_burns_35 (by decide) (fun c35 => ?_) (fun c35 => ?_)
          · refine r_aload_n (pc := 59) dX3_burns_59 rfl ?_
            refine r_iload_n (pc := 60) dX3_burns_60 rfl ?_
            refine r_iload_n (pc := 61) dX3_burns_61 rfl ?_
            refine r_callV (pc := 62) (kb' := 0) dX3_burns_62 kX3_firesAt q2921 (t_firesAt hm hI2 (by omega) hx) hm.1.1 rfl (Nat.le_refl _) (Nat.le_of_ble_eq_true rfl) rfl rfl (Nat.le_of_ble_eq_true rfl) (fun _ _ q => q.elim) (fun _ _ hq => go_E hq ?_)
            refine r_istore (pc := 65) (L' := [_, _, _, _, _]) dX3_burns_65 rfl ?_
            refine r_aload_n (pc := 67) dX3_burns_67 rfl ?_
            refine r_iload_n (pc := 68) dX3_burns_68 rfl ?_
            refine r_iconst (pc := 69) dX3_burns_69 ?_
            refine r_aload_n (pc := 70) dX3_burns_70 rfl ?_
            refine r_iload_n (pc := 71) dX3_burns_71 rfl ?_
            refine r_iconst (pc := 72) dX3_burns_72 ?_
            refine r_callV (pc := 73) (kb' := 0) dX3_burns_73 kX3_av q2815 (t_av hm (by omega) (by omega)) hm.1.1 rfl (Nat.le_refl _) (Nat.le_of_ble_eq_true rfl) rfl rfl (Nat.le_of_ble_eq_true rfl) (fun _ _ q => q.elim) (fun _ _ hq => go_E hq ?_)
            refine r_aload_n (pc := 76) dX3_burns_76 rfl ?_
            refine r_iload_n (pc := 77) dX3_burns_77 rfl ?_
            refine r_iload_n (pc := 78) dX3_burns_78 rfl ?_
            refine r_callV (pc := 79) (kb' := 0) dX3_burns_79 kX3_crackedBy q2898 (t_crackedBy hm hI2 (by omega) hx) hm.1.1 rfl (Nat.le_refl _) (Nat.le_of_ble_eq_true rfl) rfl rfl (Nat.le_of_ble_eq_true rfl) (fun _ _ q => q.elim) (fun _ _ hq => go_E hq ?_)
            refine r_iadd (pc := 82) dX3_burns_82 ?_
            refine r_callV (pc := 83) (kb' := 0) dX3_burns_83 kX3_la q2831 (t_la hm (by omega) (by omega) (by omega)) hm.1.1 rfl (Nat.le_refl _) (Nat.le_of_ble_eq_true rfl) rfl rfl (Nat.le_of_ble_eq_true rfl) (fun _ _ q => q.elim) (fun _ _ hq => go_V hq (fun h hm1 => ?_))
            have hm := hm.tr hm1
            refine r_aload_n (pc := 86) dX3_burns_86 rfl ?_
            refine r_iload_n (pc := 87) dX3_burns_87 rfl ?_
            refine r_iconst (pc := 88) dX3_burns_88 ?_
            refine r_iload (pc := 89) dX3_burns_89 rfl ?_
            refine r_ifB_eq (pc := 91) (tgt := 98) dX3_burns_91 (by decide) (fun c91 => ?_) (fun c91 => ?_)
            · refine r_aload_n (pc := 98) dX3_burns_98 rfl ?_
              refine r_iload_n (pc := 99) dX3_burns_99 rfl ?_
              refine r_iconst (pc := 100) dX3_burns_100 ?_
              refine r_callV (pc := 101) (kb' := 0) dX3_burns_101 kX3_av q2815 (t_av hm (by omega) (by omega)) hm.1.1 rfl (Nat.le_refl _) (Nat.le_of_ble_eq_true rfl) rfl rfl (Nat.le_of_ble_eq_true rfl) (fun _ _ q => q.elim) (fun _ _ hq => go_E hq ?_)
              refine go_n2 (fA (T 0) a 3) (by show sT _ _ _ _ _ _ = _; (repeat rw [sT_i (by omega)]); first | done | rfl) (fun z101 e101 => ?_)
              refine r_callV (pc := 104) (kb' := 0) dX3_burns_104 kX3_la q2831 (t_la hm (by omega) (by omega) (by omega)) hm.1.1 rfl (Nat.le_refl _) (Nat.le_of_ble_eq_true rfl) rfl rfl (Nat.le_of_ble_eq_true rfl) (fun _ _ q => q.elim) (fun _ _ hq => go_V hq (fun h hm1 => ?_))
              have hm := hm.tr hm1
              refine r_aload_n (pc := 107) dX3_burns_107 rfl ?_
              refine r_iload_n (pc := 108) dX3_burns_108 rfl ?_
              refine r_iconst (pc := 109) dX3_burns_109 ?_
              refine r_iload (pc := 110) dX3_burns_110 rfl ?_
              refine r_ifB_eq (pc := 112) (tgt := 135) dX3_burns_112 (by decide) (fun c112 => ?_) (fun c112 => ?_)
              · refine r_aload_n (pc := 135) dX3_burns_135 rfl ?_
                refine r_iload_n (pc := 136) dX3_burns_136 rfl ?_
                refine r_iconst (pc := 137) dX3_burns_137 ?_
                refine r_callV (pc := 138) (kb' := 0) dX3_burns_138 kX3_av q2815 (t_av hm (by omega) (by omega)) hm.1.1 rfl (Nat.le_refl _) (Nat.le_of_ble_eq_true rfl) rfl rfl (Nat.le_of_ble_eq_true rfl) (fun _ _ q => q.elim) (fun _ _ hq => go_E hq ?_)
                refine go_n2 (fA (T 0) a 1) (by show sT _ _ _ _ _ _ = _; (repeat rw [sT_i (by omega)]); first | done | rfl) (fun z138 e138 => ?_)
                refine r_callV (pc := 141) (kb' := 0) dX3_burns_141 kX3_la q2831 (t_la hm (by omega) (by omega) (by omega)) hm.1.1 rfl (Nat.le_refl _) (Nat.le_of_ble_eq_true rfl) rfl rfl (Nat.le_of_ble_eq_true rfl) (fun _ _ q => q.elim) (fun _ _ hq => go_V hq (fun h hm1 => ?_))
                have hm := hm.tr hm1
                refine r_aload_n (pc := 144) dX3_burns_144 rfl ?_
                refine r_iload_n (pc := 145) dX3_burns_145 rfl ?_
                refine r_iconst (pc := 146) dX3_burns_146 ?_
                refine r_aload_n (pc := 147) dX3_burns_147 rfl ?_
                refine r_iload_n (pc := 148) dX3_burns_148 rfl ?_
                refine r_iconst (pc := 149) dX3_burns_149 ?_
                refine r_callV (pc := 150) (kb' := 0) dX3_burns_150 kX3_av q2815 (t_av hm (by omega) (by omega)) hm.1.1 rfl (Nat.le_refl _) (Nat.le_of_ble_eq_true rfl) rfl rfl (Nat.le_of_ble_eq_true rfl) (fun _ _ q => q.elim) (fun _ _ hq => go_E hq ?_)
                refine go_n2 (fA (T 0) a 5) (by show sT _ _ _ _ _ _ = _; (repeat rw [sT_i (by omega)]); first | done | rfl) (fun z150 e150 => ?_)
                refine r_iconst (pc := 153) dX3_burns_153 ?_
                refine r_iadd (pc := 154) dX3_burns_154 ?_
                refine go_zN ?_
                refine r_callV (pc := 155) (kb' := 0) dX3_burns_155 kX3_la q2831 (t_la hm (by omega) (by omega) (nz_in _)) hm.1.1 rfl (Nat.le_refl _) (Nat.le_of_ble_eq_true rfl) rfl rfl (Nat.le_of_ble_eq_true rfl) (fun _ _ q => q.elim) (fun _ _ hq => go_V hq (fun h hm1 => ?_))
                have hm := hm.tr hm1
                have hm := hm.to (T' := uT T (inR (T 0) a x)) (by funext k j; simp only [sT, uT, inR, e150]; (repeat' split) <;> (subst_vars; first | rfl | omega | (congr 1; omega) | (simp_all; done) | (simp_all; omega)))
                have h30 : uT T (inR (T 0) a x) 0 0 = T 0 0 := by rw [uT_0, in_0 ha.1]
                have hI3 : RI (uT T (inR (T 0) a x) 0) := by rw [uT_0]; exact RI_in hI2 ha.1 (by omega) (by omega) c35 hx
                have hk3 : ∀ k j, k ≠ 0 → uT T (inR (T 0) a x) k j = T9 k j := fun k j hk0 => (by show (if k = 0 then _ else _) = _; rw [if_neg hk0]; exact hk k j hk0)
                have hu3 := hu.trans (buZ_3 (x := x) (b := b) ha.1 (by omega) (by omega) c35)
                rw [← uT_0 (T := T) (r := inR (T 0) a x)] at hu3
                refine r_iinc (pc := 158) (L' := [_, _, _, _, _]) dX3_burns_158 rfl rfl ?_
                refine r_goto (pc := 161) (tgt := 4) dX3_burns_161 (by decide) ?_
                refine go_L (L' := [some _, some _, some _, some _, none]) ⟨rfl, rfl, rfl, rfl, trivial⟩ ?_
                exact ih4 _ _ _ _ hm (by first | exact hI2 | exact hI3) (by first | exact hk | exact hk3) (by first | omega | (rw [h30]; omega)) (by first | exact hu.trans (buZ_1 (by omega) (by omega)) | exact hu3) (by omega)
              · refine r_aload_n (pc := 115) dX3_burns_115 rfl ?_
                refine r_iload_n (pc := 116) dX3_burns_116 rfl ?_
                refine r_iconst (pc := 117) dX3_burns_117 ?_
                refine r_callV (pc := 118) (kb' := 0) dX3_burns_118 kX3_av q2815 (t_av hm (by omega) (by omega)) hm.1.1 rfl (Nat.le_refl _) (Nat.le_of_ble_eq_true rfl) rfl rfl (Nat.le_of_ble_eq_true rfl) (fun _ _ q => q.elim) (fun _ _ hq => go_E hq ?_)
                refine go_n2 (fA (T 0) a 1) (by show sT _ _ _ _ _ _ = _; (repeat rw [sT_i (by omega)]); first | done | rfl) (fun z118 e118 => ?_)
                refine r_if_le (pc := 121) (tgt := 135) dX3_burns_121 (by decide) (by first | omega | exact rfB_in _ | exact nz_in _ | exact hm.r _ _) (fun c121 => ?_) (fun c121 => ?_)
                · refine r_aload_n (pc := 135) dX3_burns_135 rfl ?_
                  refine r_iload_n (pc := 136) dX3_burns_136 rfl ?_
                  refine r_iconst (pc := 137) dX3_burns_137 ?_
                  refine r_callV (pc := 138) (kb' := 0) dX3_burns_138 kX3_av q2815 (t_av hm (by omega) (by omega)) hm.1.1 rfl (Nat.le_refl _) (Nat.le_of_ble_eq_true rfl) rfl rfl (Nat.le_of_ble_eq_true rfl) (fun _ _ q => q.elim) (fun _ _ hq => go_E hq ?_)
                  refine go_n2 (fA (T 0) a 1) (by show sT _ _ _ _ _ _ = _; (repeat rw [sT_i (by omega)]); first | done | rfl) (fun z138 e138 => ?_)
                  refine r_callV (pc := 141) (kb' := 0) dX3_burns_141 kX3_la q2831 (t_la hm (by omega) (by omega) (by omega)) hm.1.1 rfl (Nat.le_refl _) (Nat.le_of_ble_eq_true rfl) rfl rfl (Nat.le_of_ble_eq_true rfl) (fun _ _ q => q.elim) (fun _ _ hq => go_V hq (fun h hm1 => ?_))
                  have hm := hm.tr hm1
                  refine r_aload_n (pc := 144) dX3_burns_144 rfl ?_
                  refine r_iload_n (pc := 145) dX3_burns_145 rfl ?_
                  refine r_iconst (pc := 146) dX3_burns_146 ?_
                  refine r_aload_n (pc := 147) dX3_burns_147 rfl ?_
                  refine r_iload_n (pc := 148) dX3_burns_148 rfl ?_
                  refine r_iconst (pc := 149) dX3_burns_149 ?_
                  refine r_callV (pc := 150) (kb' := 0) dX3_burns_150 kX3_av q2815 (t_av hm (by omega) (by omega)) hm.1.1 rfl (Nat.le_refl _) (Nat.le_of_ble_eq_true rfl) rfl rfl (Nat.le_of_ble_eq_true rfl) (fun _ _ q => q.elim) (fun _ _ hq => go_E hq ?_)
                  refine go_n2 (fA (T 0) a 5) (by show sT _ _ _ _ _ _ = _; (repeat rw [sT_i (by omega)]); first | done | rfl) (fun z150 e150 => ?_)
                  refine r_iconst (pc := 153) dX3_burns_153 ?_
                  refine r_iadd (pc := 154) dX3_burns_154 ?_
                  refine go_zN ?_
                  refine r_callV (pc := 155) (kb' := 0) dX3_burns_155 kX3_la q2831 (t_la hm (by omega) (by omega) (nz_in _)) hm.1.1 rfl (Nat.le_refl _) (Nat.le_of_ble_eq_true rfl) rfl rfl (Nat.le_of_ble_eq_true rfl) (fun _ _ q => q.elim) (fun _ _ hq => go_V hq (fun h hm1 => ?_))
                  have hm := hm.tr hm1
                  have hm := hm.to (T' := uT T (inR (T 0) a x)) (by funext k j; simp only [sT, uT, inR, e150]; (repeat' split) <;> (subst_vars; first | rfl | omega | (congr 1; omega) | (simp_all; done) | (simp_all; omega)))
                  have h30 : uT T (inR (T 0) a x) 0 0 = T 0 0 := by rw [uT_0, in_0 ha.1]
                  have hI3 : RI (uT T (inR (T 0) a x) 0) := by rw [uT_0]; exact RI_in hI2 ha.1 (by omega) (by omega) c35 hx
                  have hk3 : ∀ k j, k ≠ 0 → uT T (inR (T 0) a x) k j = T9 k j := fun k j hk0 => (by show (if k = 0 then _ else _) = _; rw [if_neg hk0]; exact hk k j hk0)
                  have hu3 := hu.trans (buZ_3 (x := x) (b := b) ha.1 (by omega) (by omega) c35)
                  rw [← uT_0 (T := T) (r := inR (T 0) a x)] at hu3
                  refine r_iinc (pc := 158) (L' := [_, _, _, _, _]) dX3_burns_158 rfl rfl ?_
                  refine r_goto (pc := 161) (tgt := 4) dX3_burns_161 (by decide) ?_
                  refine go_L (L' := [some _, some _, some _, some _, none]) ⟨rfl, rfl, rfl, rfl, trivial⟩ ?_
                  exact ih4 _ _ _ _ hm (by first | exact hI2 | exact hI3) (by first | exact hk | exact hk3) (by first | omega | (rw [h30]; omega)) (by first | exact hu.trans (buZ_1 (by omega) (by omega)) | exact hu3) (by omega)
                · refine r_aload_n (pc := 124) dX3_burns_124 rfl ?_
                  refine r_iload_n (pc := 125) dX3_burns_125 rfl ?_
                  refine r_iconst (pc := 126) dX3_burns_126 ?_
                  refine r_callV (pc := 127) (kb' := 0) dX3_burns_127 kX3_av q2815 (t_av hm (by omega) (by omega)) hm.1.1 rfl (Nat.le_refl _) (Nat.le_of_ble_eq_true rfl) rfl rfl (Nat.le_of_ble_eq_true rfl) (fun _ _ q => q.elim) (fun _ _ hq => go_E hq ?_)
                  refine go_n2 (fA (T 0) a 1) (by show sT _ _ _ _ _ _ = _; (repeat rw [sT_i (by omega)]); first | done | rfl) (fun z127 e127 => ?_)
                  refine r_iconst (pc := 130) dX3_burns_130 ?_
                  refine r_isub (pc := 131) dX3_burns_131 ?_
                  refine r_goto (pc := 132) (tgt := 141) dX3_burns_132 (by decide) ?_
                  refine r_callV (pc := 141) (kb' := 0) dX3_burns_141 kX3_la q2831 (t_la hm (by omega) (by omega) (by omega)) hm.1.1 rfl (Nat.le_refl _) (Nat.le_of_ble_eq_true rfl) rfl rfl (Nat.le_of_ble_eq_true rfl) (fun _ _ q => q.elim) (fun _ _ hq => go_V hq (fun h hm1 => ?_))
                  have hm := hm.tr hm1
                  refine r_aload_n (pc := 144) dX3_burns_144 rfl ?_
                  refine r_iload_n (pc := 145) dX3_burns_145 rfl ?_
                  refine r_iconst (pc := 146) dX3_burns_146 ?_
                  refine r_aload_n (pc := 147) dX3_burns_147 rfl ?_
                  refine r_iload_n (pc := 148) dX3_burns_148 rfl ?_
                  refine r_iconst (pc := 149) dX3_burns_149 ?_
                  refine r_callV (pc := 150) (kb' := 0) dX3_burns_150 kX3_av q2815 (t_av hm (by omega) (by omega)) hm.1.1 rfl (Nat.le_refl _) (Nat.le_of_ble_eq_true rfl) rfl rfl (Nat.le_of_ble_eq_true rfl) (fun _ _ q => q.elim) (fun _ _ hq => go_E hq ?_)
                  refine go_n2 (fA (T 0) a 5) (by show sT _ _ _ _ _ _ = _; (repeat rw [sT_i (by omega)]); first | done | rfl) (fun z150 e150 => ?_)
                  refine r_iconst (pc := 153) dX3_burns_153 ?_
                  refine r_iadd (pc := 154) dX3_burns_154 ?_
                  refine go_zN ?_
                  refine r_callV (pc := 155) (kb' := 0) dX3_burns_155 kX3_la q2831 (t_la hm (by omega) (by omega) (nz_in _)) hm.1.1 rfl (Nat.le_refl _) (Nat.le_of_ble_eq_true rfl) rfl rfl (Nat.le_of_ble_eq_true rfl) (fun _ _ q => q.elim) (fun _ _ hq => go_V hq (fun h hm1 => ?_))
                  have hm := hm.tr hm1
                  have hm := hm.to (T' := uT T (inR (T 0) a x)) (by funext k j; simp only [sT, uT, inR, e150]; (repeat' split) <;> (subst_vars; first | rfl | omega | (congr 1; omega) | (simp_all; done) | (simp_all; omega)))
                  have h30 : uT T (inR (T 0) a x) 0 0 = T 0 0 := by rw [uT_0, in_0 ha.1]
                  have hI3 : RI (uT T (inR (T 0) a x) 0) := by rw [uT_0]; exact RI_in hI2 ha.1 (by omega) (by omega) c35 hx
                  have hk3 : ∀ k j, k ≠ 0 → uT T (inR (T 0) a x) k j = T9 k j := fun k j hk0 => (by show (if k = 0 then _ else _) = _; rw [if_neg hk0]; exact hk k j hk0)
                  have hu3 := hu.trans (buZ_3 (x := x) (b := b) ha.1 (by omega) (by omega) c35)
                  rw [← uT_0 (T := T) (r := inR (T 0) a x)] at hu3
                  refine r_iinc (pc := 158) (L' := [_, _, _, _, _]) dX3_burns_158 rfl rfl ?_
                  refine r_goto (pc := 161) (tgt := 4) dX3_burns_161 (by decide) ?_
                  refine go_L (L' := [some _, some _, some _, some _, none]) ⟨rfl, rfl, rfl, rfl, trivial⟩ ?_
                  exact ih4 _ _ _ _ hm (by first | exact hI2 | exact hI3) (by first | exact hk | exact hk3) (by first | omega | (rw [h30]; omega)) (by first | exact hu.trans (buZ_1 (by omega) (by omega)) | exact hu3) (by omega)
            · refine r_iconst (pc := 94) dX3_burns_94 ?_
              refine r_goto (pc := 95) (tgt := 104) dX3_burns_95 (by decide) ?_
              refine r_callV (pc := 104) (kb' := 0) dX3_burns_104 kX3_la q2831 (t_la hm (by omega) (by omega) (by omega)) hm.1.1 rfl (Nat.le_refl _) (Nat.le_of_ble_eq_true rfl) rfl rfl (Nat.le_of_ble_eq_true rfl) (fun _ _ q => q.elim) (fun _ _ hq => go_V hq (fun h hm1 => ?_))
              have hm := hm.tr hm1
              refine r_aload_n (pc := 107) dX3_burns_107 rfl ?_
              refine r_iload_n (pc := 108) dX3_burns_108 rfl ?_
              refine r_iconst (pc := 109) dX3_burns_109 ?_
              refine r_iload (pc := 110) dX3_burns_110 rfl ?_
              refine r_ifB_eq (pc := 112) (tgt := 135) dX3_burns_112 (by decide) (fun c112 => ?_) (fun c112 => ?_)
              · refine r_aload_n (pc := 135) dX3_burns_135 rfl ?_
                refine r_iload_n (pc := 136) dX3_burns_136 rfl ?_
                refine r_iconst (pc := 137) dX3_burns_137 ?_
                refine r_callV (pc := 138) (kb' := 0) dX3_burns_138 kX3_av q2815 (t_av hm (by omega) (by omega)) hm.1.1 rfl (Nat.le_refl _) (Nat.le_of_ble_eq_true rfl) rfl rfl (Nat.le_of_ble_eq_true rfl) (fun _ _ q => q.elim) (fun _ _ hq => go_E hq ?_)
                refine go_n2 (fA (T 0) a 1) (by show sT _ _ _ _ _ _ = _; (repeat rw [sT_i (by omega)]); first | done | rfl) (fun z138 e138 => ?_)
                refine r_callV (pc := 141) (kb' := 0) dX3_burns_141 kX3_la q2831 (t_la hm (by omega) (by omega) (by omega)) hm.1.1 rfl (Nat.le_refl _) (Nat.le_of_ble_eq_true rfl) rfl rfl (Nat.le_of_ble_eq_true rfl) (fun _ _ q => q.elim) (fun _ _ hq => go_V hq (fun h hm1 => ?_))
                have hm := hm.tr hm1
                refine r_aload_n (pc := 144) dX3_burns_144 rfl ?_
                refine r_iload_n (pc := 145) dX3_burns_145 rfl ?_
                refine r_iconst (pc := 146) dX3_burns_146 ?_
                refine r_aload_n (pc := 147) dX3_burns_147 rfl ?_
                refine r_iload_n (pc := 148) dX3_burns_148 rfl ?_
                refine r_iconst (pc := 149) dX3_burns_149 ?_
                refine r_callV (pc := 150) (kb' := 0) dX3_burns_150 kX3_av q2815 (t_av hm (by omega) (by omega)) hm.1.1 rfl (Nat.le_refl _) (Nat.le_of_ble_eq_true rfl) rfl rfl (Nat.le_of_ble_eq_true rfl) (fun _ _ q => q.elim) (fun _ _ hq => go_E hq ?_)
                refine go_n2 (fA (T 0) a 5) (by show sT _ _ _ _ _ _ = _; (repeat rw [sT_i (by omega)]); first | done | rfl) (fun z150 e150 => ?_)
                refine r_iconst (pc := 153) dX3_burns_153 ?_
                refine r_iadd (pc := 154) dX3_burns_154 ?_
                refine go_zN ?_
                refine r_callV (pc := 155) (kb' := 0) dX3_burns_155 kX3_la q2831 (t_la hm (by omega) (by omega) (nz_in _)) hm.1.1 rfl (Nat.le_refl _) (Nat.le_of_ble_eq_true rfl) rfl rfl (Nat.le_of_ble_eq_true rfl) (fun _ _ q => q.elim) (fun _ _ hq => go_V hq (fun h hm1 => ?_))
                have hm := hm.tr hm1
                have hm := hm.to (T' := uT T (inR (T 0) a x)) (by funext k j; simp only [sT, uT, inR, e150]; (repeat' split) <;> (subst_vars; first | rfl | omega | (congr 1; omega) | (simp_all; done) | (simp_all; omega)))
                have h30 : uT T (inR (T 0) a x) 0 0 = T 0 0 := by rw [uT_0, in_0 ha.1]
                have hI3 : RI (uT T (inR (T 0) a x) 0) := by rw [uT_0]; exact RI_in hI2 ha.1 (by omega) (by omega) c35 hx
                have hk3 : ∀ k j, k ≠ 0 → uT T (inR (T 0) a x) k j = T9 k j := fun k j hk0 => (by show (if k = 0 then _ else _) = _; rw [if_neg hk0]; exact hk k j hk0)
                have hu3 := hu.trans (buZ_3 (x := x) (b := b) ha.1 (by omega) (by omega) c35)
                rw [← uT_0 (T := T) (r := inR (T 0) a x)] at hu3
                refine r_iinc (pc := 158) (L' := [_, _, _, _, _]) dX3_burns_158 rfl rfl ?_
                refine r_goto (pc := 161) (tgt := 4) dX3_burns_161 (by decide) ?_
                refine go_L (L' := [some _, some _, some _, some _, none]) ⟨rfl, rfl, rfl, rfl, trivial⟩ ?_
                exact ih4 _ _ _ _ hm (by first | exact hI2 | exact hI3) (by first | exact hk | exact hk3) (by first | omega | (rw [h30]; omega)) (by first | exact hu.trans (buZ_1 (by omega) (by omega)) | exact hu3) (by omega)
              · refine r_aload_n (pc := 115) dX3_burns_115 rfl ?_
                refine r_iload_n (pc := 116) dX3_burns_116 rfl ?_
                refine r_iconst (pc := 117) dX3_burns_117 ?_
                refine r_callV (pc := 118) (kb' := 0) dX3_burns_118 kX3_av q2815 (t_av hm (by omega) (by omega)) hm.1.1 rfl (Nat.le_refl _) (Nat.le_of_ble_eq_true rfl) rfl rfl (Nat.le_of_ble_eq_true rfl) (fun _ _ q => q.elim) (fun _ _ hq => go_E hq ?_)
                refine go_n2 (fA (T 0) a 1) (by show sT _ _ _ _ _ _ = _; (repeat rw [sT_i (by omega)]); first | done | rfl) (fun z118 e118 => ?_)
                refine r_if_le (pc := 121) (tgt := 135) dX3_burns_121 (by decide) (by first | omega | exact rfB_in _ | exact nz_in _ | exact hm.r _ _) (fun c121 => ?_) (fun c121 => ?_)
                · refine r_aload_n (pc := 135) dX3_burns_135 rfl ?_
                  refine r_iload_n (pc := 136) dX3_burns_136 rfl ?_
                  refine r_iconst (pc := 137) dX3_burns_137 ?_
                  refine r_callV (pc := 138) (kb' := 0) dX3_burns_138 kX3_av q2815 (t_av hm (by omega) (by omega)) hm.1.1 rfl (Nat.le_refl _) (Nat.le_of_ble_eq_true rfl) rfl rfl (Nat.le_of_ble_eq_true rfl) (fun _ _ q => q.elim) (fun _ _ hq => go_E hq ?_)
                  refine go_n2 (fA (T 0) a 1) (by show sT _ _ _ _ _ _ = _; (repeat rw [sT_i (by omega)]); first | done | rfl) (fun z138 e138 => ?_)
                  refine r_callV (pc := 141) (kb' := 0) dX3_burns_141 kX3_la q2831 (t_la hm (by omega) (by omega) (by omega)) hm.1.1 rfl (Nat.le_refl _) (Nat.le_of_ble_eq_true rfl) rfl rfl (Nat.le_of_ble_eq_true rfl) (fun _ _ q => q.elim) (fun _ _ hq => go_V hq (fun h hm1 => ?_))
                  have hm := hm.tr hm1
                  refine r_aload_n (pc := 144) dX3_burns_144 rfl ?_
                  refine r_iload_n (pc := 145) dX3_burns_145 rfl ?_
                  refine r_iconst (pc := 146) dX3_burns_146 ?_
                  refine r_aload_n (pc := 147) dX3_burns_147 rfl ?_
                  refine r_iload_n (pc := 148) dX3_burns_148 rfl ?_
                  refine r_iconst (pc := 149) dX3_burns_149 ?_
                  refine r_callV (pc := 150) (kb' := 0) dX3_burns_150 kX3_av q2815 (t_av hm (by omega) (by omega)) hm.1.1 rfl (Nat.le_refl _) (Nat.le_of_ble_eq_true rfl) rfl rfl (Nat.le_of_ble_eq_true rfl) (fun _ _ q => q.elim) (fun _ _ hq => go_E hq ?_)
                  refine go_n2 (fA (T 0) a 5) (by show sT _ _ _ _ _ _ = _; (repeat rw [sT_i (by omega)]); first | done | rfl) (fun z150 e150 => ?_)
                  refine r_iconst (pc := 153) dX3_burns_153 ?_
                  refine r_iadd (pc := 154) dX3_burns_154 ?_
                  refine go_zN ?_
                  refine r_callV (pc := 155) (kb' := 0) dX3_burns_155 kX3_la q2831 (t_la hm (by omega) (by omega) (nz_in _)) hm.1.1 rfl (Nat.le_refl _) (Nat.le_of_ble_eq_true rfl) rfl rfl (Nat.le_of_ble_eq_true rfl) (fun _ _ q => q.elim) (fun _ _ hq => go_V hq (fun h hm1 => ?_))
                  have hm := hm.tr hm1
                  have hm := hm.to (T' := uT T (inR (T 0) a x)) (by funext k j; simp only [sT, uT, inR, e150]; (repeat' split) <;> (subst_vars; first | rfl | omega | (congr 1; omega) | (simp_all; done) | (simp_all; omega)))
                  have h30 : uT T (inR (T 0) a x) 0 0 = T 0 0 := by rw [uT_0, in_0 ha.1]
                  have hI3 : RI (uT T (inR (T 0) a x) 0) := by rw [uT_0]; exact RI_in hI2 ha.1 (by omega) (by omega) c35 hx
                  have hk3 : ∀ k j, k ≠ 0 → uT T (inR (T 0) a x) k j = T9 k j := fun k j hk0 => (by show (if k = 0 then _ else _) = _; rw [if_neg hk0]; exact hk k j hk0)
                  have hu3 := hu.trans (buZ_3 (x := x) (b := b) ha.1 (by omega) (by omega) c35)
                  rw [← uT_0 (T := T) (r := inR (T 0) a x)] at hu3
                  refine r_iinc (pc := 158) (L' := [_, _, _, _, _]) dX3_burns_158 rfl rfl ?_
                  refine r_goto (pc := 161) (tgt := 4) dX3_burns_161 (by decide) ?_
                  refine go_L (L' := [some _, some _, some _, some _, none]) ⟨rfl, rfl, rfl, rfl, trivial⟩ ?_
                  exact ih4 _ _ _ _ hm (by first | exact hI2 | exact hI3) (by first | exact hk | exact hk3) (by first | omega | (rw [h30]; omega)) (by first | exact hu.trans (buZ_1 (by omega) (by omega)) | exact hu3) (by omega)
                · refine r_aload_n (pc := 124) dX3_burns_124 rfl ?_
                  refine r_iload_n (pc := 125) dX3_burns_125 rfl ?_
                  refine r_iconst (pc := 126) dX3_burns_126 ?_
                  refine r_callV (pc := 127) (kb' := 0) dX3_burns_127 kX3_av q2815 (t_av hm (by omega) (by omega)) hm.1.1 rfl (Nat.le_refl _) (Nat.le_of_ble_eq_true rfl) rfl rfl (Nat.le_of_ble_eq_true rfl) (fun _ _ q => q.elim) (fun _ _ hq => go_E hq ?_)
                  refine go_n2 (fA (T 0) a 1) (by show sT _ _ _ _ _ _ = _; (repeat rw [sT_i (by omega)]); first | done | rfl) (fun z127 e127 => ?_)
                  refine r_iconst (pc := 130) dX3_burns_130 ?_
                  refine r_isub (pc := 131) dX3_burns_131 ?_
                  refine r_goto (pc := 132) (tgt := 141) dX3_burns_132 (by decide) ?_
                  refine r_callV (pc := 141) (kb' := 0) dX3_burns_141 kX3_la q2831 (t_la hm (by omega) (by omega) (by omega)) hm.1.1 rfl (Nat.le_refl _) (Nat.le_of_ble_eq_true rfl) rfl rfl (Nat.le_of_ble_eq_true rfl) (fun _ _ q => q.elim) (fun _ _ hq => go_V hq (fun h hm1 => ?_))
                  have hm := hm.tr hm1
                  refine r_aload_n (pc := 144) dX3_burns_144 rfl ?_
                  refine r_iload_n (pc := 145) dX3_burns_145 rfl ?_
                  refine r_iconst (pc := 146) dX3_burns_146 ?_
                  refine r_aload_n (pc := 147) dX3_burns_147 rfl ?_
                  refine r_iload_n (pc := 148) dX3_burns_148 rfl ?_
                  refine r_iconst (pc := 149) dX3_burns_149 ?_
                  refine r_callV (pc := 150) (kb' := 0) dX3_burns_150 kX3_av q2815 (t_av hm (by omega) (by omega)) hm.1.1 rfl (Nat.le_refl _) (Nat.le_of_ble_eq_true rfl) rfl rfl (Nat.le_of_ble_eq_true rfl) (fun _ _ q => q.elim) (fun _ _ hq => go_E hq ?_)
                  refine go_n2 (fA (T 0) a 5) (by show sT _ _ _ _ _ _ = _; (repeat rw [sT_i (by omega)]); first | done | rfl) (fun z150 e150 => ?_)
                  refine r_iconst (pc := 153) dX3_burns_153 ?_
                  refine r_iadd (pc := 154) dX3_burns_154 ?_
                  refine go_zN ?_
                  refine r_callV (pc := 155) (kb' := 0) dX3_burns_155 kX3_la q2831 (t_la hm (by omega) (by omega) (nz_in _)) hm.1.1 rfl (Nat.le_refl _) (Nat.le_of_ble_eq_true rfl) rfl rfl (Nat.le_of_ble_eq_true rfl) (fun _ _ q => q.elim) (fun _ _ hq => go_V hq (fun h hm1 => ?_))
                  have hm := hm.tr hm1
                  have hm := hm.to (T' := uT T (inR (T 0) a x)) (by funext k j; simp only [sT, uT, inR, e150]; (repeat' split) <;> (subst_vars; first | rfl | omega | (congr 1; omega) | (simp_all; done) | (simp_all; omega)))
                  have h30 : uT T (inR (T 0) a x) 0 0 = T 0 0 := by rw [uT_0, in_0 ha.1]
                  have hI3 : RI (uT T (inR (T 0) a x) 0) := by rw [uT_0]; exact RI_in hI2 ha.1 (by omega) (by omega) c35 hx
                  have hk3 : ∀ k j, k ≠ 0 → uT T (inR (T 0) a x) k j = T9 k j := fun k j hk0 => (by show (if k = 0 then _ else _) = _; rw [if_neg hk0]; exact hk k j hk0)
                  have hu3 := hu.trans (buZ_3 (x := x) (b := b) ha.1 (by omega) (by omega) c35)
                  rw [← uT_0 (T := T) (r := inR (T 0) a x)] at hu3
                  refine r_iinc (pc := 158) (L' := [_, _, _, _, _]) dX3_burns_158 rfl rfl ?_
                  refine r_goto (pc := 161) (tgt := 4) dX3_burns_161 (by decide) ?_
                  refine go_L (L' := [some _, some _, some _, some _, none]) ⟨rfl, rfl, rfl, rfl, trivial⟩ ?_
                  exact ih4 _ _ _ _ hm (by first | exact hI2 | exact hI3) (by first | exact hk | exact hk3) (by first | omega | (rw [h30]; omega)) (by first | exact hu.trans (buZ_1 (by omega) (by omega)) | exact hu3) (by omega)
          · refine r_aload_n (pc := 38) dX3_burns_38 rfl ?_
            refine r_aload_n (pc := 39) dX3_burns_39 rfl ?_
            refine r_iload_n (pc := 40) dX3_burns_40 rfl ?_
            refine r_iconst (pc := 41) dX3_burns_41 ?_
            refine r_callV (pc := 42) (kb' := 0) dX3_burns_42 kX3_av q2815 (t_av hm (by omega) (by omega)) hm.1.1 rfl (Nat.le_refl _) (Nat.le_of_ble_eq_true rfl) rfl rfl (Nat.le_of_ble_eq_true rfl) (fun _ _ q => q.elim) (fun _ _ hq => go_E hq ?_)
            refine r_callV (pc := 45) (kb' := 0) dX3_burns_45 kX3_shardComes q2909 (t_shardComes hm (by omega) (by omega)) hm.1.1 rfl (Nat.le_refl _) (Nat.le_of_ble_eq_true rfl) rfl rfl (Nat.le_of_ble_eq_true rfl) (fun _ _ q => q.elim) (fun _ _ hq => go_V hq (fun h hm1 => ?_))
            have hm := hm.tr hm1
            refine r_aload_n (pc := 48) dX3_burns_48 rfl ?_
            refine r_iload_n (pc := 49) dX3_burns_49 rfl ?_
            refine r_callV (pc := 50) (kb' := 0) dX3_burns_50 kX3_goes q2917 (t_goes hm (by rw [uT_0]; exact RI_sc hI2 (by omega)) (by rw [uT_0, sc_0 hI2]; omega)) hm.1.1 rfl (Nat.le_refl _) (Nat.le_of_ble_eq_true rfl) rfl rfl (Nat.le_of_ble_eq_true rfl) (fun _ _ q => q.elim) (fun _ _ hq => go_V hq (fun h hm1 => ?_))
            have hm := hm.tr hm1
            have hm := hm.to (T' := uT T (goR (scR (T 0) (fA (T 0) a 0)) a)) (by rw [uT_0, uT_uT])
            have h30 : uT T (goR (scR (T 0) (fA (T 0) a 0)) a) 0 0 = T 0 0 - 1 := by rw [uT_0, go_0, sc_0 hI2]
            have hI3 : RI (uT T (goR (scR (T 0) (fA (T 0) a 0)) a) 0) := by rw [uT_0]; exact RI_go (RI_sc hI2 (by omega)) ha.1 (by rw [sc_0 hI2]; omega) (by rw [sc_A hI2 ha.1 (by omega)]; omega)
            have hk3 : ∀ k j, k ≠ 0 → uT T (goR (scR (T 0) (fA (T 0) a 0)) a) k j = T9 k j := fun k j hk0 => (by show (if k = 0 then _ else _) = _; rw [if_neg hk0]; exact hk k j hk0)
            have hu3 := hu.trans (buZ_2 hI2 ha.1 (by omega) (by omega) c35)
            rw [← uT_0 (T := T) (r := goR (scR (T 0) (fA (T 0) a 0)) a)] at hu3
            refine r_iinc (pc := 53) (L' := [_, _, _, _, _]) dX3_burns_53 rfl rfl ?_
            refine r_goto (pc := 56) (tgt := 4) dX3_burns_56 (by decide) ?_
            refine go_L (L' := [some _, some _, some _, some _, none]) ⟨rfl, rfl, rfl, rfl, trivial⟩ ?_
            exact ih4 _ _ _ _ hm (by first | exact hI2 | exact hI3) (by first | exact hk | exact hk3) (by first | omega | (rw [h30]; omega)) (by first | exact hu.trans (buZ_1 (by omega) (by omega)) | exact hu3) (by omega)
        · refine r_iinc (pc := 23) (L' := [_, _, _, _, _]) dX3_burns_23 rfl rfl ?_
          refine r_goto (pc := 26) (tgt := 4) dX3_burns_26 (by decide) ?_
          refine go_L (L' := [some _, some _, some _, some _, none]) ⟨rfl, rfl, rfl, rfl, trivial⟩ ?_
          exact ih4 _ _ _ _ hm (by first | exact hI2 | exact hI3) (by first | exact hk | exact hk3) (by first | omega | (rw [h30]; omega)) (by first | exact hu.trans (buZ_1 (by omega) (by omega)) | exact hu3) (by omega)
  have hb := hI.1
  exact loop4 ((T9 0 0).toNat + 1) _ _ _ _ hm hI (fun _ _ _ => rfl) (by have := hI.1; omega) (by rw [Int.sub_zero]) (by omega)
