set_option maxRecDepth 100000
theorem t_inWord {G : Gl} {h : Hp} {k a b c d e f : Int} (hk : InR k) : Ct G 1 0 yX3_inWord (Cond.code yX3_inWord cX3_inWord 7 (some .int)) [.int (iZ k), .int (iZ a), .int (iZ b), .int (iZ c), .int (iZ d), .int (iZ e), .int (iZ f)] h (RE (inW k a b c d e f) h) noX := by
  refine Ct.of (own := eM) (nm := "inWord") (by decide +kernel) rfl rfl (L := [some (.int (iZ k)), some (.int (iZ a)), some (.int (iZ b)), some (.int (iZ c)), some (.int (iZ d)), some (.int (iZ e)), some (.int (iZ f))]) rfl (Nat.le_of_ble_eq_true rfl) rfl ?_
  refine r_iload_n (pc := 0) dX3_inWord_0 rfl ?_
  by_cases w1_0 : k = 0
  · refine r_tableIn (pc := 1) (off := 39) (tgt := 40) dX3_inWord_1 (by omega) (by omega) (by omega) (by rw [w1_0]; rfl) (by decide) ?_
    refine r_iload_n (pc := 40) dX3_inWord_40 rfl ?_
    exact e_ret (pc := 41) dX3_inWord_41 rfl (by unfold inW; (repeat' split) <;> first | rfl | omega)
  by_cases w1_1 : k = 1
  · refine r_tableIn (pc := 1) (off := 41) (tgt := 42) dX3_inWord_1 (by omega) (by omega) (by omega) (by rw [w1_1]; rfl) (by decide) ?_
    refine r_iload_n (pc := 42) dX3_inWord_42 rfl ?_
    exact e_ret (pc := 43) dX3_inWord_43 rfl (by unfold inW; (repeat' split) <;> first | rfl | omega)
  by_cases w1_2 : k = 2
  · refine r_tableIn (pc := 1) (off := 43) (tgt := 44) dX3_inWord_1 (by omega) (by omega) (by omega) (by rw [w1_2]; rfl) (by decide) ?_
    refine r_iload_n (pc := 44) dX3_inWord_44 rfl ?_
    exact e_ret (pc := 45) dX3_inWord_45 rfl (by unfold inW; (repeat' split) <;> first | rfl | omega)
  by_cases w1_3 : k = 3
  · refine r_tableIn (pc := 1) (off := 45) (tgt := 46) dX3_inWord_1 (by omega) (by omega) (by omega) (by rw [w1_3]; rfl) (by decide) ?_
    refine r_iload (pc := 46) dX3_inWord_46 rfl ?_
    exact e_ret (pc := 48) dX3_inWord_48 rfl (by unfold inW; (repeat' split) <;> first | rfl | omega)
  by_cases w1_4 : k = 4
  · refine r_tableIn (pc := 1) (off := 48) (tgt := 49) dX3_inWord_1 (by omega) (by omega) (by omega) (by rw [w1_4]; rfl) (by decide) ?_
    refine r_iload (pc := 49) dX3_inWord_49 rfl ?_
    exact e_ret (pc := 51) dX3_inWord_51 rfl (by unfold inW; (repeat' split) <;> first | rfl | omega)
  by_cases w1_5 : k = 5
  · refine r_tableIn (pc := 1) (off := 51) (tgt := 52) dX3_inWord_1 (by omega) (by omega) (by omega) (by rw [w1_5]; rfl) (by decide) ?_
    refine r_iload (pc := 52) dX3_inWord_52 rfl ?_
    exact e_ret (pc := 54) dX3_inWord_54 rfl (by unfold inW; (repeat' split) <;> first | rfl | omega)
  refine r_tableOut (pc := 1) (tgt := 55) dX3_inWord_1 (by first | omega | exact rfB_in _ | exact nz_in _ | exact hm.r _ _) (by omega) (by decide) ?_
  refine r_iconst (pc := 55) dX3_inWord_55 ?_
  exact e_ret (pc := 56) dX3_inWord_56 rfl (by unfold inW; (repeat' split) <;> first | rfl | omega)
theorem t_letter {G : Gl} {h : Hp} {k i : Int} (hk : InR k) (hi : InR i) : Ct G 2 0 yX3_letter (Cond.code yX3_letter cX3_letter 2 (some .int)) [.int (iZ k), .int (iZ i)] h (RE (lt k i) h) noX := by
  refine Ct.of (own := eM) (nm := "letter") (by decide +kernel) rfl rfl (L := [some (.int (iZ k)), some (.int (iZ i))]) rfl (Nat.le_of_ble_eq_true rfl) rfl ?_
  refine r_iload_n (pc := 0) dX3_letter_0 rfl ?_
  by_cases w1_0 : k = 0
  · refine r_tableIn (pc := 1) (off := 43) (tgt := 44) dX3_letter_1 (by omega) (by omega) (by omega) (by rw [w1_0]; rfl) (by decide) ?_
    refine r_iload_n (pc := 44) dX3_letter_44 rfl ?_
    refine r_bipush (pc := 45) dX3_letter_45 (by decide) ?_
    refine r_bipush (pc := 47) dX3_letter_47 (by decide) ?_
    refine r_bipush (pc := 49) dX3_letter_49 (by decide) ?_
    refine r_bipush (pc := 51) dX3_letter_51 (by decide) ?_
    refine r_iconst (pc := 53) dX3_letter_53 ?_
    refine r_iconst (pc := 54) dX3_letter_54 ?_
    refine r_callS (pc := 55) (kb' := 0) dX3_letter_55 kX3_inWord q3139 (t_inWord (by omega)) (Nat.le_refl _) (Nat.le_of_ble_eq_true rfl) rfl rfl (Nat.le_of_ble_eq_true rfl) (fun _ _ q => q.elim) (fun _ _ hq => go_E hq ?_)
    exact e_ret (pc := 58) dX3_letter_58 rfl (by unfold lt; (repeat' split) <;> first | rfl | omega)
  by_cases w1_1 : k = 1
  · refine r_tableIn (pc := 1) (off := 58) (tgt := 59) dX3_letter_1 (by omega) (by omega) (by omega) (by rw [w1_1]; rfl) (by decide) ?_
    refine r_iload_n (pc := 59) dX3_letter_59 rfl ?_
    refine r_bipush (pc := 60) dX3_letter_60 (by decide) ?_
    refine r_bipush (pc := 62) dX3_letter_62 (by decide) ?_
    refine r_bipush (pc := 64) dX3_letter_64 (by decide) ?_
    refine r_bipush (pc := 66) dX3_letter_66 (by decide) ?_
    refine r_bipush (pc := 68) dX3_letter_68 (by decide) ?_
    refine r_iconst (pc := 70) dX3_letter_70 ?_
    refine r_callS (pc := 71) (kb' := 0) dX3_letter_71 kX3_inWord q3139 (t_inWord (by omega)) (Nat.le_refl _) (Nat.le_of_ble_eq_true rfl) rfl rfl (Nat.le_of_ble_eq_true rfl) (fun _ _ q => q.elim) (fun _ _ hq => go_E hq ?_)
    exact e_ret (pc := 74) dX3_letter_74 rfl (by unfold lt; (repeat' split) <;> first | rfl | omega)
  by_cases w1_2 : k = 2
  · refine r_tableIn (pc := 1) (off := 74) (tgt := 75) dX3_letter_1 (by omega) (by omega) (by omega) (by rw [w1_2]; rfl) (by decide) ?_
    refine r_iload_n (pc := 75) dX3_letter_75 rfl ?_
    refine r_bipush (pc := 76) dX3_letter_76 (by decide) ?_
    refine r_bipush (pc := 78) dX3_letter_78 (by decide) ?_
    refine r_bipush (pc := 80) dX3_letter_80 (by decide) ?_
    refine r_bipush (pc := 82) dX3_letter_82 (by decide) ?_
    refine r_bipush (pc := 84) dX3_letter_84 (by decide) ?_
    refine r_bipush (pc := 86) dX3_letter_86 (by decide) ?_
    refine r_callS (pc := 88) (kb' := 0) dX3_letter_88 kX3_inWord q3139 (t_inWord (by omega)) (Nat.le_refl _) (Nat.le_of_ble_eq_true rfl) rfl rfl (Nat.le_of_ble_eq_true rfl) (fun _ _ q => q.elim) (fun _ _ hq => go_E hq ?_)
    exact e_ret (pc := 91) dX3_letter_91 rfl (by unfold lt; (repeat' split) <;> first | rfl | omega)
  by_cases w1_3 : k = 3
  · refine r_tableIn (pc := 1) (off := 91) (tgt := 92) dX3_letter_1 (by omega) (by omega) (by omega) (by rw [w1_3]; rfl) (by decide) ?_
    refine r_iload_n (pc := 92) dX3_letter_92 rfl ?_
    refine r_bipush (pc := 93) dX3_letter_93 (by decide) ?_
    refine r_bipush (pc := 95) dX3_letter_95 (by decide) ?_
    refine r_bipush (pc := 97) dX3_letter_97 (by decide) ?_
    refine r_bipush (pc := 99) dX3_letter_99 (by decide) ?_
    refine r_iconst (pc := 101) dX3_letter_101 ?_
    refine r_iconst (pc := 102) dX3_letter_102 ?_
    refine r_callS (pc := 103) (kb' := 0) dX3_letter_103 kX3_inWord q3139 (t_inWord (by omega)) (Nat.le_refl _) (Nat.le_of_ble_eq_true rfl) rfl rfl (Nat.le_of_ble_eq_true rfl) (fun _ _ q => q.elim) (fun _ _ hq => go_E hq ?_)
    exact e_ret (pc := 106) dX3_letter_106 rfl (by unfold lt; (repeat' split) <;> first | rfl | omega)
  by_cases w1_4 : k = 4
  · refine r_tableIn (pc := 1) (off := 106) (tgt := 107) dX3_letter_1 (by omega) (by omega) (by omega) (by rw [w1_4]; rfl) (by decide) ?_
    refine r_iload_n (pc := 107) dX3_letter_107 rfl ?_
    refine r_bipush (pc := 108) dX3_letter_108 (by decide) ?_
    refine r_bipush (pc := 110) dX3_letter_110 (by decide) ?_
    refine r_bipush (pc := 112) dX3_letter_112 (by decide) ?_
    refine r_bipush (pc := 114) dX3_letter_114 (by decide) ?_
    refine r_iconst (pc := 116) dX3_letter_116 ?_
    refine r_iconst (pc := 117) dX3_letter_117 ?_
    refine r_callS (pc := 118) (kb' := 0) dX3_letter_118 kX3_inWord q3139 (t_inWord (by omega)) (Nat.le_refl _) (Nat.le_of_ble_eq_true rfl) rfl rfl (Nat.le_of_ble_eq_true rfl) (fun _ _ q => q.elim) (fun _ _ hq => go_E hq ?_)
    exact e_ret (pc := 121) dX3_letter_121 rfl (by unfold lt; (repeat' split) <;> first | rfl | omega)
  by_cases w1_5 : k = 5
  · refine r_tableIn (pc := 1) (off := 121) (tgt := 122) dX3_letter_1 (by omega) (by omega) (by omega) (by rw [w1_5]; rfl) (by decide) ?_
    refine r_iload_n (pc := 122) dX3_letter_122 rfl ?_
    refine r_bipush (pc := 123) dX3_letter_123 (by decide) ?_
    refine r_bipush (pc := 125) dX3_letter_125 (by decide) ?_
    refine r_bipush (pc := 127) dX3_letter_127 (by decide) ?_
    refine r_bipush (pc := 129) dX3_letter_129 (by decide) ?_
    refine r_bipush (pc := 131) dX3_letter_131 (by decide) ?_
    refine r_bipush (pc := 133) dX3_letter_133 (by decide) ?_
    refine r_callS (pc := 135) (kb' := 0) dX3_letter_135 kX3_inWord q3139 (t_inWord (by omega)) (Nat.le_refl _) (Nat.le_of_ble_eq_true rfl) rfl rfl (Nat.le_of_ble_eq_true rfl) (fun _ _ q => q.elim) (fun _ _ hq => go_E hq ?_)
    exact e_ret (pc := 138) dX3_letter_138 rfl (by unfold lt; (repeat' split) <;> first | rfl | omega)
  by_cases w1_6 : k = 6
  · refine r_tableIn (pc := 1) (off := 138) (tgt := 139) dX3_letter_1 (by omega) (by omega) (by omega) (by rw [w1_6]; rfl) (by decide) ?_
    refine r_iload_n (pc := 139) dX3_letter_139 rfl ?_
    refine r_bipush (pc := 140) dX3_letter_140 (by decide) ?_
    refine r_bipush (pc := 142) dX3_letter_142 (by decide) ?_
    refine r_bipush (pc := 144) dX3_letter_144 (by decide) ?_
    refine r_bipush (pc := 146) dX3_letter_146 (by decide) ?_
    refine r_bipush (pc := 148) dX3_letter_148 (by decide) ?_
    refine r_bipush (pc := 150) dX3_letter_150 (by decide) ?_
    refine r_callS (pc := 152) (kb' := 0) dX3_letter_152 kX3_inWord q3139 (t_inWord (by omega)) (Nat.le_refl _) (Nat.le_of_ble_eq_true rfl) rfl rfl (Nat.le_of_ble_eq_true rfl) (fun _ _ q => q.elim) (fun _ _ hq => go_E hq ?_)
    exact e_ret (pc := 155) dX3_letter_155 rfl (by unfold lt; (repeat' split) <;> first | rfl | omega)
  refine r_tableOut (pc := 1) (tgt := 156) dX3_letter_1 (by first | omega | exact rfB_in _ | exact nz_in _ | exact hm.r _ _) (by omega) (by decide) ?_
  refine r_iload_n (pc := 156) dX3_letter_156 rfl ?_
  refine r_bipush (pc := 157) dX3_letter_157 (by decide) ?_
  refine r_bipush (pc := 159) dX3_letter_159 (by decide) ?_
  refine r_bipush (pc := 161) dX3_letter_161 (by decide) ?_
  refine r_bipush (pc := 163) dX3_letter_163 (by decide) ?_
  refine r_bipush (pc := 165) dX3_letter_165 (by decide) ?_
  refine r_iconst (pc := 167) dX3_letter_167 ?_
  refine r_callS (pc := 168) (kb' := 0) dX3_letter_168 kX3_inWord q3139 (t_inWord (by omega)) (Nat.le_refl _) (Nat.le_of_ble_eq_true rfl) rfl rfl (Nat.le_of_ble_eq_true rfl) (fun _ _ q => q.elim) (fun _ _ hq => go_E hq ?_)
  exact e_ret (pc := 171) dX3_letter_171 rfl (by unfold lt; (repeat' split) <;> first | rfl | omega)
theorem t_kindHere {G : Gl} {m : Nat} {ad : Nat → Nat} {h0 h : Hp} {T : TM} (hm : TI m ad h0 T h) (hs : 0 ≤ T 20 0 ∧ T 20 0 ≤ T 19 0 ∧ T 19 0 ≤ 60) (hw : T 22 0 = 0) : Ct G 3 0 yX3_kindHere (Cond.code yX3_kindHere cX3_kindHere 4 (some .int)) [.ref m] h (RT m ad h ((kh (T 15) (T 19 0) (T 20 0)).1) (bbT T (kh (T 15) (T 19 0) (T 20 0)))) noX := by
  have hm := hm.nw
  refine Ct.of (own := eM) (nm := "kindHere") (by decide +kernel) rfl rfl (L := [some (.ref m), none, none, none]) rfl (Nat.le_of_ble_eq_true rfl) rfl ?_
  refine r_iconst (pc := 0) dX3_kindHere_0 ?_
  refine r_istore_n (pc := 1) (L' := [_, _, _, _]) dX3_kindHere_1 rfl ?_
  refine r_iconst (pc := 2) dX3_kindHere_2 ?_
  refine r_istore_n (pc := 3) (L' := [_, _, _, _]) dX3_kindHere_3 rfl ?_
  have loop4 : ∀ (n : Nat) (most z : Int) , (0 ≤ z ∧ z ≤ 8) → (0 ≤ most ∧ T 20 0 + most ≤ T 19 0) → kh (T 15) (T 19 0) (T 20 0) = khZ (T 15) (T 19 0) (T 20 0) (8 - z).toNat z most → 8 - z < n → Go G eM cX3_kindHere (4, some .int, "kindHere", []) 3 0 (RT m ad h ((kh (T 15) (T 19 0) (T 20 0)).1) (bbT T (kh (T 15) (T 19 0) (T 20 0)))) noX 0 h 4 [some (.ref m), some (.int (iZ most)), some (.int (iZ z)), none] [] := by
    intro n
    induction n with
    | zero => intro most z hz hm2 hb hn; omega
    | succ n ih4 =>
      intro most z hz hm2 hb hn
      have hki := km_in (tx := T 15) (n := T 19 0) (p := T 20 0) (kind := z) (by omega)
      refine r_iload_n (pc := 4) dX3_kindHere_4 rfl ?_
      refine r_bipush (pc := 5) dX3_kindHere_5 (by decide) ?_
      refine r_icmp_ge (pc := 7) (tgt := 95) dX3_kindHere_7 (by decide) (by first | omega | exact rfB_in _ | exact nz_in _ | exact hm.r _ _) (by first | omega | exact rfB_in _ | exact nz_in _ | exact hm.r _ _) (fun c7 => ?_) (fun c7 => ?_)
      · have g1 : kh (T 15) (T 19 0) (T 20 0) = (0, T 20 0 + most, 1) := (by rw [hb, show (8 - z).toNat = 0 by omega]; rfl)
        refine r_aload_n (pc := 95) dX3_kindHere_95 rfl ?_
        refine r_dup (pc := 96) dX3_kindHere_96 rfl ?_
        refine gX3_72 (pc := 97) dX3_kindHere_97 hm.1.1 rfl ?_; have r97 := hm.r 20 0
        refine r_iload_n (pc := 100) dX3_kindHere_100 rfl ?_
        refine r_iadd (pc := 101) dX3_kindHere_101 ?_
        refine pX3_72 (pc := 102) dX3_kindHere_102 hm.1.1 (by decide) (Nat.le_of_ble_eq_true rfl) ?_
        refine t_put 20 rfl hm (by first | omega | exact rfB_in _ | exact nz_in _ | exact hm.r _ _) (fun h hm => ?_)
        refine r_aload_n (pc := 105) dX3_kindHere_105 rfl ?_
        refine r_iconst (pc := 106) dX3_kindHere_106 ?_
        refine pX3_78 (pc := 107) dX3_kindHere_107 (iZ01 (by first | (left; rfl) | (right; rfl) | exact bZ_01 _ | omega)) hm.1.1 (by decide) (Nat.le_of_ble_eq_true rfl) ?_
        refine t_putB 22 (by decide) hm (by first | (left; rfl) | (right; rfl) | exact bZ_01 _ | omega) (fun h hm => ?_)
        refine r_iconst (pc := 110) dX3_kindHere_110 ?_
        exact e_retT (pc := 111) dX3_kindHere_111 rfl hm (by rw [g1]) (by rw [g1]; first | exact bbT_w hw | rfl)
      · refine r_iconst (pc := 10) dX3_kindHere_10 ?_
        refine r_istore_n (pc := 11) (L' := [_, _, _, _]) dX3_kindHere_11 rfl ?_
        have loop12 : ∀ (n : Nat) (k : Int) (f : Nat) , (0 ≤ k ∧ k ≤ 6 ∧ T 20 0 + k ≤ T 19 0 ∧ k + f = 7) → km (T 15) (T 19 0) (T 20 0) z = kmZ (T 15) (T 19 0) (T 20 0) z f k → 7 - k < n → Go G eM cX3_kindHere (4, some .int, "kindHere", []) 3 0 (RT m ad h ((kh (T 15) (T 19 0) (T 20 0)).1) (bbT T (kh (T 15) (T 19 0) (T 20 0)))) noX 0 h 12 [some (.ref m), some (.int (iZ most)), some (.int (iZ z)), some (.int (iZ k))] [] := by
          intro n
          induction n with
          | zero => intro k f hk2 hk hn; omega
          | succ n ih12 =>
            intro k f hk2 hk hn
            refine r_iload_n (pc := 12) dX3_kindHere_12 rfl ?_
            refine r_iload_n (pc := 13) dX3_kindHere_13 rfl ?_
            refine r_callS (pc := 14) (kb' := 0) dX3_kindHere_14 kX3_letter q3136 (t_letter (by omega) (by omega)) (Nat.le_refl _) (Nat.le_of_ble_eq_true rfl) rfl rfl (Nat.le_of_ble_eq_true rfl) (fun _ _ q => q.elim) (fun _ _ hq => go_E hq ?_)
            have hl := lt_in z k
            refine r_if_le (pc := 17) (tgt := 58) dX3_kindHere_17 (by decide) (by first | omega | exact rfB_in _ | exact nz_in _ | exact hm.r _ _) (fun c17 => ?_) (fun c17 => ?_)
            · have hkm : km (T 15) (T 19 0) (T 20 0) z = k := km_f hk (by first | (intro q; omega) | omega)
              refine r_iload_n (pc := 58) dX3_kindHere_58 rfl ?_
              refine r_iload_n (pc := 59) dX3_kindHere_59 rfl ?_
              refine r_callS (pc := 60) (kb' := 0) dX3_kindHere_60 kX3_letter q3136 (t_letter (by omega) (by omega)) (Nat.le_refl _) (Nat.le_of_ble_eq_true rfl) rfl rfl (Nat.le_of_ble_eq_true rfl) (fun _ _ q => q.elim) (fun _ _ hq => go_E hq ?_)
              have hl := lt_in z k
              refine r_if_ne (pc := 63) (tgt := 78) dX3_kindHere_63 (by decide) (by first | omega | exact rfB_in _ | exact nz_in _ | exact hm.r _ _) (fun c63 => ?_) (fun c63 => ?_)
              · refine r_iload_n (pc := 78) dX3_kindHere_78 rfl ?_
                refine r_iload_n (pc := 79) dX3_kindHere_79 rfl ?_
                refine r_icmp_le (pc := 80) (tgt := 87) dX3_kindHere_80 (by decide) (by first | omega | exact rfB_in _ | exact nz_in _ | exact hm.r _ _) (by first | omega | exact rfB_in _ | exact nz_in _ | exact hm.r _ _) (fun c80 => ?_) (fun c80 => ?_)
                · refine r_iload_n (pc := 87) dX3_kindHere_87 rfl ?_
                  refine r_istore_n (pc := 88) (L' := [_, _, _, _]) dX3_kindHere_88 rfl ?_
                  refine r_iinc (pc := 89) (L' := [_, _, _, _]) dX3_kindHere_89 rfl rfl ?_
                  refine r_goto (pc := 92) (tgt := 4) dX3_kindHere_92 (by decide) ?_
                  refine go_L (L' := [some _, some _, some _, none]) ⟨rfl, rfl, rfl, trivial⟩ ?_
                  exact ih4 _ _ (by omega) (by omega) (by rw [kh_2 hb (by omega) (by rw [hkm]; omega), hkm, show (8 - (z + 1)).toNat = (8 - z).toNat - 1 by omega]; congr 1; first | exact if_pos (by omega) | exact if_neg (by omega)) (by omega)
                · refine r_iload_n (pc := 83) dX3_kindHere_83 rfl ?_
                  refine r_goto (pc := 84) (tgt := 88) dX3_kindHere_84 (by decide) ?_
                  refine r_istore_n (pc := 88) (L' := [_, _, _, _]) dX3_kindHere_88 rfl ?_
                  refine r_iinc (pc := 89) (L' := [_, _, _, _]) dX3_kindHere_89 rfl rfl ?_
                  refine r_goto (pc := 92) (tgt := 4) dX3_kindHere_92 (by decide) ?_
                  refine go_L (L' := [some _, some _, some _, none]) ⟨rfl, rfl, rfl, trivial⟩ ?_
                  exact ih4 _ _ (by omega) (by omega) (by rw [kh_2 hb (by omega) (by rw [hkm]; omega), hkm, show (8 - (z + 1)).toNat = (8 - z).toNat - 1 by omega]; congr 1; first | exact if_pos (by omega) | exact if_neg (by omega)) (by omega)
              · have g1 : kh (T 15) (T 19 0) (T 20 0) = (z, T 20 0 + k, 0) := (by rw [kh_1 hb (by omega) (by rw [hkm]; omega), hkm])
                refine r_aload_n (pc := 66) dX3_kindHere_66 rfl ?_
                refine r_dup (pc := 67) dX3_kindHere_67 rfl ?_
                refine gX3_72 (pc := 68) dX3_kindHere_68 hm.1.1 rfl ?_; have r68 := hm.r 20 0
                refine r_iload_n (pc := 71) dX3_kindHere_71 rfl ?_
                refine r_iadd (pc := 72) dX3_kindHere_72 ?_
                refine pX3_72 (pc := 73) dX3_kindHere_73 hm.1.1 (by decide) (Nat.le_of_ble_eq_true rfl) ?_
                refine t_put 20 rfl hm (by first | omega | exact rfB_in _ | exact nz_in _ | exact hm.r _ _) (fun h hm => ?_)
                refine r_iload_n (pc := 76) dX3_kindHere_76 rfl ?_
                exact e_retT (pc := 77) dX3_kindHere_77 rfl hm (by rw [g1]) (by rw [g1]; first | exact bbT_w hw | rfl)
            · refine r_aload_n (pc := 20) dX3_kindHere_20 rfl ?_
              refine gX3_72 (pc := 21) dX3_kindHere_21 hm.1.1 rfl ?_; have r21 := hm.r 20 0
              refine r_iload_n (pc := 24) dX3_kindHere_24 rfl ?_
              refine r_iadd (pc := 25) dX3_kindHere_25 ?_
              refine r_aload_n (pc := 26) dX3_kindHere_26 rfl ?_
              refine gX3_69 (pc := 27) dX3_kindHere_27 hm.1.1 rfl ?_; have r27 := hm.r 19 0
              refine r_icmp_ge (pc := 30) (tgt := 58) dX3_kindHere_30 (by decide) (by first | omega | exact rfB_in _ | exact nz_in _ | exact hm.r _ _) (by first | omega | exact rfB_in _ | exact nz_in _ | exact hm.r _ _) (fun c30 => ?_) (fun c30 => ?_)
              · have hkm : km (T 15) (T 19 0) (T 20 0) z = k := km_f hk (by first | (intro q; omega) | omega)
                refine r_iload_n (pc := 58) dX3_kindHere_58 rfl ?_
                refine r_iload_n (pc := 59) dX3_kindHere_59 rfl ?_
                refine r_callS (pc := 60) (kb' := 0) dX3_kindHere_60 kX3_letter q3136 (t_letter (by omega) (by omega)) (Nat.le_refl _) (Nat.le_of_ble_eq_true rfl) rfl rfl (Nat.le_of_ble_eq_true rfl) (fun _ _ q => q.elim) (fun _ _ hq => go_E hq ?_)
                have hl := lt_in z k
                refine r_if_ne (pc := 63) (tgt := 78) dX3_kindHere_63 (by decide) (by first | omega | exact rfB_in _ | exact nz_in _ | exact hm.r _ _) (fun c63 => ?_) (fun c63 => ?_)
                · refine r_iload_n (pc := 78) dX3_kindHere_78 rfl ?_
                  refine r_iload_n (pc := 79) dX3_kindHere_79 rfl ?_
                  refine r_icmp_le (pc := 80) (tgt := 87) dX3_kindHere_80 (by decide) (by first | omega | exact rfB_in _ | exact nz_in _ | exact hm.r _ _) (by first | omega | exact rfB_in _ | exact nz_in _ | exact hm.r _ _) (fun c80 => ?_) (fun c80 => ?_)
                  · refine r_iload_n (pc := 87) dX3_kindHere_87 rfl ?_
                    refine r_istore_n (pc := 88) (L' := [_, _, _, _]) dX3_kindHere_88 rfl ?_
                    refine r_iinc (pc := 89) (L' := [_, _, _, _]) dX3_kindHere_89 rfl rfl ?_
                    refine r_goto (pc := 92) (tgt := 4) dX3_kindHere_92 (by decide) ?_
                    refine go_L (L' := [some _, some _, some _, none]) ⟨rfl, rfl, rfl, trivial⟩ ?_
                    exact ih4 _ _ (by omega) (by omega) (by rw [kh_2 hb (by omega) (by rw [hkm]; omega), hkm, show (8 - (z + 1)).toNat = (8 - z).toNat - 1 by omega]; congr 1; first | exact if_pos (by omega) | exact if_neg (by omega)) (by omega)
                  · refine r_iload_n (pc := 83) dX3_kindHere_83 rfl ?_
                    refine r_goto (pc := 84) (tgt := 88) dX3_kindHere_84 (by decide) ?_
                    refine r_istore_n (pc := 88) (L' := [_, _, _, _]) dX3_kindHere_88 rfl ?_
                    refine r_iinc (pc := 89) (L' := [_, _, _, _]) dX3_kindHere_89 rfl rfl ?_
                    refine r_goto (pc := 92) (tgt := 4) dX3_kindHere_92 (by decide) ?_
                    refine go_L (L' := [some _, some _, some _, none]) ⟨rfl, rfl, rfl, trivial⟩ ?_
                    exact ih4 _ _ (by omega) (by omega) (by rw [kh_2 hb (by omega) (by rw [hkm]; omega), hkm, show (8 - (z + 1)).toNat = (8 - z).toNat - 1 by omega]; congr 1; first | exact if_pos (by omega) | exact if_neg (by omega)) (by omega)
                · have g1 : kh (T 15) (T 19 0) (T 20 0) = (z, T 20 0 + k, 0) := (by rw [kh_1 hb (by omega) (by rw [hkm]; omega), hkm])
                  refine r_aload_n (pc := 66) dX3_kindHere_66 rfl ?_
                  refine r_dup (pc := 67) dX3_kindHere_67 rfl ?_
                  refine gX3_72 (pc := 68) dX3_kindHere_68 hm.1.1 rfl ?_; have r68 := hm.r 20 0
                  refine r_iload_n (pc := 71) dX3_kindHere_71 rfl ?_
                  refine r_iadd (pc := 72) dX3_kindHere_72 ?_
                  refine pX3_72 (pc := 73) dX3_kindHere_73 hm.1.1 (by decide) (Nat.le_of_ble_eq_true rfl) ?_
                  refine t_put 20 rfl hm (by first | omega | exact rfB_in _ | exact nz_in _ | exact hm.r _ _) (fun h hm => ?_)
                  refine r_iload_n (pc := 76) dX3_kindHere_76 rfl ?_
                  exact e_retT (pc := 77) dX3_kindHere_77 rfl hm (by rw [g1]) (by rw [g1]; first | exact bbT_w hw | rfl)
              · refine r_aload_n (pc := 33) dX3_kindHere_33 rfl ?_
                refine gX3_57 (pc := 34) dX3_kindHere_34 hm.1.1 rfl ?_
                refine r_aload_n (pc := 37) dX3_kindHere_37 rfl ?_
                refine gX3_72 (pc := 38) dX3_kindHere_38 hm.1.1 rfl ?_; have r38 := hm.r 20 0
                refine r_iload_n (pc := 41) dX3_kindHere_41 rfl ?_
                refine r_iadd (pc := 42) dX3_kindHere_42 ?_
                refine t_iald (pc := 43) (lim := 60) 15 dX3_kindHere_43 hm (by decide) rfl (by first | omega | exact rfB_in _ | exact nz_in _ | exact hm.r _ _) (fun r43 => ?_)
                refine r_iload_n (pc := 44) dX3_kindHere_44 rfl ?_
                refine r_iload_n (pc := 45) dX3_kindHere_45 rfl ?_
                refine r_callS (pc := 46) (kb' := 0) dX3_kindHere_46 kX3_letter q3136 (t_letter (by omega) (by omega)) (Nat.le_refl _) (Nat.le_of_ble_eq_true rfl) rfl rfl (Nat.le_of_ble_eq_true rfl) (fun _ _ q => q.elim) (fun _ _ hq => go_E hq ?_)
                have hl := lt_in z k
                refine r_icmp_ne (pc := 49) (tgt := 58) dX3_kindHere_49 (by decide) (by first | omega | exact rfB_in _ | exact nz_in _ | exact hm.r _ _) (by first | omega | exact rfB_in _ | exact nz_in _ | exact hm.r _ _) (fun c49 => ?_) (fun c49 => ?_)
                · have hkm : km (T 15) (T 19 0) (T 20 0) z = k := km_f hk (by first | (intro q; omega) | omega)
                  refine r_iload_n (pc := 58) dX3_kindHere_58 rfl ?_
                  refine r_iload_n (pc := 59) dX3_kindHere_59 rfl ?_
                  refine r_callS (pc := 60) (kb' := 0) dX3_kindHere_60 kX3_letter q3136 (t_letter (by omega) (by omega)) (Nat.le_refl _) (Nat.le_of_ble_eq_true rfl) rfl rfl (Nat.le_of_ble_eq_true rfl) (fun _ _ q => q.elim) (fun _ _ hq => go_E hq ?_)
                  have hl := lt_in z k
                  refine r_if_ne (pc := 63) (tgt := 78) dX3_kindHere_63 (by decide) (by first | omega | exact rfB_in _ | exact nz_in _ | exact hm.r _ _) (fun c63 => ?_) (fun c63 => ?_)
                  · refine r_iload_n (pc := 78) dX3_kindHere_78 rfl ?_
                    refine r_iload_n (pc := 79) dX3_kindHere_79 rfl ?_
                    refine r_icmp_le (pc := 80) (tgt := 87) dX3_kindHere_80 (by decide) (by first | omega | exact rfB_in _ | exact nz_in _ | exact hm.r _ _) (by first | omega | exact rfB_in _ | exact nz_in _ | exact hm.r _ _) (fun c80 => ?_) (fun c80 => ?_)
                    · refine r_iload_n (pc := 87) dX3_kindHere_87 rfl ?_
                      refine r_istore_n (pc := 88) (L' := [_, _, _, _]) dX3_kindHere_88 rfl ?_
                      refine r_iinc (pc := 89) (L' := [_, _, _, _]) dX3_kindHere_89 rfl rfl ?_
                      refine r_goto (pc := 92) (tgt := 4) dX3_kindHere_92 (by decide) ?_
                      refine go_L (L' := [some _, some _, some _, none]) ⟨rfl, rfl, rfl, trivial⟩ ?_
                      exact ih4 _ _ (by omega) (by omega) (by rw [kh_2 hb (by omega) (by rw [hkm]; omega), hkm, show (8 - (z + 1)).toNat = (8 - z).toNat - 1 by omega]; congr 1; first | exact if_pos (by omega) | exact if_neg (by omega)) (by omega)
                    · refine r_iload_n (pc := 83) dX3_kindHere_83 rfl ?_
                      refine r_goto (pc := 84) (tgt := 88) dX3_kindHere_84 (by decide) ?_
                      refine r_istore_n (pc := 88) (L' := [_, _, _, _]) dX3_kindHere_88 rfl ?_
                      refine r_iinc (pc := 89) (L' := [_, _, _, _]) dX3_kindHere_89 rfl rfl ?_
                      refine r_goto (pc := 92) (tgt := 4) dX3_kindHere_92 (by decide) ?_
                      refine go_L (L' := [some _, some _, some _, none]) ⟨rfl, rfl, rfl, trivial⟩ ?_
                      exact ih4 _ _ (by omega) (by omega) (by rw [kh_2 hb (by omega) (by rw [hkm]; omega), hkm, show (8 - (z + 1)).toNat = (8 - z).toNat - 1 by omega]; congr 1; first | exact if_pos (by omega) | exact if_neg (by omega)) (by omega)
                  · have g1 : kh (T 15) (T 19 0) (T 20 0) = (z, T 20 0 + k, 0) := (by rw [kh_1 hb (by omega) (by rw [hkm]; omega), hkm])
                    refine r_aload_n (pc := 66) dX3_kindHere_66 rfl ?_
                    refine r_dup (pc := 67) dX3_kindHere_67 rfl ?_
                    refine gX3_72 (pc := 68) dX3_kindHere_68 hm.1.1 rfl ?_; have r68 := hm.r 20 0
                    refine r_iload_n (pc := 71) dX3_kindHere_71 rfl ?_
                    refine r_iadd (pc := 72) dX3_kindHere_72 ?_
                    refine pX3_72 (pc := 73) dX3_kindHere_73 hm.1.1 (by decide) (Nat.le_of_ble_eq_true rfl) ?_
                    refine t_put 20 rfl hm (by first | omega | exact rfB_in _ | exact nz_in _ | exact hm.r _ _) (fun h hm => ?_)
                    refine r_iload_n (pc := 76) dX3_kindHere_76 rfl ?_
                    exact e_retT (pc := 77) dX3_kindHere_77 rfl hm (by rw [g1]) (by rw [g1]; first | exact bbT_w hw | rfl)
                · refine r_iinc (pc := 52) (L' := [_, _, _, _]) dX3_kindHere_52 rfl rfl ?_
                  refine r_goto (pc := 55) (tgt := 12) dX3_kindHere_55 (by decide) ?_
                  exact ih12 (k + 1) (f - 1) (by have h6 := fun h => lt_6 (kind := z) (k := k) h; omega) (km_t hk (by omega) (by omega)) (by omega)
        exact loop12 8 0 7 (by omega) rfl (by omega)
  exact loop4 9 0 0 (by omega) (by omega) rfl (by omega)
