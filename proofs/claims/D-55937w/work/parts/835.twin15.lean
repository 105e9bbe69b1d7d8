set_option maxRecDepth 100000
theorem t_wouldBurst {G : Gl} {m : Nat} {ad : Nat → Nat} {h0 h9 : Hp} {T : TM} (hm : TI m ad h0 T h9) {x : Int} (hI : RI (T 0)) (hx : InR x) : Ct G 5 0 yX3_wouldBurst (Cond.code yX3_wouldBurst cX3_wouldBurst 4 (some .int)) [.ref m, .int (iZ x)] h9 (RT m ad h9 (zBur (T 0) x) (sT T 5 0 (kHt x))) noX := by
  have hm := hm.nw
  have hb := hI.1
  have o9 := fun x => onSh_in (r := T 0) (s := x) (by omega)
  have p9 : ∀ x, InR (plOf (T 0) x) := fun x => (fnd_in (N := T 0 1) (p := fun k => T 0 (12 + k) = x) (by omega)).2.2
  refine Ct.of (own := eM) (nm := "wouldBurst") (by decide +kernel) rfl rfl (L := [some (.ref m), some (.int (iZ x)), none, none]) rfl (Nat.le_of_ble_eq_true rfl) rfl ?_
  refine r_aload_n (pc := 0) dX3_wouldBurst_0 rfl ?_
  refine r_iload_n (pc := 1) dX3_wouldBurst_1 rfl ?_
  refine r_callS (pc := 2) (kb' := 0) dX3_wouldBurst_2 kX3_isHeat q2887 (t_isHeat (by first | omega | (simp only [th0]; omega))) (Nat.le_refl _) (Nat.le_of_ble_eq_true rfl) rfl rfl (Nat.le_of_ble_eq_true rfl) (fun _ _ q => q.elim) (fun _ _ hq => go_E hq ?_)
  try simp only [th0]
  refine r_ifB_eq (pc := 5) (tgt := 12) dX3_wouldBurst_5 (by decide) (fun c5 => ?_) (fun c5 => ?_)
  · refine r_iconst (pc := 12) dX3_wouldBurst_12 ?_
    refine pX3_25 (pc := 13) dX3_wouldBurst_13 hm.1.1 (by decide) (Nat.le_of_ble_eq_true rfl) ?_
    refine t_put 5 rfl hm (by first | omega | exact rfB_in _ | exact nz_in _ | exact hm.r _ _) (fun h hm => ?_)
    refine r_iconst (pc := 16) dX3_wouldBurst_16 ?_
    refine r_istore_n (pc := 17) (L' := [_, _, _, _]) dX3_wouldBurst_17 rfl ?_
    refine r_iconst (pc := 18) dX3_wouldBurst_18 ?_
    refine r_istore_n (pc := 19) (L' := [_, _, _, _]) dX3_wouldBurst_19 rfl ?_
    have loop20 : ∀ (n : Nat) (w : Int32) (a : Int) , (0 ≤ a ∧ a ≤ T 0 0) → w = btW (fun a => burP (T 0) a x) a.toNat → (kHt x = 0 ∨ a = 0) → T 0 0 - a < n → Go G eM cX3_wouldBurst (4, some .int, "wouldBurst", []) 5 0 (RT m ad h9 (zBur (T 0) x) (sT T 5 0 (kHt x))) noX 0 h 20 [some (.ref m), some (.int (iZ x)), some (.int w), some (.int (iZ a))] [] := by
      intro n
      induction n with
      | zero => intro w a ha hw h5 hn; omega
      | succ n ih20 =>
        intro w a ha hw h5 hn
        refine r_iload_n (pc := 20) dX3_wouldBurst_20 rfl ?_
        refine r_aload_n (pc := 21) dX3_wouldBurst_21 rfl ?_
        refine gX3_7 (pc := 22) dX3_wouldBurst_22 hm.1.1 rfl ?_
        refine r_iconst (pc := 25) dX3_wouldBurst_25 ?_
        refine t_iald (pc := 26) (lim := 140) 0 dX3_wouldBurst_26 hm (by decide) rfl (by first | omega | exact rfB_in _ | exact nz_in _ | exact hm.r _ _) (fun r26 => ?_)
        refine go_nm (fun z26 e26 => ?_)
        have r26 := InR_of e26 r26
        try simp [sT, cpT, cpN] at e26
        refine r_icmp_ge (pc := 27) (tgt := 62) dX3_wouldBurst_27 (by decide) (by first | omega | exact rfB_in _ | exact nz_in _ | exact hm.r _ _) (by first | omega | exact rfB_in _ | exact nz_in _ | exact hm.r _ _) (fun c27 => ?_) (fun c27 => ?_)
        · refine r_iload_n (pc := 62) dX3_wouldBurst_62 rfl ?_
          exact e_retTW (pc := 63) dX3_wouldBurst_63 rfl hm (by first | (exfalso; omega) | (rw [show zBur (T 0) x = btZ (fun a => burP (T 0) a x) (T 0 0) from if_pos (if_pos (by omega)), hw, show a = T 0 0 by omega]; exact btZ_e) | (rw [show zBur (T 0) x = 0 from if_neg (by rw [show kHt x = 1 from if_neg (by omega)]; decide), hw, h5.resolve_left (by rw [show kHt x = 1 from if_neg (by omega)]; decide)]; rfl)) (by first | (rw [sT_sT]; congr 1; unfold kHt; (repeat' split) <;> first | rfl | omega) | (congr 1; unfold kHt; (repeat' split) <;> first | rfl | omega))
        · refine r_aload_n (pc := 30) dX3_wouldBurst_30 rfl ?_
          refine gX3_25 (pc := 31) dX3_wouldBurst_31 hm.1.1 rfl ?_; have r31 := hm.r 5 0
          refine go_nm (fun z31 e31 => ?_)
          have r31 := InR_of e31 r31
          try simp [sT, cpT, cpN] at e31
          refine r_if_ne (pc := 34) (tgt := 62) dX3_wouldBurst_34 (by decide) (by first | omega | exact rfB_in _ | exact nz_in _ | exact hm.r _ _) (fun c34 => ?_) (fun c34 => ?_)
          · refine r_iload_n (pc := 62) dX3_wouldBurst_62 rfl ?_
            exact e_retTW (pc := 63) dX3_wouldBurst_63 rfl hm (by first | (exfalso; omega) | (rw [show zBur (T 0) x = btZ (fun a => burP (T 0) a x) (T 0 0) from if_pos (if_pos (by omega)), hw, show a = T 0 0 by omega]; exact btZ_e) | (rw [show zBur (T 0) x = 0 from if_neg (by rw [show kHt x = 1 from if_neg (by omega)]; decide), hw, h5.resolve_left (by rw [show kHt x = 1 from if_neg (by omega)]; decide)]; rfl)) (by first | (rw [sT_sT]; congr 1; unfold kHt; (repeat' split) <;> first | rfl | omega) | (congr 1; unfold kHt; (repeat' split) <;> first | rfl | omega))
          · refine r_iload_n (pc := 37) dX3_wouldBurst_37 rfl ?_
            refine r_aload_n (pc := 38) dX3_wouldBurst_38 rfl ?_
            refine r_iload_n (pc := 39) dX3_wouldBurst_39 rfl ?_
            refine r_iload_n (pc := 40) dX3_wouldBurst_40 rfl ?_
            refine r_callV (pc := 41) (kb' := 0) dX3_wouldBurst_41 kX3_bursts q2894 (t_bursts hm (by first | exact hI | (rw [th0]; exact hI)) (by first | omega | (simp only [th0]; omega)) (by first | omega | (simp only [th0]; omega))) hm.1.1 rfl (Nat.le_refl _) (Nat.le_of_ble_eq_true rfl) rfl rfl (Nat.le_of_ble_eq_true rfl) (fun _ _ q => q.elim) (fun _ _ hq => go_E hq ?_)
            try simp only [th0]
            refine r_ifB_eq (pc := 44) (tgt := 53) dX3_wouldBurst_44 (by decide) (fun c44 => ?_) (fun c44 => ?_)
            · refine r_iconst (pc := 53) dX3_wouldBurst_53 ?_
              refine q_ior (pc := 54) dX3_wouldBurst_54 ?_
              refine r_istore_n (pc := 55) (L' := [_, _, _, _]) dX3_wouldBurst_55 rfl ?_
              refine r_iinc (pc := 56) (L' := [_, _, _, _]) dX3_wouldBurst_56 rfl rfl ?_
              refine r_goto (pc := 59) (tgt := 20) dX3_wouldBurst_59 (by decide) ?_
              exact ih20 _ _ (by omega) (by first | omega | exact bt_t (p := (fun a => burP (T 0) a x)) ha.1 hw (by omega) | exact bt_f (p := (fun a => burP (T 0) a x)) ha.1 hw (by omega)) (by first | (exfalso; omega) | exact Or.inl (if_pos (by omega))) (by omega)
            · refine r_iconst (pc := 47) dX3_wouldBurst_47 ?_
              refine r_iload_n (pc := 48) dX3_wouldBurst_48 rfl ?_
              refine q_ishl (pc := 49) dX3_wouldBurst_49 ?_
              refine r_goto (pc := 50) (tgt := 54) dX3_wouldBurst_50 (by decide) ?_
              refine q_ior (pc := 54) dX3_wouldBurst_54 ?_
              refine r_istore_n (pc := 55) (L' := [_, _, _, _]) dX3_wouldBurst_55 rfl ?_
              refine r_iinc (pc := 56) (L' := [_, _, _, _]) dX3_wouldBurst_56 rfl rfl ?_
              refine r_goto (pc := 59) (tgt := 20) dX3_wouldBurst_59 (by decide) ?_
              exact ih20 _ _ (by omega) (by first | omega | exact bt_t (p := (fun a => burP (T 0) a x)) ha.1 hw (by omega) | exact bt_f (p := (fun a => burP (T 0) a x)) ha.1 hw (by omega)) (by first | (exfalso; omega) | exact Or.inl (if_pos (by omega))) (by omega)
    exact loop20 ((T 0 0).toNat + 1) _ _ (by omega) rfl (Or.inr rfl) (by omega)
  · refine r_iconst (pc := 8) dX3_wouldBurst_8 ?_
    refine r_goto (pc := 9) (tgt := 13) dX3_wouldBurst_9 (by decide) ?_
    refine pX3_25 (pc := 13) dX3_wouldBurst_13 hm.1.1 (by decide) (Nat.le_of_ble_eq_true rfl) ?_
    refine t_put 5 rfl hm (by first | omega | exact rfB_in _ | exact nz_in _ | exact hm.r _ _) (fun h hm => ?_)
    refine r_iconst (pc := 16) dX3_wouldBurst_16 ?_
    refine r_istore_n (pc := 17) (L' := [_, _, _, _]) dX3_wouldBurst_17 rfl ?_
    refine r_iconst (pc := 18) dX3_wouldBurst_18 ?_
    refine r_istore_n (pc := 19) (L' := [_, _, _, _]) dX3_wouldBurst_19 rfl ?_
    have loop20 : ∀ (n : Nat) (w : Int32) (a : Int) , (0 ≤ a ∧ a ≤ T 0 0) → w = btW (fun a => burP (T 0) a x) a.toNat → (kHt x = 0 ∨ a = 0) → T 0 0 - a < n → Go G eM cX3_wouldBurst (4, some .int, "wouldBurst", []) 5 0 (RT m ad h9 (zBur (T 0) x) (sT T 5 0 (kHt x))) noX 0 h 20 [some (.ref m), some (.int (iZ x)), some (.int w), some (.int (iZ a))] [] := by
      intro n
      induction n with
      | zero => intro w a ha hw h5 hn; omega
      | succ n ih20 =>
        intro w a ha hw h5 hn
        refine r_iload_n (pc := 20) dX3_wouldBurst_20 rfl ?_
        refine r_aload_n (pc := 21) dX3_wouldBurst_21 rfl ?_
        refine gX3_7 (pc := 22) dX3_wouldBurst_22 hm.1.1 rfl ?_
        refine r_iconst (pc := 25) dX3_wouldBurst_25 ?_
        refine t_iald (pc := 26) (lim := 140) 0 dX3_wouldBurst_26 hm (by decide) rfl (by first | omega | exact rfB_in _ | exact nz_in _ | exact hm.r _ _) (fun r26 => ?_)
        refine go_nm (fun z26 e26 => ?_)
        have r26 := InR_of e26 r26
        try simp [sT, cpT, cpN] at e26
        refine r_icmp_ge (pc := 27) (tgt := 62) dX3_wouldBurst_27 (by decide) (by first | omega | exact rfB_in _ | exact nz_in _ | exact hm.r _ _) (by first | omega | exact rfB_in _ | exact nz_in _ | exact hm.r _ _) (fun c27 => ?_) (fun c27 => ?_)
        · refine r_iload_n (pc := 62) dX3_wouldBurst_62 rfl ?_
          exact e_retTW (pc := 63) dX3_wouldBurst_63 rfl hm (by first | (exfalso; omega) | (rw [show zBur (T 0) x = btZ (fun a => burP (T 0) a x) (T 0 0) from if_pos (if_pos (by omega)), hw, show a = T 0 0 by omega]; exact btZ_e) | (rw [show zBur (T 0) x = 0 from if_neg (by rw [show kHt x = 1 from if_neg (by omega)]; decide), hw, h5.resolve_left (by rw [show kHt x = 1 from if_neg (by omega)]; decide)]; rfl)) (by first | (rw [sT_sT]; congr 1; unfold kHt; (repeat' split) <;> first | rfl | omega) | (congr 1; unfold kHt; (repeat' split) <;> first | rfl | omega))
        · refine r_aload_n (pc := 30) dX3_wouldBurst_30 rfl ?_
          refine gX3_25 (pc := 31) dX3_wouldBurst_31 hm.1.1 rfl ?_; have r31 := hm.r 5 0
          refine go_nm (fun z31 e31 => ?_)
          have r31 := InR_of e31 r31
          try simp [sT, cpT, cpN] at e31
          refine r_if_ne (pc := 34) (tgt := 62) dX3_wouldBurst_34 (by decide) (by first | omega | exact rfB_in _ | exact nz_in _ | exact hm.r _ _) (fun c34 => ?_) (fun c34 => ?_)
          · refine r_iload_n (pc := 62) dX3_wouldBurst_62 rfl ?_
            exact e_retTW (pc := 63) dX3_wouldBurst_63 rfl hm (by first | (exfalso; omega) | (rw [show zBur (T 0) x = btZ (fun a => burP (T 0) a x) (T 0 0) from if_pos (if_pos (by omega)), hw, show a = T 0 0 by omega]; exact btZ_e) | (rw [show zBur (T 0) x = 0 from if_neg (by rw [show kHt x = 1 from if_neg (by omega)]; decide), hw, h5.resolve_left (by rw [show kHt x = 1 from if_neg (by omega)]; decide)]; rfl)) (by first | (rw [sT_sT]; congr 1; unfold kHt; (repeat' split) <;> first | rfl | omega) | (congr 1; unfold kHt; (repeat' split) <;> first | rfl | omega))
          · refine r_iload_n (pc := 37) dX3_wouldBurst_37 rfl ?_
            refine r_aload_n (pc := 38) dX3_wouldBurst_38 rfl ?_
            refine r_iload_n (pc := 39) dX3_wouldBurst_39 rfl ?_
            refine r_iload_n (pc := 40) dX3_wouldBurst_40 rfl ?_
            refine r_callV (pc := 41) (kb' := 0) dX3_wouldBurst_41 kX3_bursts q2894 (t_bursts hm (by first | exact hI | (rw [th0]; exact hI)) (by first | omega | (simp only [th0]; omega)) (by first | omega | (simp only [th0]; omega))) hm.1.1 rfl (Nat.le_refl _) (Nat.le_of_ble_eq_true rfl) rfl rfl (Nat.le_of_ble_eq_true rfl) (fun _ _ q => q.elim) (fun _ _ hq => go_E hq ?_)
            try simp only [th0]
            refine r_ifB_eq (pc := 44) (tgt := 53) dX3_wouldBurst_44 (by decide) (fun c44 => ?_) (fun c44 => ?_)
            · refine r_iconst (pc := 53) dX3_wouldBurst_53 ?_
              refine q_ior (pc := 54) dX3_wouldBurst_54 ?_
              refine r_istore_n (pc := 55) (L' := [_, _, _, _]) dX3_wouldBurst_55 rfl ?_
              refine r_iinc (pc := 56) (L' := [_, _, _, _]) dX3_wouldBurst_56 rfl rfl ?_
              refine r_goto (pc := 59) (tgt := 20) dX3_wouldBurst_59 (by decide) ?_
              exact ih20 _ _ (by omega) (by first | omega | exact bt_t (p := (fun a => burP (T 0) a x)) ha.1 hw (by omega) | exact bt_f (p := (fun a => burP (T 0) a x)) ha.1 hw (by omega)) (by first | (exfalso; omega) | exact Or.inl (if_pos (by omega))) (by omega)
            · refine r_iconst (pc := 47) dX3_wouldBurst_47 ?_
              refine r_iload_n (pc := 48) dX3_wouldBurst_48 rfl ?_
              refine q_ishl (pc := 49) dX3_wouldBurst_49 ?_
              refine r_goto (pc := 50) (tgt := 54) dX3_wouldBurst_50 (by decide) ?_
              refine q_ior (pc := 54) dX3_wouldBurst_54 ?_
              refine r_istore_n (pc := 55) (L' := [_, _, _, _]) dX3_wouldBurst_55 rfl ?_
              refine r_iinc (pc := 56) (L' := [_, _, _, _]) dX3_wouldBurst_56 rfl rfl ?_
              refine r_goto (pc := 59) (tgt := 20) dX3_wouldBurst_59 (by decide) ?_
              exact ih20 _ _ (by omega) (by first | omega | exact bt_t (p := (fun a => burP (T 0) a x)) ha.1 hw (by omega) | exact bt_f (p := (fun a => burP (T 0) a x)) ha.1 hw (by omega)) (by first | (exfalso; omega) | exact Or.inl (if_pos (by omega))) (by omega)
    exact loop20 ((T 0 0).toNat + 1) _ _ (by omega) rfl (Or.inr rfl) (by omega)
theorem t_wouldFire {G : Gl} {m : Nat} {ad : Nat → Nat} {h0 h9 : Hp} {T : TM} (hm : TI m ad h0 T h9) {x : Int} (hI : RI (T 0)) (hx : InR x) : Ct G 3 0 yX3_wouldFire (Cond.code yX3_wouldFire cX3_wouldFire 4 (some .int)) [.ref m, .int (iZ x)] h9 (RT m ad h9 (zWfi (T 0) x) (sT T 5 0 (kHt x))) noX := by
  have hm := hm.nw
  have hb := hI.1
  have o9 := fun x => onSh_in (r := T 0) (s := x) (by omega)
  have p9 : ∀ x, InR (plOf (T 0) x) := fun x => (fnd_in (N := T 0 1) (p := fun k => T 0 (12 + k) = x) (by omega)).2.2
  refine Ct.of (own := eM) (nm := "wouldFire") (by decide +kernel) rfl rfl (L := [some (.ref m), some (.int (iZ x)), none, none]) rfl (Nat.le_of_ble_eq_true rfl) rfl ?_
  refine r_aload_n (pc := 0) dX3_wouldFire_0 rfl ?_
  refine r_iload_n (pc := 1) dX3_wouldFire_1 rfl ?_
  refine r_callS (pc := 2) (kb' := 0) dX3_wouldFire_2 kX3_isHeat q2887 (t_isHeat (by first | omega | (simp only [th0]; omega))) (Nat.le_refl _) (Nat.le_of_ble_eq_true rfl) rfl rfl (Nat.le_of_ble_eq_true rfl) (fun _ _ q => q.elim) (fun _ _ hq => go_E hq ?_)
  try simp only [th0]
  refine r_ifB_eq (pc := 5) (tgt := 12) dX3_wouldFire_5 (by decide) (fun c5 => ?_) (fun c5 => ?_)
  · refine r_iconst (pc := 12) dX3_wouldFire_12 ?_
    refine pX3_25 (pc := 13) dX3_wouldFire_13 hm.1.1 (by decide) (Nat.le_of_ble_eq_true rfl) ?_
    refine t_put 5 rfl hm (by first | omega | exact rfB_in _ | exact nz_in _ | exact hm.r _ _) (fun h hm => ?_)
    refine r_iconst (pc := 16) dX3_wouldFire_16 ?_
    refine r_istore_n (pc := 17) (L' := [_, _, _, _]) dX3_wouldFire_17 rfl ?_
    refine r_iconst (pc := 18) dX3_wouldFire_18 ?_
    refine r_istore_n (pc := 19) (L' := [_, _, _, _]) dX3_wouldFire_19 rfl ?_
    have loop20 : ∀ (n : Nat) (w : Int32) (a : Int) , (0 ≤ a ∧ a ≤ T 0 0) → w = btW (fun a => rfP (T 0) x a) a.toNat → (kHt x = 0 ∨ a = 0) → T 0 0 - a < n → Go G eM cX3_wouldFire (4, some .int, "wouldFire", []) 3 0 (RT m ad h9 (zWfi (T 0) x) (sT T 5 0 (kHt x))) noX 0 h 20 [some (.ref m), some (.int (iZ x)), some (.int w), some (.int (iZ a))] [] := by
      intro n
      induction n with
      | zero => intro w a ha hw h5 hn; omega
      | succ n ih20 =>
        intro w a ha hw h5 hn
        refine r_iload_n (pc := 20) dX3_wouldFire_20 rfl ?_
        refine r_aload_n (pc := 21) dX3_wouldFire_21 rfl ?_
        refine gX3_7 (pc := 22) dX3_wouldFire_22 hm.1.1 rfl ?_
        refine r_iconst (pc := 25) dX3_wouldFire_25 ?_
        refine t_iald (pc := 26) (lim := 140) 0 dX3_wouldFire_26 hm (by decide) rfl (by first | omega | exact rfB_in _ | exact nz_in _ | exact hm.r _ _) (fun r26 => ?_)
        refine go_nm (fun z26 e26 => ?_)
        have r26 := InR_of e26 r26
        try simp [sT, cpT, cpN] at e26
        refine r_icmp_ge (pc := 27) (tgt := 71) dX3_wouldFire_27 (by decide) (by first | omega | exact rfB_in _ | exact nz_in _ | exact hm.r _ _) (by first | omega | exact rfB_in _ | exact nz_in _ | exact hm.r _ _) (fun c27 => ?_) (fun c27 => ?_)
        · refine r_iload_n (pc := 71) dX3_wouldFire_71 rfl ?_
          exact e_retTW (pc := 72) dX3_wouldFire_72 rfl hm (by first | (exfalso; omega) | (rw [show zWfi (T 0) x = btZ (fun a => rfP (T 0) x a) (T 0 0) from if_pos (if_pos (by omega)), hw, show a = T 0 0 by omega]; exact btZ_e) | (rw [show zWfi (T 0) x = 0 from if_neg (by rw [show kHt x = 1 from if_neg (by omega)]; decide), hw, h5.resolve_left (by rw [show kHt x = 1 from if_neg (by omega)]; decide)]; rfl)) (by first | (rw [sT_sT]; congr 1; unfold kHt; (repeat' split) <;> first | rfl | omega) | (congr 1; unfold kHt; (repeat' split) <;> first | rfl | omega))
        · refine r_aload_n (pc := 30) dX3_wouldFire_30 rfl ?_
          refine gX3_25 (pc := 31) dX3_wouldFire_31 hm.1.1 rfl ?_; have r31 := hm.r 5 0
          refine go_nm (fun z31 e31 => ?_)
          have r31 := InR_of e31 r31
          try simp [sT, cpT, cpN] at e31
          refine r_if_ne (pc := 34) (tgt := 71) dX3_wouldFire_34 (by decide) (by first | omega | exact rfB_in _ | exact nz_in _ | exact hm.r _ _) (fun c34 => ?_) (fun c34 => ?_)
          · refine r_iload_n (pc := 71) dX3_wouldFire_71 rfl ?_
            exact e_retTW (pc := 72) dX3_wouldFire_72 rfl hm (by first | (exfalso; omega) | (rw [show zWfi (T 0) x = btZ (fun a => rfP (T 0) x a) (T 0 0) from if_pos (if_pos (by omega)), hw, show a = T 0 0 by omega]; exact btZ_e) | (rw [show zWfi (T 0) x = 0 from if_neg (by rw [show kHt x = 1 from if_neg (by omega)]; decide), hw, h5.resolve_left (by rw [show kHt x = 1 from if_neg (by omega)]; decide)]; rfl)) (by first | (rw [sT_sT]; congr 1; unfold kHt; (repeat' split) <;> first | rfl | omega) | (congr 1; unfold kHt; (repeat' split) <;> first | rfl | omega))
          · have h0a : 0 ≤ a ∧ a < T 0 0 := (by omega)
            have ho2 := hI.2.1 a h0a.1 h0a.2
            have ho := ho2
            unfold artOk at ho
            refine r_iload_n (pc := 37) dX3_wouldFire_37 rfl ?_
            refine r_aload_n (pc := 38) dX3_wouldFire_38 rfl ?_
            refine r_iload_n (pc := 39) dX3_wouldFire_39 rfl ?_
            refine r_iconst (pc := 40) dX3_wouldFire_40 ?_
            refine r_callV (pc := 41) (kb' := 0) dX3_wouldFire_41 kX3_av q2815 (t_av hm (by first | omega | (simp only [th0]; omega)) (by first | omega | (simp only [th0]; omega))) hm.1.1 rfl (Nat.le_refl _) (Nat.le_of_ble_eq_true rfl) rfl rfl (Nat.le_of_ble_eq_true rfl) (fun _ _ q => q.elim) (fun _ _ hq => go_E hq ?_)
            try simp only [th0]
            refine r_if_ne (pc := 44) (tgt := 62) dX3_wouldFire_44 (by decide) (by first | omega | exact rfB_in _ | exact nz_in _ | exact hm.r _ _) (fun c44 => ?_) (fun c44 => ?_)
            · refine r_iconst (pc := 62) dX3_wouldFire_62 ?_
              refine q_ior (pc := 63) dX3_wouldFire_63 ?_
              refine r_istore_n (pc := 64) (L' := [_, _, _, _]) dX3_wouldFire_64 rfl ?_
              refine r_iinc (pc := 65) (L' := [_, _, _, _]) dX3_wouldFire_65 rfl rfl ?_
              refine r_goto (pc := 68) (tgt := 20) dX3_wouldFire_68 (by decide) ?_
              exact ih20 _ _ (by omega) (by first | omega | exact bt_t (p := (fun a => rfP (T 0) x a)) ha.1 hw (by omega) | exact bt_f (p := (fun a => rfP (T 0) x a)) ha.1 hw (by omega)) (by first | (exfalso; omega) | exact Or.inl (if_pos (by omega))) (by omega)
            · refine r_aload_n (pc := 47) dX3_wouldFire_47 rfl ?_
              refine r_iload_n (pc := 48) dX3_wouldFire_48 rfl ?_
              refine r_iload_n (pc := 49) dX3_wouldFire_49 rfl ?_
              refine r_callV (pc := 50) (kb' := 0) dX3_wouldFire_50 kX3_firesAt q2921 (t_firesAt hm (by first | exact hI | (rw [th0]; exact hI)) (by first | omega | (simp only [th0]; omega)) (by first | omega | (simp only [th0]; omega))) hm.1.1 rfl (Nat.le_refl _) (Nat.le_of_ble_eq_true rfl) rfl rfl (Nat.le_of_ble_eq_true rfl) (fun _ _ q => q.elim) (fun _ _ hq => go_E hq ?_)
              try simp only [th0]
              refine r_ifB_eq (pc := 53) (tgt := 62) dX3_wouldFire_53 (by decide) (fun c53 => ?_) (fun c53 => ?_)
              · refine r_iconst (pc := 62) dX3_wouldFire_62 ?_
                refine q_ior (pc := 63) dX3_wouldFire_63 ?_
                refine r_istore_n (pc := 64) (L' := [_, _, _, _]) dX3_wouldFire_64 rfl ?_
                refine r_iinc (pc := 65) (L' := [_, _, _, _]) dX3_wouldFire_65 rfl rfl ?_
                refine r_goto (pc := 68) (tgt := 20) dX3_wouldFire_68 (by decide) ?_
                exact ih20 _ _ (by omega) (by first | omega | exact bt_t (p := (fun a => rfP (T 0) x a)) ha.1 hw (by omega) | exact bt_f (p := (fun a => rfP (T 0) x a)) ha.1 hw (by omega)) (by first | (exfalso; omega) | exact Or.inl (if_pos (by omega))) (by omega)
              · refine r_iconst (pc := 56) dX3_wouldFire_56 ?_
                refine r_iload_n (pc := 57) dX3_wouldFire_57 rfl ?_
                refine q_ishl (pc := 58) dX3_wouldFire_58 ?_
                refine r_goto (pc := 59) (tgt := 63) dX3_wouldFire_59 (by decide) ?_
                refine q_ior (pc := 63) dX3_wouldFire_63 ?_
                refine r_istore_n (pc := 64) (L' := [_, _, _, _]) dX3_wouldFire_64 rfl ?_
                refine r_iinc (pc := 65) (L' := [_, _, _, _]) dX3_wouldFire_65 rfl rfl ?_
                refine r_goto (pc := 68) (tgt := 20) dX3_wouldFire_68 (by decide) ?_
                exact ih20 _ _ (by omega) (by first | omega | exact bt_t (p := (fun a => rfP (T 0) x a)) ha.1 hw (by omega) | exact bt_f (p := (fun a => rfP (T 0) x a)) ha.1 hw (by omega)) (by first | (exfalso; omega) | exact Or.inl (if_pos (by omega))) (by omega)
    exact loop20 ((T 0 0).toNat + 1) _ _ (by omega) rfl (Or.inr rfl) (by omega)
  · refine r_iconst (pc := 8) dX3_wouldFire_8 ?_
    refine r_goto (pc := 9) (tgt := 13) dX3_wouldFire_9 (by decide) ?_
    refine pX3_25 (pc := 13) dX3_wouldFire_13 hm.1.1 (by decide) (Nat.le_of_ble_eq_true rfl) ?_
    refine t_put 5 rfl hm (by first | omega | exact rfB_in _ | exact nz_in _ | exact hm.r _ _) (fun h hm => ?_)
    refine r_iconst (pc := 16) dX3_wouldFire_16 ?_
    refine r_istore_n (pc := 17) (L' := [_, _, _, _]) dX3_wouldFire_17 rfl ?_
    refine r_iconst (pc := 18) dX3_wouldFire_18 ?_
    refine r_istore_n (pc := 19) (L' := [_, _, _, _]) dX3_wouldFire_19 rfl ?_
    have loop20 : ∀ (n : Nat) (w : Int32) (a : Int) , (0 ≤ a ∧ a ≤ T 0 0) → w = btW (fun a => rfP (T 0) x a) a.toNat → (kHt x = 0 ∨ a = 0) → T 0 0 - a < n → Go G eM cX3_wouldFire (4, some .int, "wouldFire", []) 3 0 (RT m ad h9 (zWfi (T 0) x) (sT T 5 0 (kHt x))) noX 0 h 20 [some (.ref m), some (.int (iZ x)), some (.int w), some (.int (iZ a))] [] := by
      intro n
      induction n with
      | zero => intro w a ha hw h5 hn; omega
      | succ n ih20 =>
        intro w a ha hw h5 hn
        refine r_iload_n (pc := 20) dX3_wouldFire_20 rfl ?_
        refine r_aload_n (pc := 21) dX3_wouldFire_21 rfl ?_
        refine gX3_7 (pc := 22) dX3_wouldFire_22 hm.1.1 rfl ?_
        refine r_iconst (pc := 25) dX3_wouldFire_25 ?_
        refine t_iald (pc := 26) (lim := 140) 0 dX3_wouldFire_26 hm (by decide) rfl (by first | omega | exact rfB_in _ | exact nz_in _ | exact hm.r _ _) (fun r26 => ?_)
        refine go_nm (fun z26 e26 => ?_)
        have r26 := InR_of e26 r26
        try simp [sT, cpT, cpN] at e26
        refine r_icmp_ge (pc := 27) (tgt := 71) dX3_wouldFire_27 (by decide) (by first | omega | exact rfB_in _ | exact nz_in _ | exact hm.r _ _) (by first | omega | exact rfB_in _ | exact nz_in _ | exact hm.r _ _) (fun c27 => ?_) (fun c27 => ?_)
        · refine r_iload_n (pc := 71) dX3_wouldFire_71 rfl ?_
          exact e_retTW (pc := 72) dX3_wouldFire_72 rfl hm (by first | (exfalso; omega) | (rw [show zWfi (T 0) x = btZ (fun a => rfP (T 0) x a) (T 0 0) from if_pos (if_pos (by omega)), hw, show a = T 0 0 by omega]; exact btZ_e) | (rw [show zWfi (T 0) x = 0 from if_neg (by rw [show kHt x = 1 from if_neg (by omega)]; decide), hw, h5.resolve_left (by rw [show kHt x = 1 from if_neg (by omega)]; decide)]; rfl)) (by first | (rw [sT_sT]; congr 1; unfold kHt; (repeat' split) <;> first | rfl | omega) | (congr 1; unfold kHt; (repeat' split) <;> first | rfl | omega))
        · refine r_aload_n (pc := 30) dX3_wouldFire_30 rfl ?_
          refine gX3_25 (pc := 31) dX3_wouldFire_31 hm.1.1 rfl ?_; have r31 := hm.r 5 0
          refine go_nm (fun z31 e31 => ?_)
          have r31 := InR_of e31 r31
          try simp [sT, cpT, cpN] at e31
          refine r_if_ne (pc := 34) (tgt := 71) dX3_wouldFire_34 (by decide) (by first | omega | exact rfB_in _ | exact nz_in _ | exact hm.r _ _) (fun c34 => ?_) (fun c34 => ?_)
          · refine r_iload_n (pc := 71) dX3_wouldFire_71 rfl ?_
            exact e_retTW (pc := 72) dX3_wouldFire_72 rfl hm (by first | (exfalso; omega) | (rw [show zWfi (T 0) x = btZ (fun a => rfP (T 0) x a) (T 0 0) from if_pos (if_pos (by omega)), hw, show a = T 0 0 by omega]; exact btZ_e) | (rw [show zWfi (T 0) x = 0 from if_neg (by rw [show kHt x = 1 from if_neg (by omega)]; decide), hw, h5.resolve_left (by rw [show kHt x = 1 from if_neg (by omega)]; decide)]; rfl)) (by first | (rw [sT_sT]; congr 1; unfold kHt; (repeat' split) <;> first | rfl | omega) | (congr 1; unfold kHt; (repeat' split) <;> first | rfl | omega))
          · have h0a : 0 ≤ a ∧ a < T 0 0 := (by omega)
            have ho2 := hI.2.1 a h0a.1 h0a.2
            have ho := ho2
            unfold artOk at ho
            refine r_iload_n (pc := 37) dX3_wouldFire_37 rfl ?_
            refine r_aload_n (pc := 38) dX3_wouldFire_38 rfl ?_
            refine r_iload_n (pc := 39) dX3_wouldFire_39 rfl ?_
            refine r_iconst (pc := 40) dX3_wouldFire_40 ?_
            refine r_callV (pc := 41) (kb' := 0) dX3_wouldFire_41 kX3_av q2815 (t_av hm (by first | omega | (simp only [th0]; omega)) (by first | omega | (simp only [th0]; omega))) hm.1.1 rfl (Nat.le_refl _) (Nat.le_of_ble_eq_true rfl) rfl rfl (Nat.le_of_ble_eq_true rfl) (fun _ _ q => q.elim) (fun _ _ hq => go_E hq ?_)
            try simp only [th0]
            refine r_if_ne (pc := 44) (tgt := 62) dX3_wouldFire_44 (by decide) (by first | omega | exact rfB_in _ | exact nz_in _ | exact hm.r _ _) (fun c44 => ?_) (fun c44 => ?_)
            · refine r_iconst (pc := 62) dX3_wouldFire_62 ?_
              refine q_ior (pc := 63) dX3_wouldFire_63 ?_
              refine r_istore_n (pc := 64) (L' := [_, _, _, _]) dX3_wouldFire_64 rfl ?_
              refine r_iinc (pc := 65) (L' := [_, _, _, _]) dX3_wouldFire_65 rfl rfl ?_
              refine r_goto (pc := 68) (tgt := 20) dX3_wouldFire_68 (by decide) ?_
              exact ih20 _ _ (by omega) (by first | omega | exact bt_t (p := (fun a => rfP (T 0) x a)) ha.1 hw (by omega) | exact bt_f (p := (fun a => rfP (T 0) x a)) ha.1 hw (by omega)) (by first | (exfalso; omega) | exact Or.inl (if_pos (by omega))) (by omega)
            · refine r_aload_n (pc := 47) dX3_wouldFire_47 rfl ?_
              refine r_iload_n (pc := 48) dX3_wouldFire_48 rfl ?_
              refine r_iload_n (pc := 49) dX3_wouldFire_49 rfl ?_
              refine r_callV (pc := 50) (kb' := 0) dX3_wouldFire_50 kX3_firesAt q2921 (t_firesAt hm (by first | exact hI | (rw [th0]; exact hI)) (by first | omega | (simp only [th0]; omega)) (by first | omega | (simp only [th0]; omega))) hm.1.1 rfl (Nat.le_refl _) (Nat.le_of_ble_eq_true rfl) rfl rfl (Nat.le_of_ble_eq_true rfl) (fun _ _ q => q.elim) (fun _ _ hq => go_E hq ?_)
              try simp only [th0]
              refine r_ifB_eq (pc := 53) (tgt := 62) dX3_wouldFire_53 (by decide) (fun c53 => ?_) (fun c53 => ?_)
              · refine r_iconst (pc := 62) dX3_wouldFire_62 ?_
                refine q_ior (pc := 63) dX3_wouldFire_63 ?_
                refine r_istore_n (pc := 64) (L' := [_, _, _, _]) dX3_wouldFire_64 rfl ?_
                refine r_iinc (pc := 65) (L' := [_, _, _, _]) dX3_wouldFire_65 rfl rfl ?_
                refine r_goto (pc := 68) (tgt := 20) dX3_wouldFire_68 (by decide) ?_
                exact ih20 _ _ (by omega) (by first | omega | exact bt_t (p := (fun a => rfP (T 0) x a)) ha.1 hw (by omega) | exact bt_f (p := (fun a => rfP (T 0) x a)) ha.1 hw (by omega)) (by first | (exfalso; omega) | exact Or.inl (if_pos (by omega))) (by omega)
              · refine r_iconst (pc := 56) dX3_wouldFire_56 ?_
                refine r_iload_n (pc := 57) dX3_wouldFire_57 rfl ?_
                refine q_ishl (pc := 58) dX3_wouldFire_58 ?_
                refine r_goto (pc := 59) (tgt := 63) dX3_wouldFire_59 (by decide) ?_
                refine q_ior (pc := 63) dX3_wouldFire_63 ?_
                refine r_istore_n (pc := 64) (L' := [_, _, _, _]) dX3_wouldFire_64 rfl ?_
                refine r_iinc (pc := 65) (L' := [_, _, _, _]) dX3_wouldFire_65 rfl rfl ?_
                refine r_goto (pc := 68) (tgt := 20) dX3_wouldFire_68 (by decide) ?_
                exact ih20 _ _ (by omega) (by first | omega | exact bt_t (p := (fun a => rfP (T 0) x a)) ha.1 hw (by omega) | exact bt_f (p := (fun a => rfP (T 0) x a)) ha.1 hw (by omega)) (by first | (exfalso; omega) | exact Or.inl (if_pos (by omega))) (by omega)
    exact loop20 ((T 0 0).toNat + 1) _ _ (by omega) rfl (Or.inr rfl) (by omega)
theorem t_wouldStand {G : Gl} {m : Nat} {ad : Nat → Nat} {h0 h : Hp} {T : TM} (hm : TI m ad h0 T h) {a x : Int} (hI : RI (T 0)) (ha : 0 ≤ a ∧ a < T 0 0) (hx : 10 ≤ x ∧ x ≤ 99) : Ct G 4 0 yX3_wouldStand (Cond.code yX3_wouldStand cX3_wouldStand 3 (some .boolean)) [.ref m, .int (iZ a), .int (iZ x)] h (RE (bZ (stdP (T 0) a x)) h) noX := by
  have hm := hm.nw
  have hb := hI.1
  have ho := hI.2.1 a ha.1 ha.2
  have ho2 := ho
  unfold artOk at ho
  have h9 := cr_in ho2 hx
  refine Ct.of (own := eM) (nm := "wouldStand") (by decide +kernel) rfl rfl (L := [some (.ref m), some (.int (iZ a)), some (.int (iZ x))]) rfl (Nat.le_of_ble_eq_true rfl) rfl ?_
  refine r_aload_n (pc := 0) dX3_wouldStand_0 rfl ?_
  refine r_iload_n (pc := 1) dX3_wouldStand_1 rfl ?_
  refine r_iconst (pc := 2) dX3_wouldStand_2 ?_
  refine r_callV (pc := 3) (kb' := 0) dX3_wouldStand_3 kX3_av q2815 (t_av hm (by omega) (by omega)) hm.1.1 rfl (Nat.le_refl _) (Nat.le_of_ble_eq_true rfl) rfl rfl (Nat.le_of_ble_eq_true rfl) (fun _ _ q => q.elim) (fun _ _ hq => go_E hq ?_)
  refine r_if_lt (pc := 6) (tgt := 48) dX3_wouldStand_6 (by decide) (by first | omega | exact rfB_in _ | exact nz_in _ | exact hm.r _ _) (fun c6 => ?_) (fun c6 => ?_)
  · refine r_iconst (pc := 48) dX3_wouldStand_48 ?_
    exact e_retB (pc := 49) dX3_wouldStand_49 rfl (by first | (left; rfl) | (right; rfl) | exact bZ_01 _ | omega) (by first | rfl | omega | exact bZ_c (by omega) | exact (bZ_t (by omega)).symm | exact (bZ_f (by omega)).symm | exact bZ_t (by omega) | exact bZ_f (by omega))
  · refine r_aload_n (pc := 9) dX3_wouldStand_9 rfl ?_
    refine r_iload_n (pc := 10) dX3_wouldStand_10 rfl ?_
    refine r_iconst (pc := 11) dX3_wouldStand_11 ?_
    refine r_callV (pc := 12) (kb' := 0) dX3_wouldStand_12 kX3_av q2815 (t_av hm (by omega) (by omega)) hm.1.1 rfl (Nat.le_refl _) (Nat.le_of_ble_eq_true rfl) rfl rfl (Nat.le_of_ble_eq_true rfl) (fun _ _ q => q.elim) (fun _ _ hq => go_E hq ?_)
    refine r_aload_n (pc := 15) dX3_wouldStand_15 rfl ?_
    refine r_iload_n (pc := 16) dX3_wouldStand_16 rfl ?_
    refine r_iload_n (pc := 17) dX3_wouldStand_17 rfl ?_
    refine r_callV (pc := 18) (kb' := 0) dX3_wouldStand_18 kX3_crackedBy q2898 (t_crackedBy hm hI (by omega) (by omega)) hm.1.1 rfl (Nat.le_refl _) (Nat.le_of_ble_eq_true rfl) rfl rfl (Nat.le_of_ble_eq_true rfl) (fun _ _ q => q.elim) (fun _ _ hq => go_E hq ?_)
    refine r_iadd (pc := 21) dX3_wouldStand_21 ?_
    refine r_if_ne (pc := 22) (tgt := 48) dX3_wouldStand_22 (by decide) (by first | omega | exact rfB_in _ | exact nz_in _ | exact hm.r _ _) (fun c22 => ?_) (fun c22 => ?_)
    · refine r_iconst (pc := 48) dX3_wouldStand_48 ?_
      exact e_retB (pc := 49) dX3_wouldStand_49 rfl (by first | (left; rfl) | (right; rfl) | exact bZ_01 _ | omega) (by first | rfl | omega | exact bZ_c (by omega) | exact (bZ_t (by omega)).symm | exact (bZ_f (by omega)).symm | exact bZ_t (by omega) | exact bZ_f (by omega))
    · refine r_aload_n (pc := 25) dX3_wouldStand_25 rfl ?_
      refine r_iload_n (pc := 26) dX3_wouldStand_26 rfl ?_
      refine r_iconst (pc := 27) dX3_wouldStand_27 ?_
      refine r_callV (pc := 28) (kb' := 0) dX3_wouldStand_28 kX3_av q2815 (t_av hm (by omega) (by omega)) hm.1.1 rfl (Nat.le_refl _) (Nat.le_of_ble_eq_true rfl) rfl rfl (Nat.le_of_ble_eq_true rfl) (fun _ _ q => q.elim) (fun _ _ hq => go_E hq ?_)
      refine r_iconst (pc := 31) dX3_wouldStand_31 ?_
      refine r_icmp_eq (pc := 32) (tgt := 44) dX3_wouldStand_32 (by decide) (by first | omega | exact rfB_in _ | exact nz_in _ | exact hm.r _ _) (by first | omega | exact rfB_in _ | exact nz_in _ | exact hm.r _ _) (fun c32 => ?_) (fun c32 => ?_)
      · refine r_iconst (pc := 44) dX3_wouldStand_44 ?_
        refine r_goto (pc := 45) (tgt := 49) dX3_wouldStand_45 (by decide) ?_
        exact e_retB (pc := 49) dX3_wouldStand_49 rfl (by first | (left; rfl) | (right; rfl) | exact bZ_01 _ | omega) (by first | rfl | omega | exact bZ_c (by omega) | exact (bZ_t (by omega)).symm | exact (bZ_f (by omega)).symm | exact bZ_t (by omega) | exact bZ_f (by omega))
      · refine r_aload_n (pc := 35) dX3_wouldStand_35 rfl ?_
        refine r_iload_n (pc := 36) dX3_wouldStand_36 rfl ?_
        refine r_iload_n (pc := 37) dX3_wouldStand_37 rfl ?_
        refine r_callV (pc := 38) (kb' := 0) dX3_wouldStand_38 kX3_firesAt q2921 (t_firesAt hm hI (by omega) (by omega)) hm.1.1 rfl (Nat.le_refl _) (Nat.le_of_ble_eq_true rfl) rfl rfl (Nat.le_of_ble_eq_true rfl) (fun _ _ q => q.elim) (fun _ _ hq => go_E hq ?_)
        refine r_ifB_eq (pc := 41) (tgt := 48) dX3_wouldStand_41 (by decide) (fun c41 => ?_) (fun c41 => ?_)
        · refine r_iconst (pc := 48) dX3_wouldStand_48 ?_
          exact e_retB (pc := 49) dX3_wouldStand_49 rfl (by first | (left; rfl) | (right; rfl) | exact bZ_01 _ | omega) (by first | rfl | omega | exact bZ_c (by omega) | exact (bZ_t (by omega)).symm | exact (bZ_f (by omega)).symm | exact bZ_t (by omega) | exact bZ_f (by omega))
        · refine r_iconst (pc := 44) dX3_wouldStand_44 ?_
          refine r_goto (pc := 45) (tgt := 49) dX3_wouldStand_45 (by decide) ?_
          exact e_retB (pc := 49) dX3_wouldStand_49 rfl (by first | (left; rfl) | (right; rfl) | exact bZ_01 _ | omega) (by first | rfl | omega | exact bZ_c (by omega) | exact (bZ_t (by omega)).symm | exact (bZ_f (by omega)).symm | exact bZ_t (by omega) | exact bZ_f (by omega))
theorem t_wouldBeLaw {G : Gl} {m : Nat} {ad : Nat → Nat} {h0 h9 : Hp} {T : TM} (hm : TI m ad h0 T h9) {x : Int} (hI : RI (T 0)) (hx : InR x) : Ct G 5 0 yX3_wouldBeLaw (Cond.code yX3_wouldBeLaw cX3_wouldBeLaw 4 (some .int)) [.ref m, .int (iZ x)] h9 (RT m ad h9 (zWla (T 0) x) (sT T 5 0 (kHt x))) noX := by
  have hm := hm.nw
  have hb := hI.1
  have o9 := fun x => onSh_in (r := T 0) (s := x) (by omega)
  have p9 : ∀ x, InR (plOf (T 0) x) := fun x => (fnd_in (N := T 0 1) (p := fun k => T 0 (12 + k) = x) (by omega)).2.2
  refine Ct.of (own := eM) (nm := "wouldBeLaw") (by decide +kernel) rfl rfl (L := [some (.ref m), some (.int (iZ x)), none, none]) rfl (Nat.le_of_ble_eq_true rfl) rfl ?_
  refine r_aload_n (pc := 0) dX3_wouldBeLaw_0 rfl ?_
  refine r_iload_n (pc := 1) dX3_wouldBeLaw_1 rfl ?_
  refine r_callS (pc := 2) (kb' := 0) dX3_wouldBeLaw_2 kX3_isHeat q2887 (t_isHeat (by first | omega | (simp only [th0]; omega))) (Nat.le_refl _) (Nat.le_of_ble_eq_true rfl) rfl rfl (Nat.le_of_ble_eq_true rfl) (fun _ _ q => q.elim) (fun _ _ hq => go_E hq ?_)
  try simp only [th0]
  refine r_ifB_eq (pc := 5) (tgt := 12) dX3_wouldBeLaw_5 (by decide) (fun c5 => ?_) (fun c5 => ?_)
  · refine r_iconst (pc := 12) dX3_wouldBeLaw_12 ?_
    refine pX3_25 (pc := 13) dX3_wouldBeLaw_13 hm.1.1 (by decide) (Nat.le_of_ble_eq_true rfl) ?_
    refine t_put 5 rfl hm (by first | omega | exact rfB_in _ | exact nz_in _ | exact hm.r _ _) (fun h hm => ?_)
    refine r_iconst (pc := 16) dX3_wouldBeLaw_16 ?_
    refine r_istore_n (pc := 17) (L' := [_, _, _, _]) dX3_wouldBeLaw_17 rfl ?_
    refine r_iconst (pc := 18) dX3_wouldBeLaw_18 ?_
    refine r_istore_n (pc := 19) (L' := [_, _, _, _]) dX3_wouldBeLaw_19 rfl ?_
    have loop20 : ∀ (n : Nat) (w : Int32) (a : Int) , (0 ≤ a ∧ a ≤ T 0 0) → w = btW (fun a => stdP (T 0) a x) a.toNat → (kHt x = 0 ∨ a = 0) → T 0 0 - a < n → Go G eM cX3_wouldBeLaw (4, some .int, "wouldBeLaw", []) 5 0 (RT m ad h9 (zWla (T 0) x) (sT T 5 0 (kHt x))) noX 0 h 20 [some (.ref m), some (.int (iZ x)), some (.int w), some (.int (iZ a))] [] := by
      intro n
      induction n with
      | zero => intro w a ha hw h5 hn; omega
      | succ n ih20 =>
        intro w a ha hw h5 hn
        refine r_iload_n (pc := 20) dX3_wouldBeLaw_20 rfl ?_
        refine r_aload_n (pc := 21) dX3_wouldBeLaw_21 rfl ?_
        refine gX3_7 (pc := 22) dX3_wouldBeLaw_22 hm.1.1 rfl ?_
        refine r_iconst (pc := 25) dX3_wouldBeLaw_25 ?_
        refine t_iald (pc := 26) (lim := 140) 0 dX3_wouldBeLaw_26 hm (by decide) rfl (by first | omega | exact rfB_in _ | exact nz_in _ | exact hm.r _ _) (fun r26 => ?_)
        refine go_nm (fun z26 e26 => ?_)
        have r26 := InR_of e26 r26
        try simp [sT, cpT, cpN] at e26
        refine r_icmp_ge (pc := 27) (tgt := 62) dX3_wouldBeLaw_27 (by decide) (by first | omega | exact rfB_in _ | exact nz_in _ | exact hm.r _ _) (by first | omega | exact rfB_in _ | exact nz_in _ | exact hm.r _ _) (fun c27 => ?_) (fun c27 => ?_)
        · refine r_iload_n (pc := 62) dX3_wouldBeLaw_62 rfl ?_
          exact e_retTW (pc := 63) dX3_wouldBeLaw_63 rfl hm (by first | (exfalso; omega) | (rw [show zWla (T 0) x = btZ (fun a => stdP (T 0) a x) (T 0 0) from if_pos (if_pos (by omega)), hw, show a = T 0 0 by omega]; exact btZ_e) | (rw [show zWla (T 0) x = 0 from if_neg (by rw [show kHt x = 1 from if_neg (by omega)]; decide), hw, h5.resolve_left (by rw [show kHt x = 1 from if_neg (by omega)]; decide)]; rfl)) (by first | (rw [sT_sT]; congr 1; unfold kHt; (repeat' split) <;> first | rfl | omega) | (congr 1; unfold kHt; (repeat' split) <;> first | rfl | omega))
        · refine r_aload_n (pc := 30) dX3_wouldBeLaw_30 rfl ?_
          refine gX3_25 (pc := 31) dX3_wouldBeLaw_31 hm.1.1 rfl ?_; have r31 := hm.r 5 0
          refine go_nm (fun z31 e31 => ?_)
          have r31 := InR_of e31 r31
          try simp [sT, cpT, cpN] at e31
          refine r_if_ne (pc := 34) (tgt := 62) dX3_wouldBeLaw_34 (by decide) (by first | omega | exact rfB_in _ | exact nz_in _ | exact hm.r _ _) (fun c34 => ?_) (fun c34 => ?_)
          · refine r_iload_n (pc := 62) dX3_wouldBeLaw_62 rfl ?_
            exact e_retTW (pc := 63) dX3_wouldBeLaw_63 rfl hm (by first | (exfalso; omega) | (rw [show zWla (T 0) x = btZ (fun a => stdP (T 0) a x) (T 0 0) from if_pos (if_pos (by omega)), hw, show a = T 0 0 by omega]; exact btZ_e) | (rw [show zWla (T 0) x = 0 from if_neg (by rw [show kHt x = 1 from if_neg (by omega)]; decide), hw, h5.resolve_left (by rw [show kHt x = 1 from if_neg (by omega)]; decide)]; rfl)) (by first | (rw [sT_sT]; congr 1; unfold kHt; (repeat' split) <;> first | rfl | omega) | (congr 1; unfold kHt; (repeat' split) <;> first | rfl | omega))
          · refine r_iload_n (pc := 37) dX3_wouldBeLaw_37 rfl ?_
            refine r_aload_n (pc := 38) dX3_wouldBeLaw_38 rfl ?_
            refine r_iload_n (pc := 39) dX3_wouldBeLaw_39 rfl ?_
            refine r_iload_n (pc := 40) dX3_wouldBeLaw_40 rfl ?_
            refine r_callV (pc := 41) (kb' := 0) dX3_wouldBeLaw_41 kX3_wouldStand q3108 (t_wouldStand hm (by first | exact hI | (rw [th0]; exact hI)) (by first | omega | (simp only [th0]; omega)) (by first | omega | (simp only [th0]; omega))) hm.1.1 rfl (Nat.le_refl _) (Nat.le_of_ble_eq_true rfl) rfl rfl (Nat.le_of_ble_eq_true rfl) (fun _ _ q => q.elim) (fun _ _ hq => go_E hq ?_)
            try simp only [th0]
            refine r_ifB_eq (pc := 44) (tgt := 53) dX3_wouldBeLaw_44 (by decide) (fun c44 => ?_) (fun c44 => ?_)
            · refine r_iconst (pc := 53) dX3_wouldBeLaw_53 ?_
              refine q_ior (pc := 54) dX3_wouldBeLaw_54 ?_
              refine r_istore_n (pc := 55) (L' := [_, _, _, _]) dX3_wouldBeLaw_55 rfl ?_
              refine r_iinc (pc := 56) (L' := [_, _, _, _]) dX3_wouldBeLaw_56 rfl rfl ?_
              refine r_goto (pc := 59) (tgt := 20) dX3_wouldBeLaw_59 (by decide) ?_
              exact ih20 _ _ (by omega) (by first | omega | exact bt_t (p := (fun a => stdP (T 0) a x)) ha.1 hw (by omega) | exact bt_f (p := (fun a => stdP (T 0) a x)) ha.1 hw (by omega)) (by first | (exfalso; omega) | exact Or.inl (if_pos (by omega))) (by omega)
            · refine r_iconst (pc := 47) dX3_wouldBeLaw_47 ?_
              refine r_iload_n (pc := 48) dX3_wouldBeLaw_48 rfl ?_
              refine q_ishl (pc := 49) dX3_wouldBeLaw_49 ?_
              refine r_goto (pc := 50) (tgt := 54) dX3_wouldBeLaw_50 (by decide) ?_
              refine q_ior (pc := 54) dX3_wouldBeLaw_54 ?_
              refine r_istore_n (pc := 55) (L' := [_, _, _, _]) dX3_wouldBeLaw_55 rfl ?_
              refine r_iinc (pc := 56) (L' := [_, _, _, _]) dX3_wouldBeLaw_56 rfl rfl ?_
              refine r_goto (pc := 59) (tgt := 20) dX3_wouldBeLaw_59 (by decide) ?_
              exact ih20 _ _ (by omega) (by first | omega | exact bt_t (p := (fun a => stdP (T 0) a x)) ha.1 hw (by omega) | exact bt_f (p := (fun a => stdP (T 0) a x)) ha.1 hw (by omega)) (by first | (exfalso; omega) | exact Or.inl (if_pos (by omega))) (by omega)
    exact loop20 ((T 0 0).toNat + 1) _ _ (by omega) rfl (Or.inr rfl) (by omega)
  · refine r_iconst (pc := 8) dX3_wouldBeLaw_8 ?_
    refine r_goto (pc := 9) (tgt := 13) dX3_wouldBeLaw_9 (by decide) ?_
    refine pX3_25 (pc := 13) dX3_wouldBeLaw_13 hm.1.1 (by decide) (Nat.le_of_ble_eq_true rfl) ?_
    refine t_put 5 rfl hm (by first | omega | exact rfB_in _ | exact nz_in _ | exact hm.r _ _) (fun h hm => ?_)
    refine r_iconst (pc := 16) dX3_wouldBeLaw_16 ?_
    refine r_istore_n (pc := 17) (L' := [_, _, _, _]) dX3_wouldBeLaw_17 rfl ?_
    refine r_iconst (pc := 18) dX3_wouldBeLaw_18 ?_
    refine r_istore_n (pc := 19) (L' := [_, _, _, _]) dX3_wouldBeLaw_19 rfl ?_
    have loop20 : ∀ (n : Nat) (w : Int32) (a : Int) , (0 ≤ a ∧ a ≤ T 0 0) → w = btW (fun a => stdP (T 0) a x) a.toNat → (kHt x = 0 ∨ a = 0) → T 0 0 - a < n → Go G eM cX3_wouldBeLaw (4, some .int, "wouldBeLaw", []) 5 0 (RT m ad h9 (zWla (T 0) x) (sT T 5 0 (kHt x))) noX 0 h 20 [some (.ref m), some (.int (iZ x)), some (.int w), some (.int (iZ a))] [] := by
      intro n
      induction n with
      | zero => intro w a ha hw h5 hn; omega
      | succ n ih20 =>
        intro w a ha hw h5 hn
        refine r_iload_n (pc := 20) dX3_wouldBeLaw_20 rfl ?_
        refine r_aload_n (pc := 21) dX3_wouldBeLaw_21 rfl ?_
        refine gX3_7 (pc := 22) dX3_wouldBeLaw_22 hm.1.1 rfl ?_
        refine r_iconst (pc := 25) dX3_wouldBeLaw_25 ?_
        refine t_iald (pc := 26) (lim := 140) 0 dX3_wouldBeLaw_26 hm (by decide) rfl (by first | omega | exact rfB_in _ | exact nz_in _ | exact hm.r _ _) (fun r26 => ?_)
        refine go_nm (fun z26 e26 => ?_)
        have r26 := InR_of e26 r26
        try simp [sT, cpT, cpN] at e26
        refine r_icmp_ge (pc := 27) (tgt := 62) dX3_wouldBeLaw_27 (by decide) (by first | omega | exact rfB_in _ | exact nz_in _ | exact hm.r _ _) (by first | omega | exact rfB_in _ | exact nz_in _ | exact hm.r _ _) (fun c27 => ?_) (fun c27 => ?_)
        · refine r_iload_n (pc := 62) dX3_wouldBeLaw_62 rfl ?_
          exact e_retTW (pc := 63) dX3_wouldBeLaw_63 rfl hm (by first | (exfalso; omega) | (rw [show zWla (T 0) x = btZ (fun a => stdP (T 0) a x) (T 0 0) from if_pos (if_pos (by omega)), hw, show a = T 0 0 by omega]; exact btZ_e) | (rw [show zWla (T 0) x = 0 from if_neg (by rw [show kHt x = 1 from if_neg (by omega)]; decide), hw, h5.resolve_left (by rw [show kHt x = 1 from if_neg (by omega)]; decide)]; rfl)) (by first | (rw [sT_sT]; congr 1; unfold kHt; (repeat' split) <;> first | rfl | omega) | (congr 1; unfold kHt; (repeat' split) <;> first | rfl | omega))
        · refine r_aload_n (pc := 30) dX3_wouldBeLaw_30 rfl ?_
          refine gX3_25 (pc := 31) dX3_wouldBeLaw_31 hm.1.1 rfl ?_; have r31 := hm.r 5 0
          refine go_nm (fun z31 e31 => ?_)
          have r31 := InR_of e31 r31
          try simp [sT, cpT, cpN] at e31
          refine r_if_ne (pc := 34) (tgt := 62) dX3_wouldBeLaw_34 (by decide) (by first | omega | exact rfB_in _ | exact nz_in _ | exact hm.r _ _) (fun c34 => ?_) (fun c34 => ?_)
          · refine r_iload_n (pc := 62) dX3_wouldBeLaw_62 rfl ?_
            exact e_retTW (pc := 63) dX3_wouldBeLaw_63 rfl hm (by first | (exfalso; omega) | (rw [show zWla (T 0) x = btZ (fun a => stdP (T 0) a x) (T 0 0) from if_pos (if_pos (by omega)), hw, show a = T 0 0 by omega]; exact btZ_e) | (rw [show zWla (T 0) x = 0 from if_neg (by rw [show kHt x = 1 from if_neg (by omega)]; decide), hw, h5.resolve_left (by rw [show kHt x = 1 from if_neg (by omega)]; decide)]; rfl)) (by first | (rw [sT_sT]; congr 1; unfold kHt; (repeat' split) <;> first | rfl | omega) | (congr 1; unfold kHt; (repeat' split) <;> first | rfl | omega))
          · refine r_iload_n (pc := 37) dX3_wouldBeLaw_37 rfl ?_
            refine r_aload_n (pc := 38) dX3_wouldBeLaw_38 rfl ?_
            refine r_iload_n (pc := 39) dX3_wouldBeLaw_39 rfl ?_
            refine r_iload_n (pc := 40) dX3_wouldBeLaw_40 rfl ?_
            refine r_callV (pc := 41) (kb' := 0) dX3_wouldBeLaw_41 kX3_wouldStand q3108 (t_wouldStand hm (by first | exact hI | (rw [th0]; exact hI)) (by first | omega | (simp only [th0]; omega)) (by first | omega | (simp only [th0]; omega))) hm.1.1 rfl (Nat.le_refl _) (Nat.le_of_ble_eq_true rfl) rfl rfl (Nat.le_of_ble_eq_true rfl) (fun _ _ q => q.elim) (fun _ _ hq => go_E hq ?_)
            try simp only [th0]
            refine r_ifB_eq (pc := 44) (tgt := 53) dX3_wouldBeLaw_44 (by decide) (fun c44 => ?_) (fun c44 => ?_)
            · refine r_iconst (pc := 53) dX3_wouldBeLaw_53 ?_
              refine q_ior (pc := 54) dX3_wouldBeLaw_54 ?_
              refine r_istore_n (pc := 55) (L' := [_, _, _, _]) dX3_wouldBeLaw_55 rfl ?_
              refine r_iinc (pc := 56) (L' := [_, _, _, _]) dX3_wouldBeLaw_56 rfl rfl ?_
              refine r_goto (pc := 59) (tgt := 20) dX3_wouldBeLaw_59 (by decide) ?_
              exact ih20 _ _ (by omega) (by first | omega | exact bt_t (p := (fun a => stdP (T 0) a x)) ha.1 hw (by omega) | exact bt_f (p := (fun a => stdP (T 0) a x)) ha.1 hw (by omega)) (by first | (exfalso; omega) | exact Or.inl (if_pos (by omega))) (by omega)
            · refine r_iconst (pc := 47) dX3_wouldBeLaw_47 ?_
              refine r_iload_n (pc := 48) dX3_wouldBeLaw_48 rfl ?_
              refine q_ishl (pc := 49) dX3_wouldBeLaw_49 ?_
              refine r_goto (pc := 50) (tgt := 54) dX3_wouldBeLaw_50 (by decide) ?_
              refine q_ior (pc := 54) dX3_wouldBeLaw_54 ?_
              refine r_istore_n (pc := 55) (L' := [_, _, _, _]) dX3_wouldBeLaw_55 rfl ?_
              refine r_iinc (pc := 56) (L' := [_, _, _, _]) dX3_wouldBeLaw_56 rfl rfl ?_
              refine r_goto (pc := 59) (tgt := 20) dX3_wouldBeLaw_59 (by decide) ?_
              exact ih20 _ _ (by omega) (by first | omega | exact bt_t (p := (fun a => stdP (T 0) a x)) ha.1 hw (by omega) | exact bt_f (p := (fun a => stdP (T 0) a x)) ha.1 hw (by omega)) (by first | (exfalso; omega) | exact Or.inl (if_pos (by omega))) (by omega)
    exact loop20 ((T 0 0).toNat + 1) _ _ (by omega) rfl (Or.inr rfl) (by omega)
theorem t_like {G : Gl} {m : Nat} {ad : Nat → Nat} {h0 h9 : Hp} {T : TM} (hm : TI m ad h0 T h9) {b : Int} (hI : RI (T 0)) (hb2 : InR b) : Ct G 3 0 yX3_like (Cond.code yX3_like cX3_like 4 (some .int)) [.ref m, .int (iZ b)] h9 (RT m ad h9 (zLik (T 0) b) (sT T 5 0 (kAr (T 0) b))) noX := by
  have hm := hm.nw
  have hb := hI.1
  have o9 := fun x => onSh_in (r := T 0) (s := x) (by omega)
  have p9 : ∀ x, InR (plOf (T 0) x) := fun x => (fnd_in (N := T 0 1) (p := fun k => T 0 (12 + k) = x) (by omega)).2.2
  have x0 : InR (fA (T 0) b 0) := hm.r 0 _
  have x1 : InR (fA (T 0) b 1) := hm.r 0 _
  refine Ct.of (own := eM) (nm := "like") (by decide +kernel) rfl rfl (L := [some (.ref m), some (.int (iZ b)), none, none]) rfl (Nat.le_of_ble_eq_true rfl) rfl ?_
  refine r_aload_n (pc := 0) dX3_like_0 rfl ?_
  refine r_aload_n (pc := 1) dX3_like_1 rfl ?_
  refine r_iload_n (pc := 2) dX3_like_2 rfl ?_
  refine r_callV (pc := 3) (kb' := 0) dX3_like_3 kX3_isArticle q2851 (t_isArticle hm (by first | exact hI | (rw [th0]; exact hI)) (by first | omega | (simp only [th0]; omega))) hm.1.1 rfl (Nat.le_refl _) (Nat.le_of_ble_eq_true rfl) rfl rfl (Nat.le_of_ble_eq_true rfl) (fun _ _ q => q.elim) (fun _ _ hq => go_E hq ?_)
  try simp only [th0]
  refine r_ifB_eq (pc := 6) (tgt := 13) dX3_like_6 (by decide) (fun c6 => ?_) (fun c6 => ?_)
  · refine r_iconst (pc := 13) dX3_like_13 ?_
    refine pX3_25 (pc := 14) dX3_like_14 hm.1.1 (by decide) (Nat.le_of_ble_eq_true rfl) ?_
    refine t_put 5 rfl hm (by first | omega | exact rfB_in _ | exact nz_in _ | exact hm.r _ _) (fun h hm => ?_)
    refine r_iconst (pc := 17) dX3_like_17 ?_
    refine r_istore_n (pc := 18) (L' := [_, _, _, _]) dX3_like_18 rfl ?_
    refine r_iconst (pc := 19) dX3_like_19 ?_
    refine r_istore_n (pc := 20) (L' := [_, _, _, _]) dX3_like_20 rfl ?_
    have loop21 : ∀ (n : Nat) (w : Int32) (a : Int) , (0 ≤ a ∧ a ≤ T 0 0) → w = btW (fun a => likP (T 0) b a) a.toNat → (kAr (T 0) b = 0 ∨ a = 0) → T 0 0 - a < n → Go G eM cX3_like (4, some .int, "like", []) 3 0 (RT m ad h9 (zLik (T 0) b) (sT T 5 0 (kAr (T 0) b))) noX 0 h 21 [some (.ref m), some (.int (iZ b)), some (.int w), some (.int (iZ a))] [] := by
      intro n
      induction n with
      | zero => intro w a ha hw h5 hn; omega
      | succ n ih21 =>
        intro w a ha hw h5 hn
        refine r_iload_n (pc := 21) dX3_like_21 rfl ?_
        refine r_aload_n (pc := 22) dX3_like_22 rfl ?_
        refine gX3_7 (pc := 23) dX3_like_23 hm.1.1 rfl ?_
        refine r_iconst (pc := 26) dX3_like_26 ?_
        refine t_iald (pc := 27) (lim := 140) 0 dX3_like_27 hm (by decide) rfl (by first | omega | exact rfB_in _ | exact nz_in _ | exact hm.r _ _) (fun r27 => ?_)
        refine go_nm (fun z27 e27 => ?_)
        have r27 := InR_of e27 r27
        try simp [sT, cpT, cpN] at e27
        refine r_icmp_ge (pc := 28) (tgt := 93) dX3_like_28 (by decide) (by first | omega | exact rfB_in _ | exact nz_in _ | exact hm.r _ _) (by first | omega | exact rfB_in _ | exact nz_in _ | exact hm.r _ _) (fun c28 => ?_) (fun c28 => ?_)
        · refine r_iload_n (pc := 93) dX3_like_93 rfl ?_
          exact e_retTW (pc := 94) dX3_like_94 rfl hm (by first | (exfalso; omega) | (rw [show zLik (T 0) b = btZ (fun a => likP (T 0) b a) (T 0 0) from if_pos (if_pos (by omega)), hw, show a = T 0 0 by omega]; exact btZ_e) | (rw [show zLik (T 0) b = 0 from if_neg (by rw [show kAr (T 0) b = 1 from if_neg (by omega)]; decide), hw, h5.resolve_left (by rw [show kAr (T 0) b = 1 from if_neg (by omega)]; decide)]; rfl)) (by first | (rw [sT_sT]; congr 1; unfold kAr; (repeat' split) <;> first | rfl | omega) | (congr 1; unfold kAr; (repeat' split) <;> first | rfl | omega))
        · refine r_aload_n (pc := 31) dX3_like_31 rfl ?_
          refine gX3_25 (pc := 32) dX3_like_32 hm.1.1 rfl ?_; have r32 := hm.r 5 0
          refine go_nm (fun z32 e32 => ?_)
          have r32 := InR_of e32 r32
          try simp [sT, cpT, cpN] at e32
          refine r_if_ne (pc := 35) (tgt := 93) dX3_like_35 (by decide) (by first | omega | exact rfB_in _ | exact nz_in _ | exact hm.r _ _) (fun c35 => ?_) (fun c35 => ?_)
          · refine r_iload_n (pc := 93) dX3_like_93 rfl ?_
            exact e_retTW (pc := 94) dX3_like_94 rfl hm (by first | (exfalso; omega) | (rw [show zLik (T 0) b = btZ (fun a => likP (T 0) b a) (T 0 0) from if_pos (if_pos (by omega)), hw, show a = T 0 0 by omega]; exact btZ_e) | (rw [show zLik (T 0) b = 0 from if_neg (by rw [show kAr (T 0) b = 1 from if_neg (by omega)]; decide), hw, h5.resolve_left (by rw [show kAr (T 0) b = 1 from if_neg (by omega)]; decide)]; rfl)) (by first | (rw [sT_sT]; congr 1; unfold kAr; (repeat' split) <;> first | rfl | omega) | (congr 1; unfold kAr; (repeat' split) <;> first | rfl | omega))
          · have h0a : 0 ≤ a ∧ a < T 0 0 := (by omega)
            have ho2 := hI.2.1 a h0a.1 h0a.2
            have ho := ho2
            unfold artOk at ho
            refine r_iload_n (pc := 38) dX3_like_38 rfl ?_
            refine r_aload_n (pc := 39) dX3_like_39 rfl ?_
            refine r_iload_n (pc := 40) dX3_like_40 rfl ?_
            refine r_iconst (pc := 41) dX3_like_41 ?_
            refine r_callV (pc := 42) (kb' := 0) dX3_like_42 kX3_av q2815 (t_av hm (by first | omega | (simp only [th0]; omega)) (by first | omega | (simp only [th0]; omega))) hm.1.1 rfl (Nat.le_refl _) (Nat.le_of_ble_eq_true rfl) rfl rfl (Nat.le_of_ble_eq_true rfl) (fun _ _ q => q.elim) (fun _ _ hq => go_E hq ?_)
            try simp only [th0]
            refine r_if_lt (pc := 45) (tgt := 84) dX3_like_45 (by decide) (by first | omega | exact rfB_in _ | exact nz_in _ | exact hm.r _ _) (fun c45 => ?_) (fun c45 => ?_)
            · refine r_iconst (pc := 84) dX3_like_84 ?_
              refine q_ior (pc := 85) dX3_like_85 ?_
              refine r_istore_n (pc := 86) (L' := [_, _, _, _]) dX3_like_86 rfl ?_
              refine r_iinc (pc := 87) (L' := [_, _, _, _]) dX3_like_87 rfl rfl ?_
              refine r_goto (pc := 90) (tgt := 21) dX3_like_90 (by decide) ?_
              exact ih21 _ _ (by omega) (by first | omega | exact bt_t (p := (fun a => likP (T 0) b a)) ha.1 hw (by omega) | exact bt_f (p := (fun a => likP (T 0) b a)) ha.1 hw (by omega)) (by first | (exfalso; omega) | exact Or.inl (if_pos (by omega))) (by omega)
            · refine r_aload_n (pc := 48) dX3_like_48 rfl ?_
              refine r_iload_n (pc := 49) dX3_like_49 rfl ?_
              refine r_iconst (pc := 50) dX3_like_50 ?_
              refine r_callV (pc := 51) (kb' := 0) dX3_like_51 kX3_av q2815 (t_av hm (by first | omega | (simp only [th0]; omega)) (by first | omega | (simp only [th0]; omega))) hm.1.1 rfl (Nat.le_refl _) (Nat.le_of_ble_eq_true rfl) rfl rfl (Nat.le_of_ble_eq_true rfl) (fun _ _ q => q.elim) (fun _ _ hq => go_E hq ?_)
              try simp only [th0]
              refine r_aload_n (pc := 54) dX3_like_54 rfl ?_
              refine r_iload_n (pc := 55) dX3_like_55 rfl ?_
              refine r_iconst (pc := 56) dX3_like_56 ?_
              refine r_callV (pc := 57) (kb' := 0) dX3_like_57 kX3_av q2815 (t_av hm (by first | omega | (simp only [th0]; omega)) (by first | omega | (simp only [th0]; omega))) hm.1.1 rfl (Nat.le_refl _) (Nat.le_of_ble_eq_true rfl) rfl rfl (Nat.le_of_ble_eq_true rfl) (fun _ _ q => q.elim) (fun _ _ hq => go_E hq ?_)
              try simp only [th0]
              refine r_icmp_ne (pc := 60) (tgt := 84) dX3_like_60 (by decide) (by first | omega | exact rfB_in _ | exact nz_in _ | exact hm.r _ _) (by first | omega | exact rfB_in _ | exact nz_in _ | exact hm.r _ _) (fun c60 => ?_) (fun c60 => ?_)
              · refine r_iconst (pc := 84) dX3_like_84 ?_
                refine q_ior (pc := 85) dX3_like_85 ?_
                refine r_istore_n (pc := 86) (L' := [_, _, _, _]) dX3_like_86 rfl ?_
                refine r_iinc (pc := 87) (L' := [_, _, _, _]) dX3_like_87 rfl rfl ?_
                refine r_goto (pc := 90) (tgt := 21) dX3_like_90 (by decide) ?_
                exact ih21 _ _ (by omega) (by first | omega | exact bt_t (p := (fun a => likP (T 0) b a)) ha.1 hw (by omega) | exact bt_f (p := (fun a => likP (T 0) b a)) ha.1 hw (by omega)) (by first | (exfalso; omega) | exact Or.inl (if_pos (by omega))) (by omega)
              · refine r_aload_n (pc := 63) dX3_like_63 rfl ?_
                refine r_iload_n (pc := 64) dX3_like_64 rfl ?_
                refine r_iconst (pc := 65) dX3_like_65 ?_
                refine r_callV (pc := 66) (kb' := 0) dX3_like_66 kX3_av q2815 (t_av hm (by first | omega | (simp only [th0]; omega)) (by first | omega | (simp only [th0]; omega))) hm.1.1 rfl (Nat.le_refl _) (Nat.le_of_ble_eq_true rfl) rfl rfl (Nat.le_of_ble_eq_true rfl) (fun _ _ q => q.elim) (fun _ _ hq => go_E hq ?_)
                try simp only [th0]
                refine r_aload_n (pc := 69) dX3_like_69 rfl ?_
                refine r_iload_n (pc := 70) dX3_like_70 rfl ?_
                refine r_iconst (pc := 71) dX3_like_71 ?_
                refine r_callV (pc := 72) (kb' := 0) dX3_like_72 kX3_av q2815 (t_av hm (by first | omega | (simp only [th0]; omega)) (by first | omega | (simp only [th0]; omega))) hm.1.1 rfl (Nat.le_refl _) (Nat.le_of_ble_eq_true rfl) rfl rfl (Nat.le_of_ble_eq_true rfl) (fun _ _ q => q.elim) (fun _ _ hq => go_E hq ?_)
                try simp only [th0]
                refine r_icmp_ne (pc := 75) (tgt := 84) dX3_like_75 (by decide) (by first | omega | exact rfB_in _ | exact nz_in _ | exact hm.r _ _) (by first | omega | exact rfB_in _ | exact nz_in _ | exact hm.r _ _) (fun c75 => ?_) (fun c75 => ?_)
                · refine r_iconst (pc := 84) dX3_like_84 ?_
                  refine q_ior (pc := 85) dX3_like_85 ?_
                  refine r_istore_n (pc := 86) (L' := [_, _, _, _]) dX3_like_86 rfl ?_
                  refine r_iinc (pc := 87) (L' := [_, _, _, _]) dX3_like_87 rfl rfl ?_
                  refine r_goto (pc := 90) (tgt := 21) dX3_like_90 (by decide) ?_
                  exact ih21 _ _ (by omega) (by first | omega | exact bt_t (p := (fun a => likP (T 0) b a)) ha.1 hw (by omega) | exact bt_f (p := (fun a => likP (T 0) b a)) ha.1 hw (by omega)) (by first | (exfalso; omega) | exact Or.inl (if_pos (by omega))) (by omega)
                · refine r_iconst (pc := 78) dX3_like_78 ?_
                  refine r_iload_n (pc := 79) dX3_like_79 rfl ?_
                  refine q_ishl (pc := 80) dX3_like_80 ?_
                  refine r_goto (pc := 81) (tgt := 85) dX3_like_81 (by decide) ?_
                  refine q_ior (pc := 85) dX3_like_85 ?_
                  refine r_istore_n (pc := 86) (L' := [_, _, _, _]) dX3_like_86 rfl ?_
                  refine r_iinc (pc := 87) (L' := [_, _, _, _]) dX3_like_87 rfl rfl ?_
                  refine r_goto (pc := 90) (tgt := 21) dX3_like_90 (by decide) ?_
                  exact ih21 _ _ (by omega) (by first | omega | exact bt_t (p := (fun a => likP (T 0) b a)) ha.1 hw (by omega) | exact bt_f (p := (fun a => likP (T 0) b a)) ha.1 hw (by omega)) (by first | (exfalso; omega) | exact Or.inl (if_pos (by omega))) (by omega)
    exact loop21 ((T 0 0).toNat + 1) _ _ (by omega) rfl (Or.inr rfl) (by omega)
  · refine r_iconst (pc := 9) dX3_like_9 ?_
    refine r_goto (pc := 10) (tgt := 14) dX3_like_10 (by decide) ?_
    refine pX3_25 (pc := 14) dX3_like_14 hm.1.1 (by decide) (Nat.le_of_ble_eq_true rfl) ?_
    refine t_put 5 rfl hm (by first | omega | exact rfB_in _ | exact nz_in _ | exact hm.r _ _) (fun h hm => ?_)
    refine r_iconst (pc := 17) dX3_like_17 ?_
    refine r_istore_n (pc := 18) (L' := [_, _, _, _]) dX3_like_18 rfl ?_
    refine r_iconst (pc := 19) dX3_like_19 ?_
    refine r_istore_n (pc := 20) (L' := [_, _, _, _]) dX3_like_20 rfl ?_
    have loop21 : ∀ (n : Nat) (w : Int32) (a : Int) , (0 ≤ a ∧ a ≤ T 0 0) → w = btW (fun a => likP (T 0) b a) a.toNat → (kAr (T 0) b = 0 ∨ a = 0) → T 0 0 - a < n → Go G eM cX3_like (4, some .int, "like", []) 3 0 (RT m ad h9 (zLik (T 0) b) (sT T 5 0 (kAr (T 0) b))) noX 0 h 21 [some (.ref m), some (.int (iZ b)), some (.int w), some (.int (iZ a))] [] := by
      intro n
      induction n with
      | zero => intro w a ha hw h5 hn; omega
      | succ n ih21 =>
        intro w a ha hw h5 hn
        refine r_iload_n (pc := 21) dX3_like_21 rfl ?_
        refine r_aload_n (pc := 22) dX3_like_22 rfl ?_
        refine gX3_7 (pc := 23) dX3_like_23 hm.1.1 rfl ?_
        refine r_iconst (pc := 26) dX3_like_26 ?_
        refine t_iald (pc := 27) (lim := 140) 0 dX3_like_27 hm (by decide) rfl (by first | omega | exact rfB_in _ | exact nz_in _ | exact hm.r _ _) (fun r27 => ?_)
        refine go_nm (fun z27 e27 => ?_)
        have r27 := InR_of e27 r27
        try simp [sT, cpT, cpN] at e27
        refine r_icmp_ge (pc := 28) (tgt := 93) dX3_like_28 (by decide) (by first | omega | exact rfB_in _ | exact nz_in _ | exact hm.r _ _) (by first | omega | exact rfB_in _ | exact nz_in _ | exact hm.r _ _) (fun c28 => ?_) (fun c28 => ?_)
        · refine r_iload_n (pc := 93) dX3_like_93 rfl ?_
          exact e_retTW (pc := 94) dX3_like_94 rfl hm (by first | (exfalso; omega) | (rw [show zLik (T 0) b = btZ (fun a => likP (T 0) b a) (T 0 0) from if_pos (if_pos (by omega)), hw, show a = T 0 0 by omega]; exact btZ_e) | (rw [show zLik (T 0) b = 0 from if_neg (by rw [show kAr (T 0) b = 1 from if_neg (by omega)]; decide), hw, h5.resolve_left (by rw [show kAr (T 0) b = 1 from if_neg (by omega)]; decide)]; rfl)) (by first | (rw [sT_sT]; congr 1; unfold kAr; (repeat' split) <;> first | rfl | omega) | (congr 1; unfold kAr; (repeat' split) <;> first | rfl | omega))
        · refine r_aload_n (pc := 31) dX3_like_31 rfl ?_
          refine gX3_25 (pc := 32) dX3_like_32 hm.1.1 rfl ?_; have r32 := hm.r 5 0
          refine go_nm (fun z32 e32 => ?_)
          have r32 := InR_of e32 r32
          try simp [sT, cpT, cpN] at e32
          refine r_if_ne (pc := 35) (tgt := 93) dX3_like_35 (by decide) (by first | omega | exact rfB_in _ | exact nz_in _ | exact hm.r _ _) (fun c35 => ?_) (fun c35 => ?_)
          · refine r_iload_n (pc := 93) dX3_like_93 rfl ?_
            exact e_retTW (pc := 94) dX3_like_94 rfl hm (by first | (exfalso; omega) | (rw [show zLik (T 0) b = btZ (fun a => likP (T 0) b a) (T 0 0) from if_pos (if_pos (by omega)), hw, show a = T 0 0 by omega]; exact btZ_e) | (rw [show zLik (T 0) b = 0 from if_neg (by rw [show kAr (T 0) b = 1 from if_neg (by omega)]; decide), hw, h5.resolve_left (by rw [show kAr (T 0) b = 1 from if_neg (by omega)]; decide)]; rfl)) (by first | (rw [sT_sT]; congr 1; unfold kAr; (repeat' split) <;> first | rfl | omega) | (congr 1; unfold kAr; (repeat' split) <;> first | rfl | omega))
          · have h0a : 0 ≤ a ∧ a < T 0 0 := (by omega)
            have ho2 := hI.2.1 a h0a.1 h0a.2
            have ho := ho2
            unfold artOk at ho
            refine r_iload_n (pc := 38) dX3_like_38 rfl ?_
            refine r_aload_n (pc := 39) dX3_like_39 rfl ?_
            refine r_iload_n (pc := 40) dX3_like_40 rfl ?_
            refine r_iconst (pc := 41) dX3_like_41 ?_
            refine r_callV (pc := 42) (kb' := 0) dX3_like_42 kX3_av q2815 (t_av hm (by first | omega | (simp only [th0]; omega)) (by first | omega | (simp only [th0]; omega))) hm.1.1 rfl (Nat.le_refl _) (Nat.le_of_ble_eq_true rfl) rfl rfl (Nat.le_of_ble_eq_true rfl) (fun _ _ q => q.elim) (fun _ _ hq => go_E hq ?_)
            try simp only [th0]
            refine r_if_lt (pc := 45) (tgt := 84) dX3_like_45 (by decide) (by first | omega | exact rfB_in _ | exact nz_in _ | exact hm.r _ _) (fun c45 => ?_) (fun c45 => ?_)
            · refine r_iconst (pc := 84) dX3_like_84 ?_
              refine q_ior (pc := 85) dX3_like_85 ?_
              refine r_istore_n (pc := 86) (L' := [_, _, _, _]) dX3_like_86 rfl ?_
              refine r_iinc (pc := 87) (L' := [_, _, _, _]) dX3_like_87 rfl rfl ?_
              refine r_goto (pc := 90) (tgt := 21) dX3_like_90 (by decide) ?_
              exact ih21 _ _ (by omega) (by first | omega | exact bt_t (p := (fun a => likP (T 0) b a)) ha.1 hw (by omega) | exact bt_f (p := (fun a => likP (T 0) b a)) ha.1 hw (by omega)) (by first | (exfalso; omega) | exact Or.inl (if_pos (by omega))) (by omega)
            · refine r_aload_n (pc := 48) dX3_like_48 rfl ?_
              refine r_iload_n (pc := 49) dX3_like_49 rfl ?_
              refine r_iconst (pc := 50) dX3_like_50 ?_
              refine r_callV (pc := 51) (kb' := 0) dX3_like_51 kX3_av q2815 (t_av hm (by first | omega | (simp only [th0]; omega)) (by first | omega | (simp only [th0]; omega))) hm.1.1 rfl (Nat.le_refl _) (Nat.le_of_ble_eq_true rfl) rfl rfl (Nat.le_of_ble_eq_true rfl) (fun _ _ q => q.elim) (fun _ _ hq => go_E hq ?_)
              try simp only [th0]
              refine r_aload_n (pc := 54) dX3_like_54 rfl ?_
              refine r_iload_n (pc := 55) dX3_like_55 rfl ?_
              refine r_iconst (pc := 56) dX3_like_56 ?_
              refine r_callV (pc := 57) (kb' := 0) dX3_like_57 kX3_av q2815 (t_av hm (by first | omega | (simp only [th0]; omega)) (by first | omega | (simp only [th0]; omega))) hm.1.1 rfl (Nat.le_refl _) (Nat.le_of_ble_eq_true rfl) rfl rfl (Nat.le_of_ble_eq_true rfl) (fun _ _ q => q.elim) (fun _ _ hq => go_E hq ?_)
              try simp only [th0]
              refine r_icmp_ne (pc := 60) (tgt := 84) dX3_like_60 (by decide) (by first | omega | exact rfB_in _ | exact nz_in _ | exact hm.r _ _) (by first | omega | exact rfB_in _ | exact nz_in _ | exact hm.r _ _) (fun c60 => ?_) (fun c60 => ?_)
              · refine r_iconst (pc := 84) dX3_like_84 ?_
                refine q_ior (pc := 85) dX3_like_85 ?_
                refine r_istore_n (pc := 86) (L' := [_, _, _, _]) dX3_like_86 rfl ?_
                refine r_iinc (pc := 87) (L' := [_, _, _, _]) dX3_like_87 rfl rfl ?_
                refine r_goto (pc := 90) (tgt := 21) dX3_like_90 (by decide) ?_
                exact ih21 _ _ (by omega) (by first | omega | exact bt_t (p := (fun a => likP (T 0) b a)) ha.1 hw (by omega) | exact bt_f (p := (fun a => likP (T 0) b a)) ha.1 hw (by omega)) (by first | (exfalso; omega) | exact Or.inl (if_pos (by omega))) (by omega)
              · refine r_aload_n (pc := 63) dX3_like_63 rfl ?_
                refine r_iload_n (pc := 64) dX3_like_64 rfl ?_
                refine r_iconst (pc := 65) dX3_like_65 ?_
                refine r_callV (pc := 66) (kb' := 0) dX3_like_66 kX3_av q2815 (t_av hm (by first | omega | (simp only [th0]; omega)) (by first | omega | (simp only [th0]; omega))) hm.1.1 rfl (Nat.le_refl _) (Nat.le_of_ble_eq_true rfl) rfl rfl (Nat.le_of_ble_eq_true rfl) (fun _ _ q => q.elim) (fun _ _ hq => go_E hq ?_)
                try simp only [th0]
                refine r_aload_n (pc := 69) dX3_like_69 rfl ?_
                refine r_iload_n (pc := 70) dX3_like_70 rfl ?_
                refine r_iconst (pc := 71) dX3_like_71 ?_
                refine r_callV (pc := 72) (kb' := 0) dX3_like_72 kX3_av q2815 (t_av hm (by first | omega | (simp only [th0]; omega)) (by first | omega | (simp only [th0]; omega))) hm.1.1 rfl (Nat.le_refl _) (Nat.le_of_ble_eq_true rfl) rfl rfl (Nat.le_of_ble_eq_true rfl) (fun _ _ q => q.elim) (fun _ _ hq => go_E hq ?_)
                try simp only [th0]
                refine r_icmp_ne (pc := 75) (tgt := 84) dX3_like_75 (by decide) (by first | omega | exact rfB_in _ | exact nz_in _ | exact hm.r _ _) (by first | omega | exact rfB_in _ | exact nz_in _ | exact hm.r _ _) (fun c75 => ?_) (fun c75 => ?_)
                · refine r_iconst (pc := 84) dX3_like_84 ?_
                  refine q_ior (pc := 85) dX3_like_85 ?_
                  refine r_istore_n (pc := 86) (L' := [_, _, _, _]) dX3_like_86 rfl ?_
                  refine r_iinc (pc := 87) (L' := [_, _, _, _]) dX3_like_87 rfl rfl ?_
                  refine r_goto (pc := 90) (tgt := 21) dX3_like_90 (by decide) ?_
                  exact ih21 _ _ (by omega) (by first | omega | exact bt_t (p := (fun a => likP (T 0) b a)) ha.1 hw (by omega) | exact bt_f (p := (fun a => likP (T 0) b a)) ha.1 hw (by omega)) (by first | (exfalso; omega) | exact Or.inl (if_pos (by omega))) (by omega)
                · refine r_iconst (pc := 78) dX3_like_78 ?_
                  refine r_iload_n (pc := 79) dX3_like_79 rfl ?_
                  refine q_ishl (pc := 80) dX3_like_80 ?_
                  refine r_goto (pc := 81) (tgt := 85) dX3_like_81 (by decide) ?_
                  refine q_ior (pc := 85) dX3_like_85 ?_
                  refine r_istore_n (pc := 86) (L' := [_, _, _, _]) dX3_like_86 rfl ?_
                  refine r_iinc (pc := 87) (L' := [_, _, _, _]) dX3_like_87 rfl rfl ?_
                  refine r_goto (pc := 90) (tgt := 21) dX3_like_90 (by decide) ?_
                  exact ih21 _ _ (by omega) (by first | omega | exact bt_t (p := (fun a => likP (T 0) b a)) ha.1 hw (by omega) | exact bt_f (p := (fun a => likP (T 0) b a)) ha.1 hw (by omega)) (by first | (exfalso; omega) | exact Or.inl (if_pos (by omega))) (by omega)
    exact loop21 ((T 0 0).toNat + 1) _ _ (by omega) rfl (Or.inr rfl) (by omega)
