set_option maxRecDepth 100000
theorem t_reads {G : Gl} {m : Nat} {ad : Nat → Nat} {h0 h9 : Hp} {T9 : TM} (hm : TI m ad h0 T9 h9) (hf : 0 ≤ T9 18 0 ∧ T9 18 0 ≤ 60) : Ct G 5 0 yX3_reads (Cond.code yX3_reads cX3_reads 1 (none)) [.ref m] h9 (RP m ad h9 (RdP T9)) noX := by
  have hm := hm.nw
  refine Ct.of (own := eM) (nm := "reads") (by decide +kernel) rfl rfl (L := [some (.ref m)]) rfl (Nat.le_of_ble_eq_true rfl) rfl ?_
  refine r_aload_n (pc := 0) dX3_reads_0 rfl ?_
  refine r_aload_n (pc := 1) dX3_reads_1 rfl ?_
  refine gX3_66 (pc := 2) dX3_reads_2 hm.1.1 rfl ?_; have r2 := hm.r 18 0
  refine pX3_69 (pc := 5) dX3_reads_5 hm.1.1 (by decide) (Nat.le_of_ble_eq_true rfl) ?_
  refine t_put 19 rfl hm (by first | omega | exact rfB_in _ | exact nz_in _ | exact hm.r _ _) (fun h hm => ?_)
  refine r_aload_n (pc := 8) dX3_reads_8 rfl ?_
  refine r_iconst (pc := 9) dX3_reads_9 ?_
  refine pX3_66 (pc := 10) dX3_reads_10 hm.1.1 (by decide) (Nat.le_of_ble_eq_true rfl) ?_
  refine t_put 18 rfl hm (by first | omega | exact rfB_in _ | exact nz_in _ | exact hm.r _ _) (fun h hm => ?_)
  refine r_aload_n (pc := 13) dX3_reads_13 rfl ?_
  refine r_iconst (pc := 14) dX3_reads_14 ?_
  refine pX3_72 (pc := 15) dX3_reads_15 hm.1.1 (by decide) (Nat.le_of_ble_eq_true rfl) ?_
  refine t_put 20 rfl hm (by first | omega | exact rfB_in _ | exact nz_in _ | exact hm.r _ _) (fun h hm => ?_)
  refine r_aload_n (pc := 18) dX3_reads_18 rfl ?_
  refine r_iconst (pc := 19) dX3_reads_19 ?_
  refine pX3_75 (pc := 20) dX3_reads_20 hm.1.1 (by decide) (Nat.le_of_ble_eq_true rfl) ?_
  refine t_put 21 rfl hm (by first | omega | exact rfB_in _ | exact nz_in _ | exact hm.r _ _) (fun h hm => ?_)
  refine r_aload_n (pc := 23) dX3_reads_23 rfl ?_
  refine r_iconst (pc := 24) dX3_reads_24 ?_
  refine pX3_78 (pc := 25) dX3_reads_25 (iZ01 (by first | (left; rfl) | (right; rfl) | exact bZ_01 _ | omega)) hm.1.1 (by decide) (Nat.le_of_ble_eq_true rfl) ?_
  refine t_putB 22 (by decide) hm (by first | (left; rfl) | (right; rfl) | exact bZ_01 _ | omega) (fun h hm => ?_)
  refine r_aload_n (pc := 28) dX3_reads_28 rfl ?_
  refine r_callV (pc := 29) (kb' := 0) dX3_reads_29 kX3_order q3128 (t_order hm (by simp [sT]; omega) (by simp [sT]) (by simp [sT])) hm.1.1 rfl (Nat.le_refl _) (Nat.le_of_ble_eq_true rfl) rfl rfl (Nat.le_of_ble_eq_true rfl) (fun _ _ q => q.elim) (fun _ _ hq => go_V hq (fun h hm1 => ?_))
  have hm := hm.tr hm1
  have hB : RdB T9 (sT (sT (sT (sT (sT T9 19 0 (T9 18 0)) 18 0 0) 20 0 0) 21 0 0) 22 0 0) 0 [] := ⟨fun k hk => by funext j; rw [sT_k (by omega), sT_k (by omega), sT_k (by omega), sT_k (by omega), sT_k (by omega)], by simp [sT], by simp [sT], by simp [sT], by simp [sT], by simp [sT], fun i c hc => by simp at hc⟩
  have hR := rdI_s hB (by omega)
  have loop32 : ∀ (n : Nat) (p : Int) (l : List Cm) (f : Nat) (h : Hp) (T : TM), TI m ad h9 T h → (0 ≤ p ∧ p ≤ T9 18 0 ∧ 7 * (l.length : Int) ≤ p) → l.length + f = 10 → rd (T9 15) (T9 18 0) = rdS (T9 15) (T9 18 0) f p l → RdI T9 T p l → 62 - p < n → Go G eM cX3_reads (1, none, "reads", []) 5 0 (RP m ad h9 (RdP T9)) noX 0 h 32 [some (.ref m)] [] := by
    intro n
    induction n with
    | zero => intro p l f h T hm hp hl hr hR hn; omega
    | succ n ih32 =>
      intro p l f h T hm hp hl hr hR hn
      have h22 := hm.1.2.2.2.2.2
      have hor := (or_in (tx := T9 15) (n := T9 18 0) (p := p) hp.2.1).2.2
      have x9 : InR (mkZ (T9 15) (T9 18 0) (orD (T9 15) (T9 18 0) p).2.1 (orD (T9 15) (T9 18 0) p).2.2) := (by have := hm.r 15 (orD (T9 15) (T9 18 0) p).2.1; rw [hR.1 15 (by omega)] at this; unfold mkZ; split <;> omega)
      refine r_aload_n (pc := 32) dX3_reads_32 rfl ?_
      refine r_callV (pc := 33) (kb' := 0) dX3_reads_33 kX3_mark q3146 (t_mark hm (by rw [hR.2.2.1, hR.2.2.2.1]; omega)) hm.1.1 rfl (Nat.le_refl _) (Nat.le_of_ble_eq_true rfl) rfl rfl (Nat.le_of_ble_eq_true rfl) (fun _ _ q => q.elim) (fun _ _ hq => go_E hq ?_)
      rw [hR.1 15 (by omega), hR.2.2.1, hR.2.2.2.1, hR.2.2.2.2.1]
      refine r_bipush (pc := 36) dX3_reads_36 (by decide) ?_
      refine r_icmp_ne (pc := 38) (tgt := 58) dX3_reads_38 (by decide) (by first | omega | exact rfB_in _ | exact nz_in _ | exact hm.r _ _) (by first | omega | exact rfB_in _ | exact nz_in _ | exact hm.r _ _) (fun c38 => ?_) (fun c38 => ?_)
      · refine r_aload_n (pc := 58) dX3_reads_58 rfl ?_
        refine r_dup (pc := 59) dX3_reads_59 rfl ?_
        refine gX3_78 (pc := 60) dX3_reads_60 hm.1.1 rfl ?_; have r60 := hm.r 22 0
        refine r_aload_n (pc := 63) dX3_reads_63 rfl ?_
        refine gX3_72 (pc := 64) dX3_reads_64 hm.1.1 rfl ?_; have r64 := hm.r 20 0
        refine r_aload_n (pc := 67) dX3_reads_67 rfl ?_
        refine gX3_69 (pc := 68) dX3_reads_68 hm.1.1 rfl ?_; have r68 := hm.r 19 0
        refine r_icmp_ge (pc := 71) (tgt := 78) dX3_reads_71 (by decide) (by first | omega | exact rfB_in _ | exact nz_in _ | exact hm.r _ _) (by first | omega | exact rfB_in _ | exact nz_in _ | exact hm.r _ _) (fun c71 => ?_) (fun c71 => ?_)
        · refine r_iconst (pc := 78) dX3_reads_78 ?_
          refine q_ior (pc := 79) dX3_reads_79 ?_
          refine go_or0 ?_
          refine pX3_78 (pc := 80) dX3_reads_80 (iZ01 (by first | (left; rfl) | (right; rfl) | exact bZ_01 _ | omega)) hm.1.1 (by decide) (Nat.le_of_ble_eq_true rfl) ?_
          refine t_putB 22 (by decide) hm (by first | (left; rfl) | (right; rfl) | exact bZ_01 _ | omega) (fun h hm => ?_)
          exact e_vretP (pc := 83) dX3_reads_83 rfl hm (rdP_e hR hr (by omega) hp.2.1 c38 (by omega))
        · refine r_iconst (pc := 74) dX3_reads_74 ?_
          refine r_goto (pc := 75) (tgt := 79) dX3_reads_75 (by decide) ?_
          refine q_ior (pc := 79) dX3_reads_79 ?_
          refine go_or1 (by first | omega | exact hm.1.2.2.2.2.2) ?_
          refine pX3_78 (pc := 80) dX3_reads_80 (iZ01 (by first | (left; rfl) | (right; rfl) | exact bZ_01 _ | omega)) hm.1.1 (by decide) (Nat.le_of_ble_eq_true rfl) ?_
          refine t_putB 22 (by decide) hm (by first | (left; rfl) | (right; rfl) | exact bZ_01 _ | omega) (fun h hm => ?_)
          exact e_vretP (pc := 83) dX3_reads_83 rfl hm (rdP_e hR hr (by omega) hp.2.1 c38 (by omega))
      · have hx := mk_eq (by decide) (Decidable.of_not_not c38)
        have h20 := hR.2.2.2.1
        refine r_aload_n (pc := 41) dX3_reads_41 rfl ?_
        refine r_dup (pc := 42) dX3_reads_42 rfl ?_
        refine gX3_72 (pc := 43) dX3_reads_43 hm.1.1 rfl ?_; have r43 := hm.r 20 0
        refine r_iconst (pc := 46) dX3_reads_46 ?_
        refine r_iadd (pc := 47) dX3_reads_47 ?_
        refine pX3_72 (pc := 48) dX3_reads_48 hm.1.1 (by decide) (Nat.le_of_ble_eq_true rfl) ?_
        refine t_put 20 rfl hm (by first | omega | exact rfB_in _ | exact nz_in _ | exact hm.r _ _) (fun h hm => ?_)
        have hB := rdB_n hR hx.1
        refine r_aload_n (pc := 51) dX3_reads_51 rfl ?_
        refine r_callV (pc := 52) (kb' := 0) dX3_reads_52 kX3_order q3128 (t_order hm (by rw [hB.2.2.2.1, hB.2.2.1]; omega) hB.2.2.2.2.1 (by rw [hB.2.2.2.2.2.1]; simp; omega)) hm.1.1 rfl (Nat.le_refl _) (Nat.le_of_ble_eq_true rfl) rfl rfl (Nat.le_of_ble_eq_true rfl) (fun _ _ q => q.elim) (fun _ _ hq => go_V hq (fun h hm1 => ?_))
        have hm := hm.tr hm1
        have hR2 := rdI_s hB (by omega)
        refine r_goto (pc := 55) (tgt := 32) dX3_reads_55 (by decide) ?_
        exact ih32 _ _ (f - 1) _ _ hm (by simp; omega) (by simp; omega) (rd_t hr (by omega) hx.1 hx.2.1 hx.2.2) hR2 (by omega)
  exact loop32 63 0 [] 10 _ _ hm (by simp; omega) rfl rfl hR (by omega)
