set_option maxRecDepth 100000
theorem t_glazes {G : Gl} {m : Nat} {ad : Nat → Nat} {h0 h : Hp} {T : TM} (hm : TI m ad h0 T h) {a : Int} (hI : RI (T 0)) (ha : 0 ≤ a ∧ a < T 0 0) : Ct G 2 0 yX3_glazes (Cond.code yX3_glazes cX3_glazes 2 (some .int)) [.ref m, .int (iZ a)] h (RT m ad h (fA (T 0) a 1 + 1) (uT T (uA (T 0) a 1 (fA (T 0) a 1 + 1)))) noX := by
  have hm := hm.nw
  have hb := hI.1
  have ho := hI.2.1 a ha.1 ha.2
  have ho2 := ho
  unfold artOk at ho
  refine Ct.of (own := eM) (nm := "glazes") (by decide +kernel) rfl rfl (L := [some (.ref m), some (.int (iZ a))]) rfl (Nat.le_of_ble_eq_true rfl) rfl ?_
  refine r_aload_n (pc := 0) dX3_glazes_0 rfl ?_
  refine r_iload_n (pc := 1) dX3_glazes_1 rfl ?_
  refine r_iconst (pc := 2) dX3_glazes_2 ?_
  refine r_aload_n (pc := 3) dX3_glazes_3 rfl ?_
  refine r_iload_n (pc := 4) dX3_glazes_4 rfl ?_
  refine r_iconst (pc := 5) dX3_glazes_5 ?_
  refine r_callV (pc := 6) (kb' := 0) dX3_glazes_6 kX3_av q2815 (t_av hm (by omega) (by omega)) hm.1.1 rfl (Nat.le_refl _) (Nat.le_of_ble_eq_true rfl) rfl rfl (Nat.le_of_ble_eq_true rfl) (fun _ _ q => q.elim) (fun _ _ hq => go_E hq ?_)
  refine r_iconst (pc := 9) dX3_glazes_9 ?_
  refine r_iadd (pc := 10) dX3_glazes_10 ?_
  refine r_callV (pc := 11) (kb' := 0) dX3_glazes_11 kX3_la q2831 (t_la hm (by omega) (by omega) (by omega)) hm.1.1 rfl (Nat.le_refl _) (Nat.le_of_ble_eq_true rfl) rfl rfl (Nat.le_of_ble_eq_true rfl) (fun _ _ q => q.elim) (fun _ _ hq => go_V hq (fun h hm1 => ?_))
  have hm := hm.tr hm1
  refine r_aload_n (pc := 14) dX3_glazes_14 rfl ?_
  refine r_iload_n (pc := 15) dX3_glazes_15 rfl ?_
  refine r_iconst (pc := 16) dX3_glazes_16 ?_
  refine r_callV (pc := 17) (kb' := 0) dX3_glazes_17 kX3_av q2815 (t_av hm (by omega) (by omega)) hm.1.1 rfl (Nat.le_refl _) (Nat.le_of_ble_eq_true rfl) rfl rfl (Nat.le_of_ble_eq_true rfl) (fun _ _ q => q.elim) (fun _ _ hq => go_E hq ?_)
  exact e_retT (pc := 20) dX3_glazes_20 rfl hm (by simp [fA, sT]) (by funext k j; simp only [sT, uT, uA, uR]; (repeat' split) <;> (subst_vars; first | rfl | omega | (congr 1; omega) | (simp_all; done) | (simp_all; omega)))
theorem t_shelves {G : Gl} {m : Nat} {ad : Nat → Nat} {h0 h : Hp} {T : TM} (hm : TI m ad h0 T h) {a s : Int} (hI : RI (T 0)) (ha : 0 ≤ a ∧ a < T 0 0) (hs : InR s) : Ct G 2 0 yX3_shelves (Cond.code yX3_shelves cX3_shelves 4 (some .int)) [.ref m, .int (iZ a), .int (iZ s)] h (RT m ad h (fA (T 0) a 4) (uT T (uA (T 0) a 4 s))) noX := by
  have hm := hm.nw
  have hb := hI.1
  have ho := hI.2.1 a ha.1 ha.2
  have ho2 := ho
  unfold artOk at ho
  refine Ct.of (own := eM) (nm := "shelves") (by decide +kernel) rfl rfl (L := [some (.ref m), some (.int (iZ a)), some (.int (iZ s)), none]) rfl (Nat.le_of_ble_eq_true rfl) rfl ?_
  refine r_aload_n (pc := 0) dX3_shelves_0 rfl ?_
  refine r_iload_n (pc := 1) dX3_shelves_1 rfl ?_
  refine r_iconst (pc := 2) dX3_shelves_2 ?_
  refine r_callV (pc := 3) (kb' := 0) dX3_shelves_3 kX3_av q2815 (t_av hm (by omega) (by omega)) hm.1.1 rfl (Nat.le_refl _) (Nat.le_of_ble_eq_true rfl) rfl rfl (Nat.le_of_ble_eq_true rfl) (fun _ _ q => q.elim) (fun _ _ hq => go_E hq ?_)
  refine r_istore_n (pc := 6) (L' := [_, _, _, _]) dX3_shelves_6 rfl ?_
  refine r_aload_n (pc := 7) dX3_shelves_7 rfl ?_
  refine r_iload_n (pc := 8) dX3_shelves_8 rfl ?_
  refine r_iconst (pc := 9) dX3_shelves_9 ?_
  refine r_iload_n (pc := 10) dX3_shelves_10 rfl ?_
  refine r_callV (pc := 11) (kb' := 0) dX3_shelves_11 kX3_la q2831 (t_la hm (by omega) (by omega) (by omega)) hm.1.1 rfl (Nat.le_refl _) (Nat.le_of_ble_eq_true rfl) rfl rfl (Nat.le_of_ble_eq_true rfl) (fun _ _ q => q.elim) (fun _ _ hq => go_V hq (fun h hm1 => ?_))
  have hm := hm.tr hm1
  refine r_iload_n (pc := 14) dX3_shelves_14 rfl ?_
  exact e_retT (pc := 15) dX3_shelves_15 rfl hm rfl (by funext k j; simp only [sT, uT, uA, uR]; (repeat' split) <;> (subst_vars; first | rfl | omega | (congr 1; omega) | (simp_all; done) | (simp_all; omega)))
theorem t_comes {G : Gl} {m : Nat} {ad : Nat → Nat} {h0 h9 : Hp} {T9 : TM} (hm : TI m ad h0 T9 h9) {c s : Int} (hI : RI (T9 0)) (hc : InR c) (hs : InR s) (h12 : T9 0 0 < 12) : Ct G 2 0 yX3_comes (Cond.code yX3_comes cX3_comes 5 (some .int)) [.ref m, .int (iZ c), .int (iZ s)] h9 (RT m ad h9 (T9 0 0) (uT T9 (cmR (T9 0) c s))) noX := by
  have hm := hm.nw
  have hb := hI.1
  refine Ct.of (own := eM) (nm := "comes") (by decide +kernel) rfl rfl (L := [some (.ref m), some (.int (iZ c)), some (.int (iZ s)), none, none]) rfl (Nat.le_of_ble_eq_true rfl) rfl ?_
  refine r_aload_n (pc := 0) dX3_comes_0 rfl ?_
  refine gX3_7 (pc := 1) dX3_comes_1 hm.1.1 rfl ?_
  refine r_iconst (pc := 4) dX3_comes_4 ?_
  refine t_iald (pc := 5) (lim := 140) 0 dX3_comes_5 hm (by decide) rfl (by first | omega | exact rfB_in _ | exact nz_in _ | exact hm.r _ _) (fun r5 => ?_)
  refine r_istore_n (pc := 6) (L' := [_, _, _, _, _]) dX3_comes_6 rfl ?_
  refine r_iconst (pc := 7) dX3_comes_7 ?_
  refine r_istore (pc := 8) (L' := [_, _, _, _, _]) dX3_comes_8 rfl ?_
  have loop10 : ∀ (n : Nat) (z : Int) (h : Hp) (T : TM), TI m ad h9 T h → (0 ≤ z ∧ z ≤ 6) → T = zrT T9 (56 + 6 * T9 0 0) z → 6 - z < n → Go G eM cX3_comes (5, some .int, "comes", []) 2 0 (RT m ad h9 (T9 0 0) (uT T9 (cmR (T9 0) c s))) noX 0 h 10 [some (.ref m), some (.int (iZ c)), some (.int (iZ s)), some (.int (iZ (T9 0 0))), some (.int (iZ z))] [] := by
    intro n
    induction n with
    | zero => intro z h T hm hz hT hn; omega
    | succ n ih10 =>
      intro z h T hm hz hT hn
      refine r_iload (pc := 10) dX3_comes_10 rfl ?_
      refine r_bipush (pc := 12) dX3_comes_12 (by decide) ?_
      refine r_icmp_ge (pc := 14) (tgt := 31) dX3_comes_14 (by decide) (by first | omega | exact rfB_in _ | exact nz_in _ | exact hm.r _ _) (by first | omega | exact rfB_in _ | exact nz_in _ | exact hm.r _ _) (fun c14 => ?_) (fun c14 => ?_)
      · refine r_aload_n (pc := 31) dX3_comes_31 rfl ?_
        refine r_iload_n (pc := 32) dX3_comes_32 rfl ?_
        refine r_iconst (pc := 33) dX3_comes_33 ?_
        refine r_iload_n (pc := 34) dX3_comes_34 rfl ?_
        refine r_callV (pc := 35) (kb' := 0) dX3_comes_35 kX3_la q2831 (t_la hm (by omega) (by omega) (by omega)) hm.1.1 rfl (Nat.le_refl _) (Nat.le_of_ble_eq_true rfl) rfl rfl (Nat.le_of_ble_eq_true rfl) (fun _ _ q => q.elim) (fun _ _ hq => go_V hq (fun h hm1 => ?_))
        have hm := hm.tr hm1
        refine r_aload_n (pc := 38) dX3_comes_38 rfl ?_
        refine r_iload_n (pc := 39) dX3_comes_39 rfl ?_
        refine r_iconst (pc := 40) dX3_comes_40 ?_
        refine r_iload_n (pc := 41) dX3_comes_41 rfl ?_
        refine r_callV (pc := 42) (kb' := 0) dX3_comes_42 kX3_la q2831 (t_la hm (by omega) (by omega) (by omega)) hm.1.1 rfl (Nat.le_refl _) (Nat.le_of_ble_eq_true rfl) rfl rfl (Nat.le_of_ble_eq_true rfl) (fun _ _ q => q.elim) (fun _ _ hq => go_V hq (fun h hm1 => ?_))
        have hm := hm.tr hm1
        refine r_aload_n (pc := 45) dX3_comes_45 rfl ?_
        refine gX3_7 (pc := 46) dX3_comes_46 hm.1.1 rfl ?_
        refine r_iconst (pc := 49) dX3_comes_49 ?_
        refine r_dup2 (pc := 50) dX3_comes_50 rfl rfl ?_
        refine t_iald (pc := 51) (lim := 140) 0 dX3_comes_51 hm (by decide) rfl (by first | omega | exact rfB_in _ | exact nz_in _ | exact hm.r _ _) (fun r51 => ?_)
        refine go_nm (fun z51 e51 => ?_)
        have r51 := InR_of e51 r51
        rw [hT] at e51; simp only [sT, zrT] at e51; (try rw [if_neg (by omega)] at e51); (try rw [if_neg (by omega)] at e51); (try rw [if_neg (by omega)] at e51)
        refine r_iconst (pc := 52) dX3_comes_52 ?_
        refine r_iadd (pc := 53) dX3_comes_53 ?_
        refine t_iast (pc := 54) (lim := 140) 0 dX3_comes_54 hm (by decide) rfl (by first | omega | exact rfB_in _ | exact nz_in _ | exact hm.r _ _) (by first | omega | exact rfB_in _ | exact nz_in _ | exact hm.r _ _) (fun h hm => ?_)
        refine r_iload_n (pc := 55) dX3_comes_55 rfl ?_
        exact e_retT (pc := 56) dX3_comes_56 rfl hm rfl (by rw [hT, show z = 6 by omega]; exact (by funext k j; simp only [zrT, sT, uT, cmR]; (repeat' split) <;> (subst_vars; first | rfl | omega | (congr 1; omega) | (simp_all; done) | (simp_all; omega))))
      · refine r_aload_n (pc := 17) dX3_comes_17 rfl ?_
        refine r_iload_n (pc := 18) dX3_comes_18 rfl ?_
        refine r_iload (pc := 19) dX3_comes_19 rfl ?_
        refine r_iconst (pc := 21) dX3_comes_21 ?_
        refine r_callV (pc := 22) (kb' := 0) dX3_comes_22 kX3_la q2831 (t_la hm (by omega) (by omega) (by omega)) hm.1.1 rfl (Nat.le_refl _) (Nat.le_of_ble_eq_true rfl) rfl rfl (Nat.le_of_ble_eq_true rfl) (fun _ _ q => q.elim) (fun _ _ hq => go_V hq (fun h hm1 => ?_))
        have hm := hm.tr hm1
        refine r_iinc (pc := 25) (L' := [_, _, _, _, _]) dX3_comes_25 rfl rfl ?_
        refine r_goto (pc := 28) (tgt := 10) dX3_comes_28 (by decide) ?_
        exact ih10 _ _ _ hm (by omega) (by rw [hT]; exact (by funext k j; simp only [zrT, sT]; (repeat' split) <;> (subst_vars; first | rfl | omega | (congr 1; omega) | (simp_all; done) | (simp_all; omega)))) (by omega)
  exact loop10 7 _ _ _ hm (by omega) (by funext k j; simp only [zrT]; (repeat' split) <;> (subst_vars; first | rfl | omega | (congr 1; omega) | (simp_all; done) | (simp_all; omega))) (by omega)
