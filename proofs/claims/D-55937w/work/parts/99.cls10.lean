set_option maxRecDepth 100000
theorem cuX2_53_10 {G : Gl} : CUok G "CharterKiln$State" "java/util/LinkedList" "java/util/AbstractSequentialList" 53 ⟨"java/util/LinkedList", "iterator", "()Ljava/util/Iterator;"⟩ yJ3_iterator cJ3_iterator 1 (some (.object "java/util/Iterator")) 0 := cu_U q1455 q1191 q1078 q1080 q1193 ⟨q1078, q111, q1080, ⟨by decide, by decide⟩, by decide +kernel, by decide⟩
/-! the class, part 10: the copy of a state -/
theorem cpA {r : Row} {k j : Int} (hj : 1 ≤ j ∧ j < 56 + 6 * k) : cpR r (k + 1) 0 0 j = cpR r k 0 0 j := by
  unfold cpR
  rw [if_neg (show ¬ j = 0 by omega), if_neg (show ¬ j = 0 by omega)]
theorem cpL {r : Row} {a k j : Int} (hj : j ≠ 1) : cpR r a (k + 1) 0 j = cpR r a k 0 j := by
  unfold cpR
  rw [if_neg hj, if_neg hj]
theorem cpS {r : Row} {a b k j : Int} (hj : j ≠ 2) : cpR r a b (k + 1) j = cpR r a b k j := by
  unfold cpR
  rw [if_neg hj, if_neg hj]
theorem cp_r {r : Row} {j : Int} (hj : j < 3 ∨ 9 < j) : r j = cpR r (r 0) (r 1) (r 2) j := by
  unfold cpR
  by_cases h0 : j = 0
  · rw [if_pos h0, h0]
  · by_cases h1 : j = 1
    · rw [if_neg h0, if_pos h1, h1]
    · by_cases h2 : j = 2
      · rw [if_neg h0, if_neg h1, if_pos h2, h2]
      · rw [if_neg h0, if_neg h1, if_neg h2, if_neg (by omega)]
theorem t_X2_copy {G : Gl} {h9 : Hp} {s T : Nat} {r : Row} (hW : SW G T s r h9) (hI : RI r) (hZ : FZ G h9) (T2 : Nat) (hT2 : T2 ≠ 0) (hTT : T ≠ T2) : Ct G 8 457 yX2_copy (Cond.code yX2_copy cX2_copy 4 (some (.object "CharterKiln$State"))) [.ref s] h9 (jX (fun q h' => SW G T2 q r h' ∧ Fr (pTQ T2) h9 h')) noX := by
  have hW0 := hW
  obtain ⟨al, cl, sl, m1, m2, m3, n1, n2, E, F, hX9⟩ := hW0
  have b := hI.1
  have hX2 := hX9
  obtain ⟨w1, w2, w3, w4, w5, w6, w7, w8⟩ := hX2
  obtain ⟨ar1, w2s⟩ := w2.size
  have hp := PW.nil (h := h9)
  refine Ct.of (own := "CharterKiln$State") (nm := "copy") (by decide +kernel) rfl rfl (L := [some (.ref s), none, none, none]) rfl (Nat.le_of_ble_eq_true rfl) rfl ?_
  refine r_new (pc := 0) (ci := 1) (T := TX2) (N := 10) ((T2, 0)) [.null, .null, .null, .int 0, .int 0, .int 0, .int 0, .int 0, .int 0, .int 0] (kb' := 446) dX2_copy_0 rfl q1380 q172 q107 (by intro j hj; revert j; decide +kernel) (Nat.le_of_ble_eq_true rfl) (fun c hc zc => ?_)
  refine go_pw (hp.new hc _) (fun h hp => ?_)
  have hcn := hc
  refine r_dup (pc := 3) dX2_copy_3 rfl ?_
  refine r_callI (pc := 4) (kb' := 432) dX2_copy_4 kX2_init q1381 (t_X2_init (hp.at 0 rfl) hT2 (hZ.fr (hp.fr (P := pN) ⟨Or.inl hcn, trivial⟩) (fun q => q))) (Nat.le_of_ble_eq_true rfl) (Nat.le_of_ble_eq_true rfl) rfl rfl (Nat.le_of_ble_eq_true rfl) (fun _ _ q => q.elim) (fun _ h hq => ?_)
  refine go_jN hq (fun hq2 => ?_)
  obtain ⟨⟨al2, cl2, sl2, hY⟩, hK⟩ := hq2
  have hF : Fr (pTQ T2) h9 h := (Kp.pN (x := ((T2, 0), ob 1 [.null, .null, .null, .int 0,.int 0,.int 0,.int 0,.int 0,.int 0,.int 0])) hcn (by rw [← hp.eq1]; exact hK)).wk (fun _ q => q.elim)
  replace hY := hY.cg (r' := cpR r 0 0 0) (fun j hj => by rcases (show j = 0 ∨ j = 1 ∨ j = 2 ∨ (3 ≤ j ∧ j ≤ 9) by have h1 : r0 1 = 0 := rfl; have h2 : r0 2 = 0 := rfl; have h3 : r0 0 = 0 := rfl; omega) with e | e | e | e; rw [e]; rfl; rw [e]; rfl; rw [e]; rfl; rw [cp_9 e])
  have hX := hX9.fr hF (pTQ_s hTT) (pTQ_z hT2)
  have hX2 := hX
  obtain ⟨w1, w2, w3, w4, w5, w6, w7, w8⟩ := hX2
  obtain ⟨ar1, w2s⟩ := w2.size
  obtain ⟨y1, y2, y3, y4, y5, y6, y7, y8⟩ := id hY
  obtain ⟨ar2, y2s⟩ := y2.size
  refine r_astore_n (pc := 7) (L' := [_, _, _, _]) dX2_copy_7 rfl ?_
  refine r_aload_n (pc := 8) dX2_copy_8 rfl ?_
  refine gX2_12 (pc := 9) dX2_copy_9 w1 rfl ?_
  refine r_callV (pc := 12) (kb' := 427) dX2_copy_12 kJ2_iterator q1382 (t_J2_iterator (3, 11) (by decide) w2) w2s rfl (Nat.le_of_ble_eq_true rfl) (Nat.le_of_ble_eq_true rfl) rfl rfl (Nat.le_of_ble_eq_true rfl) (fun _ _ q => q.elim) (fun _ h hq => ?_)
  refine go_jX hq (fun it hx2 => ?_)
  obtain ⟨hxn, e9⟩ := hx2
  subst e9
  replace hF := hF.tr (Fr.nw (x := ((3, 11), ob 9 [.int (iZ 0), .int (iZ (-1)), .int m1, .ref al])) hxn)
  replace hY := hY.fr (P := pN) (Fr.nw (x := ((3, 11), ob 9 [.int (iZ 0), .int (iZ (-1)), .int m1, .ref al])) hxn) (fun _ _ q => q) (fun q => q)
  have hit2 := up_s (h := h) (a := it) (x := ((3, 11), ob 9 [.int (iZ 0), .int (iZ (-1)), .int m1, .ref al]))
  generalize up h it ((3, 11), ob 9 [.int (iZ 0), .int (iZ (-1)), .int m1, .ref al]) = h at hF hY hit2 ⊢
  have hX := hX9.fr hF (pTQ_s hTT) (pTQ_z hT2)
  have hX2 := hX
  obtain ⟨w1, w2, w3, w4, w5, w6, w7, w8⟩ := hX2
  obtain ⟨ar1, w2s⟩ := w2.size
  obtain ⟨y1, y2, y3, y4, y5, y6, y7, y8⟩ := id hY
  obtain ⟨ar2, y2s⟩ := y2.size
  refine r_astore_n (pc := 15) (L' := [_, _, _, _]) dX2_copy_15 rfl ?_
  have loop16 : ∀ (k16 : Nat) (k : Nat) (l : Int) (m1' : Int32) (E2 : Nat → Nat) (h : Hp), (k ≤ (r 0).toNat) → (Fr (pTQ T2) h9 h) → (SWx G T2 c (cpR r k 0 0) al2 cl2 sl2 m1' (iZ 0) (iZ 0) z0 z0 E2 z0 h) → (h it = some ((3, 11), ob 9 [.int (iZ k), .int (iZ l), .int m1, .ref al])) → (r 0).toNat - k < k16 → Go G "CharterKiln$State" cX2_copy (4, some (.object "CharterKiln$State"), "copy", []) 8 457 (jX (fun q h' => SW G T2 q r h' ∧ Fr (pTQ T2) h9 h')) (noX) (23 * ((r 0).toNat - k) + 134) h 16 [some (.ref s), some (.ref c), some (.ref it), none] [] := by
    intro k16
    induction k16 with
    | zero => intro k l m1' E2 h hkA hF hY hit2 hk; omega
    | succ k16 ih16 =>
      intro k l m1' E2 h hkA hF hY hit2 hk16
      have hX := hX9.fr hF (pTQ_s hTT) (pTQ_z hT2)
      have hX2 := hX
      obtain ⟨w1, w2, w3, w4, w5, w6, w7, w8⟩ := hX2
      obtain ⟨ar1, w2s⟩ := w2.size
      obtain ⟨y1, y2, y3, y4, y5, y6, y7, y8⟩ := id hY
      obtain ⟨ar2, y2s⟩ := y2.size
      refine r_aload_n (pc := 16) dX2_copy_16 rfl ?_
      refine r_callF (pc := 17) (kb' := 23 * ((r 0).toNat - k) + 134) dX2_copy_17 0 rfl f0 q1384 (t_J26_hasNext hit2 w2 (by omega)) hit2 rfl (Nat.le_refl _) (Nat.le_of_ble_eq_true rfl) rfl rfl (Nat.le_of_ble_eq_true rfl) (fun _ _ q => q.elim) (fun _ _ hq => ?_)
      refine go_jE hq ?_
      refine r_ifB_eq (pc := 22) (tgt := 50) dX2_copy_22 (by decide) (fun c22 => ?_) (fun c22 => ?_)
      · replace hY : SWx G T2 c (cpR r (r 0) 0 0) al2 cl2 sl2 m1' (iZ 0) (iZ 0) z0 z0 E2 z0 h := by
          have e : ((k : Nat) : Int) = r 0 := by omega
          rw [← e]; exact hY
        have hX := hX9.fr hF (pTQ_s hTT) (pTQ_z hT2)
        have hX2 := hX
        obtain ⟨w1, w2, w3, w4, w5, w6, w7, w8⟩ := hX2
        obtain ⟨ar1, w2s⟩ := w2.size
        obtain ⟨y1, y2, y3, y4, y5, y6, y7, y8⟩ := id hY
        obtain ⟨ar2, y2s⟩ := y2.size
        refine r_aload_n (pc := 50) dX2_copy_50 rfl ?_
        refine gX2_21 (pc := 51) dX2_copy_51 w1 rfl ?_
        refine r_callG (pc := 54) (kb' := 23 * ((r 0).toNat - k) + 134 - 6) dX2_copy_54 cuX2_53_10 (t_J3_iterator (3, 12) (by decide) w3) w3.2.1 rfl (by omega) (Nat.le_of_ble_eq_true rfl) rfl rfl (Nat.le_of_ble_eq_true rfl) (fun _ _ q => q.elim) (fun _ h hq => ?_)
        refine go_jX hq (fun it hx2 => ?_)
        obtain ⟨hxn, e9⟩ := hx2
        subst e9
        replace hF := hF.tr (Fr.nw (x := ((3, 12), ob 11 [.null, rfN (0 < (r 1).toNat) (n1 0), .int (iZ 0), .int m2, .ref cl])) hxn)
        replace hY := hY.fr (P := pN) (Fr.nw (x := ((3, 12), ob 11 [.null, rfN (0 < (r 1).toNat) (n1 0), .int (iZ 0), .int m2, .ref cl])) hxn) (fun _ _ q => q) (fun q => q)
        have hit2 := up_s (h := h) (a := it) (x := ((3, 12), ob 11 [.null, rfN (0 < (r 1).toNat) (n1 0), .int (iZ 0), .int m2, .ref cl]))
        generalize up h it ((3, 12), ob 11 [.null, rfN (0 < (r 1).toNat) (n1 0), .int (iZ 0), .int m2, .ref cl]) = h at hF hY hit2 ⊢
        have hX := hX9.fr hF (pTQ_s hTT) (pTQ_z hT2)
        have hX2 := hX
        obtain ⟨w1, w2, w3, w4, w5, w6, w7, w8⟩ := hX2
        obtain ⟨ar1, w2s⟩ := w2.size
        obtain ⟨y1, y2, y3, y4, y5, y6, y7, y8⟩ := id hY
        obtain ⟨ar2, y2s⟩ := y2.size
        refine r_astore_n (pc := 57) (L' := [_, _, _, _]) dX2_copy_57 rfl ?_
        have loop58 : ∀ (k58 : Nat) (k : Nat) (lv : Value) (m2' : Int32) (n1' : Nat → Nat) (h : Hp), (k ≤ (r 1).toNat) → (Fr (pTQ T2) h9 h) → (SWx G T2 c (cpR r (r 0) k 0) al2 cl2 sl2 m1' m2' (iZ 0) n1' z0 E2 z0 h) → (h it = some ((3, 12), ob 11 [lv, rfN (k < (r 1).toNat) (n1 (k)), .int (iZ k), .int m2, .ref cl])) → (r 1).toNat - k < k58 → Go G "CharterKiln$State" cX2_copy (4, some (.object "CharterKiln$State"), "copy", []) 8 457 (jX (fun q h' => SW G T2 q r h' ∧ Fr (pTQ T2) h9 h')) (noX) (4 * ((r 1).toNat - k) + 72) h 58 [some (.ref s), some (.ref c), some (.ref it), none] [] := by
          intro k58
          induction k58 with
          | zero => intro k lv m2' n1' h hkC hF hY hit2 hk; omega
          | succ k58 ih58 =>
            intro k lv m2' n1' h hkC hF hY hit2 hk58
            have hX := hX9.fr hF (pTQ_s hTT) (pTQ_z hT2)
            have hX2 := hX
            obtain ⟨w1, w2, w3, w4, w5, w6, w7, w8⟩ := hX2
            obtain ⟨ar1, w2s⟩ := w2.size
            obtain ⟨y1, y2, y3, y4, y5, y6, y7, y8⟩ := id hY
            obtain ⟨ar2, y2s⟩ := y2.size
            refine r_aload_n (pc := 58) dX2_copy_58 rfl ?_
            refine r_callF (pc := 59) (kb' := 4 * ((r 1).toNat - k) + 72) dX2_copy_59 3 rfl f3 q1384 (t_J31_hasNext hit2 w3 (by omega)) hit2 rfl (Nat.le_refl _) (Nat.le_of_ble_eq_true rfl) rfl rfl (Nat.le_of_ble_eq_true rfl) (fun _ _ q => q.elim) (fun _ _ hq => ?_)
            refine go_jE hq ?_
            refine r_ifB_eq (pc := 64) (tgt := 105) dX2_copy_64 (by decide) (fun c64 => ?_) (fun c64 => ?_)
            · replace hY : SWx G T2 c (cpR r (r 0) (r 1) 0) al2 cl2 sl2 m1' m2' (iZ 0) n1' z0 E2 z0 h := by
                have e : ((k : Nat) : Int) = r 1 := by omega
                rw [← e]; exact hY
              have hX := hX9.fr hF (pTQ_s hTT) (pTQ_z hT2)
              have hX2 := hX
              obtain ⟨w1, w2, w3, w4, w5, w6, w7, w8⟩ := hX2
              obtain ⟨ar1, w2s⟩ := w2.size
              obtain ⟨y1, y2, y3, y4, y5, y6, y7, y8⟩ := id hY
              obtain ⟨ar2, y2s⟩ := y2.size
              refine r_aload_n (pc := 105) dX2_copy_105 rfl ?_
              refine gX2_25 (pc := 106) dX2_copy_106 w1 rfl ?_
              refine r_callG (pc := 109) (kb' := 4 * ((r 1).toNat - k) + 72 - 6) dX2_copy_109 cuX2_53_10 (t_J3_iterator (3, 12) (by decide) w4) w4.2.1 rfl (by omega) (Nat.le_of_ble_eq_true rfl) rfl rfl (Nat.le_of_ble_eq_true rfl) (fun _ _ q => q.elim) (fun _ h hq => ?_)
              refine go_jX hq (fun it hx2 => ?_)
              obtain ⟨hxn, e9⟩ := hx2
              subst e9
              replace hF := hF.tr (Fr.nw (x := ((3, 12), ob 11 [.null, rfN (0 < (r 2).toNat) (n2 0), .int (iZ 0), .int m3, .ref sl])) hxn)
              replace hY := hY.fr (P := pN) (Fr.nw (x := ((3, 12), ob 11 [.null, rfN (0 < (r 2).toNat) (n2 0), .int (iZ 0), .int m3, .ref sl])) hxn) (fun _ _ q => q) (fun q => q)
              have hit2 := up_s (h := h) (a := it) (x := ((3, 12), ob 11 [.null, rfN (0 < (r 2).toNat) (n2 0), .int (iZ 0), .int m3, .ref sl]))
              generalize up h it ((3, 12), ob 11 [.null, rfN (0 < (r 2).toNat) (n2 0), .int (iZ 0), .int m3, .ref sl]) = h at hF hY hit2 ⊢
              have hX := hX9.fr hF (pTQ_s hTT) (pTQ_z hT2)
              have hX2 := hX
              obtain ⟨w1, w2, w3, w4, w5, w6, w7, w8⟩ := hX2
              obtain ⟨ar1, w2s⟩ := w2.size
              obtain ⟨y1, y2, y3, y4, y5, y6, y7, y8⟩ := id hY
              obtain ⟨ar2, y2s⟩ := y2.size
              refine r_astore_n (pc := 112) (L' := [_, _, _, _]) dX2_copy_112 rfl ?_
              have loop113 : ∀ (k113 : Nat) (k : Nat) (lv : Value) (m3' : Int32) (n2' F2 : Nat → Nat) (h : Hp), (k ≤ (r 2).toNat) → (Fr (pTQ T2) h9 h) → (SWx G T2 c (cpR r (r 0) (r 1) k) al2 cl2 sl2 m1' m2' m3' n1' n2' E2 F2 h) → (h it = some ((3, 12), ob 11 [lv, rfN (k < (r 2).toNat) (n2 (k)), .int (iZ k), .int m3, .ref sl])) → (r 2).toNat - k < k113 → Go G "CharterKiln$State" cX2_copy (4, some (.object "CharterKiln$State"), "copy", []) 8 457 (jX (fun q h' => SW G T2 q r h' ∧ Fr (pTQ T2) h9 h')) (noX) (8 * ((r 2).toNat - k) + 0) h 113 [some (.ref s), some (.ref c), some (.ref it), none] [] := by
                intro k113
                induction k113 with
                | zero => intro k lv m3' n2' F2 h hkS hF hY hit2 hk; omega
                | succ k113 ih113 =>
                  intro k lv m3' n2' F2 h hkS hF hY hit2 hk113
                  have hX := hX9.fr hF (pTQ_s hTT) (pTQ_z hT2)
                  have hX2 := hX
                  obtain ⟨w1, w2, w3, w4, w5, w6, w7, w8⟩ := hX2
                  obtain ⟨ar1, w2s⟩ := w2.size
                  obtain ⟨y1, y2, y3, y4, y5, y6, y7, y8⟩ := id hY
                  obtain ⟨ar2, y2s⟩ := y2.size
                  refine r_aload_n (pc := 113) dX2_copy_113 rfl ?_
                  refine r_callF (pc := 114) (kb' := 8 * ((r 2).toNat - k) + 0) dX2_copy_114 3 rfl f3 q1384 (t_J31_hasNext hit2 w4 (by omega)) hit2 rfl (Nat.le_refl _) (Nat.le_of_ble_eq_true rfl) rfl rfl (Nat.le_of_ble_eq_true rfl) (fun _ _ q => q.elim) (fun _ _ hq => ?_)
                  refine go_jE hq ?_
                  refine r_ifB_eq (pc := 119) (tgt := 146) dX2_copy_119 (by decide) (fun c119 => ?_) (fun c119 => ?_)
                  · replace hY : SWx G T2 c (cpR r (r 0) (r 1) (r 2)) al2 cl2 sl2 m1' m2' m3' n1' n2' E2 F2 h := by
                      have e : ((k : Nat) : Int) = r 2 := by omega
                      rw [← e]; exact hY
                    have hX := hX9.fr hF (pTQ_s hTT) (pTQ_z hT2)
                    have hX2 := hX
                    obtain ⟨w1, w2, w3, w4, w5, w6, w7, w8⟩ := hX2
                    obtain ⟨ar1, w2s⟩ := w2.size
                    obtain ⟨y1, y2, y3, y4, y5, y6, y7, y8⟩ := id hY
                    obtain ⟨ar2, y2s⟩ := y2.size
                    have hcs : c ≠ s := ne_of y1 w1 (fun e => hTT (congrArg (fun z => z.1.1) e).symm)
                    refine go_pw (PW.one y1) (fun h hp => ?_)
                    refine r_aload_n (pc := 146) dX2_copy_146 rfl ?_
                    refine r_aload_n (pc := 147) dX2_copy_147 rfl ?_
                    refine gX2_71 (pc := 148) dX2_copy_148 ((hp.ot ⟨hcs, trivial⟩).trans w1) rfl ?_
                    refine pX2_71 (pc := 151) dX2_copy_151 (hp.at 0 rfl) (fun e => hT2 (congrArg Prod.fst e)) (Nat.le_of_ble_eq_true rfl) ?_
                    refine go_pw (hp.put 0 rfl) (fun h hp => ?_)
                    refine r_aload_n (pc := 154) dX2_copy_154 rfl ?_
                    refine r_aload_n (pc := 155) dX2_copy_155 rfl ?_
                    refine gX2_75 (pc := 156) dX2_copy_156 ((hp.ot ⟨hcs, trivial⟩).trans w1) rfl ?_
                    refine pX2_75 (pc := 159) dX2_copy_159 (hp.at 0 rfl) (fun e => hT2 (congrArg Prod.fst e)) (Nat.le_of_ble_eq_true rfl) ?_
                    refine go_pw (hp.put 0 rfl) (fun h hp => ?_)
                    refine r_aload_n (pc := 162) dX2_copy_162 rfl ?_
                    refine r_aload_n (pc := 163) dX2_copy_163 rfl ?_
                    refine gX2_78 (pc := 164) dX2_copy_164 ((hp.ot ⟨hcs, trivial⟩).trans w1) rfl ?_
                    refine pX2_78 (pc := 167) dX2_copy_167 (hp.at 0 rfl) (fun e => hT2 (congrArg Prod.fst e)) (Nat.le_of_ble_eq_true rfl) ?_
                    refine go_pw (hp.put 0 rfl) (fun h hp => ?_)
                    refine r_aload_n (pc := 170) dX2_copy_170 rfl ?_
                    refine r_aload_n (pc := 171) dX2_copy_171 rfl ?_
                    refine gX2_81 (pc := 172) dX2_copy_172 ((hp.ot ⟨hcs, trivial⟩).trans w1) rfl ?_
                    refine pX2_81 (pc := 175) dX2_copy_175 (hp.at 0 rfl) (fun e => hT2 (congrArg Prod.fst e)) (Nat.le_of_ble_eq_true rfl) ?_
                    refine go_pw (hp.put 0 rfl) (fun h hp => ?_)
                    refine r_aload_n (pc := 178) dX2_copy_178 rfl ?_
                    refine r_aload_n (pc := 179) dX2_copy_179 rfl ?_
                    refine gX2_84 (pc := 180) dX2_copy_180 ((hp.ot ⟨hcs, trivial⟩).trans w1) rfl ?_
                    refine pX2_84 (pc := 183) dX2_copy_183 (hp.at 0 rfl) (fun e => hT2 (congrArg Prod.fst e)) (Nat.le_of_ble_eq_true rfl) ?_
                    refine go_pw (hp.put 0 rfl) (fun h hp => ?_)
                    refine r_aload_n (pc := 186) dX2_copy_186 rfl ?_
                    refine r_aload_n (pc := 187) dX2_copy_187 rfl ?_
                    refine gX2_87 (pc := 188) dX2_copy_188 ((hp.ot ⟨hcs, trivial⟩).trans w1) rfl ?_
                    refine pX2_87 (pc := 191) dX2_copy_191 (hp.at 0 rfl) (fun e => hT2 (congrArg Prod.fst e)) (Nat.le_of_ble_eq_true rfl) ?_
                    refine go_pw (hp.put 0 rfl) (fun h hp => ?_)
                    refine r_aload_n (pc := 194) dX2_copy_194 rfl ?_
                    refine r_aload_n (pc := 195) dX2_copy_195 rfl ?_
                    refine gX2_90 (pc := 196) dX2_copy_196 ((hp.ot ⟨hcs, trivial⟩).trans w1) rfl ?_
                    refine pX2_90 (pc := 199) dX2_copy_199 (hp.at 0 rfl) (fun e => hT2 (congrArg Prod.fst e)) (Nat.le_of_ble_eq_true rfl) ?_
                    refine go_pw (hp.put 0 rfl) (fun h hp => ?_)
                    refine r_aload_n (pc := 202) dX2_copy_202 rfl ?_
                    exact r_aret (pc := 203) dX2_copy_203 rfl (Or.inl ⟨_, rfl⟩) (Or.inr ⟨_, rfl⟩) ⟨c, rfl, (hY.sc (r' := r) hT2 hp.eq1 (fun j hj => cp_r hj)).w, hF.tr (hp.fr (P := pTQ T2) ⟨FA.o y1 (Or.inl rfl), trivial⟩)⟩
                  · refine r_aload_n (pc := 122) dX2_copy_122 rfl ?_
                    refine r_callF (pc := 123) (kb' := 8 * ((r 2).toNat - k) + 0) dX2_copy_123 4 rfl f4 q1386 (t_J31_next hit2 w4 (by omega) (by decide)) hit2 rfl (Nat.le_refl _) (Nat.le_of_ble_eq_true rfl) rfl rfl (Nat.le_of_ble_eq_true rfl) (fun _ _ q => q.elim) (fun _ h hq => ?_)
                    refine go_jP hq (fun e9 => ?_)
                    subst e9
                    replace hF := hF.tr (Fr.upd (o' := ob 11 [.ref (n2 k), rfN (k + 1 < (r 2).toNat) (n2 (k + 1)), .int (iZ (k + 1)), .int m3, .ref sl]) hit2 (Or.inr ⟨rfl, by decide⟩))
                    replace hY := hY.fr (P := fun t => t = (3, 12)) (Fr.upd (o' := ob 11 [.ref (n2 k), rfN (k + 1 < (r 2).toNat) (n2 (k + 1)), .int (iZ (k + 1)), .int m3, .ref sl]) hit2 rfl) (fun k hk q => absurd (congrArg Prod.snd q) (by show ¬ k = 12; omega)) (by decide)
                    replace hit2 := up_s (h := h) (a := it) (x := ((3, 12), ob 11 [.ref (n2 k), rfN (k + 1 < (r 2).toNat) (n2 (k + 1)), .int (iZ (k + 1)), .int m3, .ref sl]))
                    generalize up h it ((3, 12), ob 11 [.ref (n2 k), rfN (k + 1 < (r 2).toNat) (n2 (k + 1)), .int (iZ (k + 1)), .int m3, .ref sl]) = h at hF hY hit2 ⊢
                    have hX := hX9.fr hF (pTQ_s hTT) (pTQ_z hT2)
                    have hX2 := hX
                    obtain ⟨w1, w2, w3, w4, w5, w6, w7, w8⟩ := hX2
                    obtain ⟨ar1, w2s⟩ := w2.size
                    obtain ⟨y1, y2, y3, y4, y5, y6, y7, y8⟩ := id hY
                    obtain ⟨ar2, y2s⟩ := y2.size
                    have hso := hI.2.2.1 ((k : Nat) : Int) (by omega) (by omega)
                    have hso2 := hso
                    unfold shOk at hso2
                    refine r_cast (pc := 128) dX2_copy_128 q1487 (w6 k (by omega)) rfl ?_
                    refine r_astore_n (pc := 131) (L' := [_, _, _, _]) dX2_copy_131 rfl ?_
                    refine r_aload_n (pc := 132) dX2_copy_132 rfl ?_
                    refine gX2_25 (pc := 133) dX2_copy_133 y1 rfl ?_
                    refine r_aload_n (pc := 136) dX2_copy_136 rfl ?_
                    refine r_callV (pc := 137) (kb' := 8 * ((r 2).toNat - k) + 0 - 4) dX2_copy_137 kX6_copy q1488 (t_X6_copy (w6 k (by omega)) (T2, 5) (tnz (by decide)).symm) (w6 k (by omega)) rfl (by omega) (Nat.le_of_ble_eq_true rfl) rfl rfl (Nat.le_of_ble_eq_true rfl) (fun _ _ q => q.elim) (fun _ h hq => ?_)
                    refine go_jX hq (fun q hx2 => ?_)
                    obtain ⟨hxn, e9⟩ := hx2
                    have hqe : ∀ i : Nat, i < k → F2 i ≠ q := fun i hi => ne_nw (hY.2.2.2.2.2.1 i hi) hxn
                    subst e9
                    replace hF := hF.tr (Fr.nw (x := ((T2, 5), sC r k)) hxn)
                    replace hY := hY.fr (P := pN) (Fr.nw (x := ((T2, 5), sC r k)) hxn) (fun _ _ q => q) (fun q => q)
                    replace hit2 := (Fr.nw (P := pN) (x := ((T2, 5), sC r k)) hxn).get hit2 (fun q => q)
                    have hq5 := up_s (h := h) (a := q) (x := ((T2, 5), sC r k))
                    generalize up h q ((T2, 5), sC r k) = h at hF hY hit2 hq5 ⊢
                    have hX := hX9.fr hF (pTQ_s hTT) (pTQ_z hT2)
                    have hX2 := hX
                    obtain ⟨w1, w2, w3, w4, w5, w6, w7, w8⟩ := hX2
                    obtain ⟨ar1, w2s⟩ := w2.size
                    obtain ⟨y1, y2, y3, y4, y5, y6, y7, y8⟩ := id hY
                    obtain ⟨ar2, y2s⟩ := y2.size
                    refine r_callV (pc := 140) (kb' := 8 * ((r 2).toNat - k) + 0 - 4 - 4) dX2_copy_140 kJ4_addLast q1458 (t_J4_addLast y4 (tnz (by decide)).symm (by show k < 100; omega)) y4.2.1 rfl (by omega) (Nat.le_of_ble_eq_true rfl) rfl rfl (Nat.le_of_ble_eq_true rfl) (fun _ _ q => q.elim) (fun _ h hq => ?_)
                    refine go_jN hq (fun hq2 => ?_)
                    obtain ⟨qn, hqn, hA2, hF2⟩ := hq2
                    replace hF := hF.tr (hF2.wk pTQ_t)
                    replace hit2 := hF2.get hit2 (fun q => absurd (congrArg Prod.snd q) (by show ¬ (12 : Nat) = 3; decide))
                    replace hY := hY.addS (r' := cpR r (r 0) (r 1) (k + 1 : Nat)) (by show (0 : Int) ≤ k; omega) hA2 hF2 (by rw [hq5, sC_cg (r' := cpR r (r 0) (r 1) (k + 1 : Nat)) (r := r) (a := k) (b := cpR r (r 0) (r 1) k 2) (fun w w0 w1 => cp_o (by show 9 < 26 + 3 * (k : Int) + w; omega))]) hqe rfl (by show r 1 ≤ 12 ∧ (k : Int) < 8; omega) (fun j h1 h2 => cpS (r := r) (a := r 0) (b := r 1) (k := (k : Int)) h1)
                    refine r_goto (pc := 143) (tgt := 113) dX2_copy_143 (by decide) ?_
                    refine goL (L' := [some (.ref s), some (.ref c), some (.ref it), none]) ⟨rfl, rfl, rfl, trivial⟩ ?_
                    refine go_kb (kb' := 8 * ((r 2).toNat - (k + 1)) + 0) (by omega) ?_
                    exact ih113 (k + 1) (.ref (n2 k)) _ _ _ h (by omega) hF hY hit2 (by omega)
              refine go_kb (kb' := 8 * ((r 2).toNat - 0) + 0) (by omega) ?_
              exact loop113 _ 0 .null _ _ _ h (by omega) hF hY hit2 (Nat.lt_succ_self _)
            · refine r_aload_n (pc := 67) dX2_copy_67 rfl ?_
              refine r_callF (pc := 68) (kb' := 4 * ((r 1).toNat - k) + 72) dX2_copy_68 4 rfl f4 q1386 (t_J31_next hit2 w3 (by omega) (by decide)) hit2 rfl (Nat.le_refl _) (Nat.le_of_ble_eq_true rfl) rfl rfl (Nat.le_of_ble_eq_true rfl) (fun _ _ q => q.elim) (fun _ h hq => ?_)
              refine go_jP hq (fun e9 => ?_)
              subst e9
              replace hF := hF.tr (Fr.upd (o' := ob 11 [.ref (n1 k), rfN (k + 1 < (r 1).toNat) (n1 (k + 1)), .int (iZ (k + 1)), .int m2, .ref cl]) hit2 (Or.inr ⟨rfl, by decide⟩))
              replace hY := hY.fr (P := fun t => t = (3, 12)) (Fr.upd (o' := ob 11 [.ref (n1 k), rfN (k + 1 < (r 1).toNat) (n1 (k + 1)), .int (iZ (k + 1)), .int m2, .ref cl]) hit2 rfl) (fun k hk q => absurd (congrArg Prod.snd q) (by show ¬ k = 12; omega)) (by decide)
              replace hit2 := up_s (h := h) (a := it) (x := ((3, 12), ob 11 [.ref (n1 k), rfN (k + 1 < (r 1).toNat) (n1 (k + 1)), .int (iZ (k + 1)), .int m2, .ref cl]))
              generalize up h it ((3, 12), ob 11 [.ref (n1 k), rfN (k + 1 < (r 1).toNat) (n1 (k + 1)), .int (iZ (k + 1)), .int m2, .ref cl]) = h at hF hY hit2 ⊢
              have hX := hX9.fr hF (pTQ_s hTT) (pTQ_z hT2)
              have hX2 := hX
              obtain ⟨w1, w2, w3, w4, w5, w6, w7, w8⟩ := hX2
              obtain ⟨ar1, w2s⟩ := w2.size
              obtain ⟨y1, y2, y3, y4, y5, y6, y7, y8⟩ := id hY
              obtain ⟨ar2, y2s⟩ := y2.size
              have hl9 := hI.2.2.2.1 ((k : Nat) : Int) (by omega) (by omega)
              have hA5 := w5 (r (12 + k)).toNat (by omega)
              rw [show (((r (12 + k)).toNat : Nat) : Int) = r (12 + k) by omega] at hA5
              have ho := hI.2.1 (r (12 + k)) (by omega) (by omega)
              have ho2 := ho
              unfold artOk at ho2
              refine r_cast (pc := 73) dX2_copy_73 q1387 hA5 rfl ?_
              refine r_astore_n (pc := 76) (L' := [_, _, _, _]) dX2_copy_76 rfl ?_
              refine r_aload_n (pc := 77) dX2_copy_77 rfl ?_
              refine gX2_21 (pc := 78) dX2_copy_78 y1 rfl ?_
              refine r_aload_n (pc := 81) dX2_copy_81 rfl ?_
              refine gX2_12 (pc := 82) dX2_copy_82 y1 rfl ?_
              refine r_aload_n (pc := 85) dX2_copy_85 rfl ?_
              refine gX2_12 (pc := 86) dX2_copy_86 w1 rfl ?_
              refine r_aload_n (pc := 89) dX2_copy_89 rfl ?_
              refine r_callV (pc := 90) (kb' := 4 * ((r 1).toNat - k) + 72) dX2_copy_90 kJ2_indexOf q1456 (t_J2_indexOf w2 hA5) w2s rfl (Nat.le_refl _) (Nat.le_of_ble_eq_true rfl) rfl rfl (Nat.le_of_ble_eq_true rfl) (fun _ _ q => q.elim) (fun _ _ hq => ?_)
              refine go_jE hq ?_
              refine go_cz (w := r (12 + k)) ((fnd_inj (by omega) w7).trans (by omega)) ?_
              refine r_callV (pc := 93) (kb' := 4 * ((r 1).toNat - k) + 72) dX2_copy_93 kJ2_get q1457 (t_J2_get y2 (by omega) (by show r (12 + k) < ((r 0).toNat : Int); omega)) y2s rfl (Nat.le_refl _) (Nat.le_of_ble_eq_true rfl) rfl rfl (Nat.le_of_ble_eq_true rfl) (fun _ _ q => q.elim) (fun _ _ hq => ?_)
              refine go_jE hq ?_
              refine r_cast (pc := 96) dX2_copy_96 q1387 (y5 _ (by show _ < (r 0).toNat; omega)) rfl ?_
              refine r_callV (pc := 99) (kb' := 4 * ((r 1).toNat - k) + 72 - 4) dX2_copy_99 kJ4_addLast q1458 (t_J4_addLast y3 (tnz (by decide)).symm (by show k < 100; omega)) y3.2.1 rfl (by omega) (Nat.le_of_ble_eq_true rfl) rfl rfl (Nat.le_of_ble_eq_true rfl) (fun _ _ q => q.elim) (fun _ h hq => ?_)
              refine go_jN hq (fun hq2 => ?_)
              obtain ⟨qn, hqn, hA2, hF2⟩ := hq2
              replace hF := hF.tr (hF2.wk pTQ_t)
              replace hit2 := hF2.get hit2 (fun q => absurd (congrArg Prod.snd q) (by show ¬ (12 : Nat) = 2; decide))
              replace hY := hY.addL (r' := cpR r (r 0) (k + 1 : Nat) 0) (a := r (12 + k)) (by show (0 : Int) ≤ k; omega) hA2 hF2 rfl (cp_o (by show 9 < 12 + (k : Int); omega)) (by show (k : Int) < 12 ∧ (0 : Int) ≤ 8; omega) (fun j h1 h2 => cpL (r := r) (a := r 0) (k := (k : Int)) h1)
              refine r_goto (pc := 102) (tgt := 58) dX2_copy_102 (by decide) ?_
              refine goL (L' := [some (.ref s), some (.ref c), some (.ref it), none]) ⟨rfl, rfl, rfl, trivial⟩ ?_
              refine go_kb (kb' := 4 * ((r 1).toNat - (k + 1)) + 72) (by omega) ?_
              exact ih58 (k + 1) (.ref (n1 k)) _ _ h (by omega) hF hY hit2 (by omega)
        refine go_kb (kb' := 4 * ((r 1).toNat - 0) + 72) (by omega) ?_
        exact loop58 _ 0 .null _ _ h (by omega) hF hY hit2 (Nat.lt_succ_self _)
      · refine r_aload_n (pc := 25) dX2_copy_25 rfl ?_
        refine r_callF (pc := 26) (kb' := 23 * ((r 0).toNat - k) + 134) dX2_copy_26 1 rfl f1 q1386 (t_J26_next hit2 w2 (by omega) (by decide)) hit2 rfl (Nat.le_refl _) (Nat.le_of_ble_eq_true rfl) rfl rfl (Nat.le_of_ble_eq_true rfl) (fun _ _ q => q.elim) (fun _ h hq => ?_)
        refine go_jP hq (fun e9 => ?_)
        subst e9
        replace hF := hF.tr (Fr.upd (o' := ob 9 [.int (iZ (k + 1)), .int (iZ k), .int m1, .ref al]) hit2 (Or.inr ⟨rfl, by decide⟩))
        replace hY := hY.fr (P := fun t => t = (3, 11)) (Fr.upd (o' := ob 9 [.int (iZ (k + 1)), .int (iZ k), .int m1, .ref al]) hit2 rfl) (fun k hk q => absurd (congrArg Prod.snd q) (by show ¬ k = 11; omega)) (by decide)
        replace hit2 := up_s (h := h) (a := it) (x := ((3, 11), ob 9 [.int (iZ (k + 1)), .int (iZ k), .int m1, .ref al]))
        generalize up h it ((3, 11), ob 9 [.int (iZ (k + 1)), .int (iZ k), .int m1, .ref al]) = h at hF hY hit2 ⊢
        have hX := hX9.fr hF (pTQ_s hTT) (pTQ_z hT2)
        have hX2 := hX
        obtain ⟨w1, w2, w3, w4, w5, w6, w7, w8⟩ := hX2
        obtain ⟨ar1, w2s⟩ := w2.size
        obtain ⟨y1, y2, y3, y4, y5, y6, y7, y8⟩ := id hY
        obtain ⟨ar2, y2s⟩ := y2.size
        have ho := hI.2.1 ((k : Nat) : Int) (by omega) (by omega)
        have ho2 := ho
        unfold artOk at ho2
        refine r_cast (pc := 31) dX2_copy_31 q1387 (w5 k (by omega)) rfl ?_
        refine r_astore_n (pc := 34) (L' := [_, _, _, _]) dX2_copy_34 rfl ?_
        refine r_aload_n (pc := 35) dX2_copy_35 rfl ?_
        refine gX2_12 (pc := 36) dX2_copy_36 y1 rfl ?_
        refine r_aload_n (pc := 39) dX2_copy_39 rfl ?_
        refine r_callV (pc := 40) (kb' := 23 * ((r 0).toNat - k) + 134 - 7) dX2_copy_40 kX5_copy q1388 (t_X5_copy (w5 k (by omega)) ho (T2, 4) (tnz (by decide)).symm) (w5 k (by omega)) rfl (by omega) (Nat.le_of_ble_eq_true rfl) rfl rfl (Nat.le_of_ble_eq_true rfl) (fun _ _ q => q.elim) (fun _ h hq => ?_)
        refine go_jX hq (fun q hx2 => ?_)
        obtain ⟨hxn, e9⟩ := hx2
        have hqe : ∀ i : Nat, i < k → E2 i ≠ q := fun i hi => ne_nw (hY.2.2.2.2.1 i hi) hxn
        subst e9
        replace hF := hF.tr (Fr.nw (x := ((T2, 4), aC r k)) hxn)
        replace hY := hY.fr (P := pN) (Fr.nw (x := ((T2, 4), aC r k)) hxn) (fun _ _ q => q) (fun q => q)
        replace hit2 := (Fr.nw (P := pN) (x := ((T2, 4), aC r k)) hxn).get hit2 (fun q => q)
        have hq5 := up_s (h := h) (a := q) (x := ((T2, 4), aC r k))
        generalize up h q ((T2, 4), aC r k) = h at hF hY hit2 hq5 ⊢
        have hX := hX9.fr hF (pTQ_s hTT) (pTQ_z hT2)
        have hX2 := hX
        obtain ⟨w1, w2, w3, w4, w5, w6, w7, w8⟩ := hX2
        obtain ⟨ar1, w2s⟩ := w2.size
        obtain ⟨y1, y2, y3, y4, y5, y6, y7, y8⟩ := id hY
        obtain ⟨ar2, y2s⟩ := y2.size
        refine r_callV (pc := 43) (kb' := 23 * ((r 0).toNat - k) + 134 - 7 - 16) dX2_copy_43 kJ2_add q1427 (t_J2_add y2 (tnz (by decide)).symm (by show k < 12; omega) hq5 (fun i hi => ⟨_, _, _, y5 i hi⟩) (by decide)) y2s rfl (by omega) (Nat.le_of_ble_eq_true rfl) rfl rfl (Nat.le_of_ble_eq_true rfl) (fun _ _ q => q.elim) (fun _ h hq => ?_)
        refine go_jP hq (fun hq2 => ?_)
        obtain ⟨hA2, hF2⟩ := hq2
        replace hF := hF.tr (hF2.wk pTQ_t)
        replace hit2 := hF2.get hit2 (fun q => absurd (congrArg Prod.snd q) (by show ¬ (11 : Nat) = 1; decide))
        replace hY := hY.addA (r' := cpR r (k + 1 : Nat) 0 0) (by show (0 : Int) ≤ k; omega) hA2 hF2 (by rw [hq5, aC_cg (r' := cpR r (k + 1 : Nat) 0 0) (r := r) (a := k) (b := cpR r k 0 0 0) (fun w w0 w1 => cp_o (by show 9 < 56 + 6 * (k : Int) + w; omega))]) hqe (fun j j0 j1 => absurd j1 (by show ¬ j < 0; omega)) rfl (by show (0 : Int) ≤ 12 ∧ (0 : Int) ≤ 8; omega) (fun j hj => cpA (r := r) (k := (k : Int)) hj)
        refine r_pop (pc := 46) dX2_copy_46 rfl ?_
        refine r_goto (pc := 47) (tgt := 16) dX2_copy_47 (by decide) ?_
        refine goL (L' := [some (.ref s), some (.ref c), some (.ref it), none]) ⟨rfl, rfl, rfl, trivial⟩ ?_
        refine go_kb (kb' := 23 * ((r 0).toNat - (k + 1)) + 134) (by omega) ?_
        exact ih16 (k + 1) k _ _ h (by omega) hF hY hit2 (by omega)
  refine go_kb (kb' := 23 * ((r 0).toNat - 0) + 134) (by omega) ?_
  exact loop16 _ 0 (-1) _ _ h (by omega) hF hY hit2 (Nat.lt_succ_self _)
