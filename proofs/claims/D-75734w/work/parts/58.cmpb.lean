/-! THE COMPONENT: scope, plans, rules -/
theorem ct_slew {Ω : ax_O} (hA : ax_Amb Ω) {h : ax_H} {pl : pR} {N V O : Nat} {D : cD} (hp : pWP pl N V O) (hS : cSc h pl N V O D) (g : Int32) : ax_Met Ω yX12_slew 1 0 0 [.ref (D.1 0), .int g] h (.inl (some (.int (cSlew pl g)))) h := by
  refine ax_met q1692 q146 (by decide +kernel) (by decide) hA (Nat.le_of_ble_eq_true rfl) (fun Γ G E => ?_)
  show ax_W Ω Γ 0 0 h 0 [some (.ref (D.1 0)), some (.int g)] []
  refine ax_iload_n (pc := 0) G dX12_slew_0 rfl rfl ?_
  refine ax_if_ne (pc := 1) (tgt := 8) G dX12_slew_1 rfl (fun c1 => ?_) (fun c1 => ?_)
  · refine ax_aload_n (pc := 8) G dX12_slew_8 rfl rfl ?_
    refine ax_getf (pc := 9) (v := .int (pl 1)) G flX12_26_10 dX12_slew_9 ((hS).1) rfl ?_
    refine ax_iload_n (pc := 12) G dX12_slew_12 rfl rfl ?_
    refine ax_aload_n (pc := 13) G dX12_slew_13 rfl rfl ?_
    refine ax_getf (pc := 14) (v := .int (pl 2)) G flX12_30_10 dX12_slew_14 ((hS).1) rfl ?_
    refine ax_iadd (pc := 17) G dX12_slew_17 ?_
    refine ax_iconst (pc := 18) (v := nI 1) G dX12_slew_18 ic_1 ?_
    refine ax_isub (pc := 19) G dX12_slew_19 ?_
    refine ax_aload_n (pc := 20) G dX12_slew_20 rfl rfl ?_
    refine ax_getf (pc := 21) (v := .int (pl 2)) G flX12_30_10 dX12_slew_21 ((hS).1) rfl ?_
    refine ax_idiv (pc := 24) G dX12_slew_24 (hp.z2) ?_
    refine ax_iadd (pc := 25) G dX12_slew_25 ?_
    exact ax_iretE (pc := 26) G E rfl (rfl) dX12_slew_26 (by first | (simp only [cSlew, c1, if_true, if_false, Bool.false_eq_true, not_false_eq_true, not_true_eq_false, decide_true, decide_false, Bool.and_true, Bool.true_and, Bool.and_false, Bool.false_and, Bool.or_true, Bool.true_or, Bool.or_false, Bool.false_or, and_self, and_true, true_and, and_false, false_and, or_true, true_or, or_false, false_or, ne_eq]; done) | (simp only [cSlew, c1, if_true, if_false, Bool.false_eq_true, not_false_eq_true, not_true_eq_false, decide_true, decide_false, Bool.and_true, Bool.true_and, Bool.and_false, Bool.false_and, Bool.or_true, Bool.true_or, Bool.or_false, Bool.false_or, and_self, and_true, true_and, and_false, false_and, or_true, true_or, or_false, false_or, ne_eq]; rfl)) (by first | (simp only [cSlew, c1, if_true, if_false, Bool.false_eq_true, not_false_eq_true, not_true_eq_false, decide_true, decide_false, Bool.and_true, Bool.true_and, Bool.and_false, Bool.false_and, Bool.or_true, Bool.true_or, Bool.or_false, Bool.false_or, and_self, and_true, true_and, and_false, false_and, or_true, true_or, or_false, false_or, ne_eq]; done) | (simp only [cSlew, c1, if_true, if_false, Bool.false_eq_true, not_false_eq_true, not_true_eq_false, decide_true, decide_false, Bool.and_true, Bool.true_and, Bool.and_false, Bool.false_and, Bool.or_true, Bool.true_or, Bool.or_false, Bool.false_or, and_self, and_true, true_and, and_false, false_and, or_true, true_or, or_false, false_or, ne_eq]; rfl))
  · refine ax_iconst (pc := 4) (v := nI 0) G dX12_slew_4 ic_0 ?_
    refine ax_goto (pc := 5) (tgt := 26) G dX12_slew_5 rfl ?_
    exact ax_iretE (pc := 26) G E rfl (rfl) dX12_slew_26 (by first | (simp only [cSlew, c1, if_true, if_false, Bool.false_eq_true, not_false_eq_true, not_true_eq_false, decide_true, decide_false, Bool.and_true, Bool.true_and, Bool.and_false, Bool.false_and, Bool.or_true, Bool.true_or, Bool.or_false, Bool.false_or, and_self, and_true, true_and, and_false, false_and, or_true, true_or, or_false, false_or, ne_eq]; done) | (simp only [cSlew, c1, if_true, if_false, Bool.false_eq_true, not_false_eq_true, not_true_eq_false, decide_true, decide_false, Bool.and_true, Bool.true_and, Bool.and_false, Bool.false_and, Bool.or_true, Bool.true_or, Bool.or_false, Bool.false_or, and_self, and_true, true_and, and_false, false_and, or_true, true_or, or_false, false_or, ne_eq]; rfl) | (simp only [cSlew, if_pos c1, decide_eq_true c1, if_true, if_false, Bool.false_eq_true, not_false_eq_true, not_true_eq_false, decide_true, decide_false, Bool.and_true, Bool.true_and, Bool.and_false, Bool.false_and, Bool.or_true, Bool.true_or, Bool.or_false, Bool.false_or, and_self, and_true, true_and, and_false, false_and, or_true, true_or, or_false, false_or, ne_eq]; done) | (simp only [cSlew, if_pos c1, decide_eq_true c1, if_true, if_false, Bool.false_eq_true, not_false_eq_true, not_true_eq_false, decide_true, decide_false, Bool.and_true, Bool.true_and, Bool.and_false, Bool.false_and, Bool.or_true, Bool.true_or, Bool.or_false, Bool.false_or, and_self, and_true, true_and, and_false, false_and, or_true, true_or, or_false, false_or, ne_eq]; rfl)) (by first | (simp only [cSlew, c1, if_true, if_false, Bool.false_eq_true, not_false_eq_true, not_true_eq_false, decide_true, decide_false, Bool.and_true, Bool.true_and, Bool.and_false, Bool.false_and, Bool.or_true, Bool.true_or, Bool.or_false, Bool.false_or, and_self, and_true, true_and, and_false, false_and, or_true, true_or, or_false, false_or, ne_eq]; done) | (simp only [cSlew, c1, if_true, if_false, Bool.false_eq_true, not_false_eq_true, not_true_eq_false, decide_true, decide_false, Bool.and_true, Bool.true_and, Bool.and_false, Bool.false_and, Bool.or_true, Bool.true_or, Bool.or_false, Bool.false_or, and_self, and_true, true_and, and_false, false_and, or_true, true_or, or_false, false_or, ne_eq]; rfl) | (simp only [cSlew, if_pos c1, decide_eq_true c1, if_true, if_false, Bool.false_eq_true, not_false_eq_true, not_true_eq_false, decide_true, decide_false, Bool.and_true, Bool.true_and, Bool.and_false, Bool.false_and, Bool.or_true, Bool.true_or, Bool.or_false, Bool.false_or, and_self, and_true, true_and, and_false, false_and, or_true, true_or, or_false, false_or, ne_eq]; done) | (simp only [cSlew, if_pos c1, decide_eq_true c1, if_true, if_false, Bool.false_eq_true, not_false_eq_true, not_true_eq_false, decide_true, decide_false, Bool.and_true, Bool.true_and, Bool.and_false, Bool.false_and, Bool.or_true, Bool.true_or, Bool.or_false, Bool.false_or, and_self, and_true, true_and, and_false, false_and, or_true, true_or, or_false, false_or, ne_eq]; rfl))

theorem ct_sunAt {Ω : ax_O} (hA : ax_Amb Ω) {h : ax_H} {pl : pR} {N V O : Nat} {D : cD} (hp : pWP pl N V O) (hS : cSc h pl N V O D) (t : Int32) : ax_Met Ω yX12_sunAt 1 0 0 [.ref (D.1 0), .int t] h (.inl (some (.int (cSun pl t)))) h := by
  refine ax_met q1653 q146 (by decide +kernel) (by decide) hA (Nat.le_of_ble_eq_true rfl) (fun Γ G E => ?_)
  show ax_W Ω Γ 0 0 h 0 [some (.ref (D.1 0)), some (.int t)] []
  refine ax_aload_n (pc := 0) G dX12_sunAt_0 rfl rfl ?_
  refine ax_getf (pc := 1) (v := .int (pl 7)) G flX12_33_10 dX12_sunAt_1 ((hS).1) rfl ?_
  refine ax_iload_n (pc := 4) G dX12_sunAt_4 rfl rfl ?_
  refine ax_aload_n (pc := 5) G dX12_sunAt_5 rfl rfl ?_
  refine ax_getf (pc := 6) (v := .int (pl 8)) G flX12_36_10 dX12_sunAt_6 ((hS).1) rfl ?_
  refine ax_idiv (pc := 9) G dX12_sunAt_9 (hp.z8) ?_
  refine ax_sipush (pc := 10) (v := nI 360) G dX12_sunAt_10 is_360 ?_
  refine ax_irem (pc := 13) G dX12_sunAt_13 (by decide) ?_
  refine ax_iadd (pc := 14) G dX12_sunAt_14 ?_
  refine ax_sipush (pc := 15) (v := nI 360) G dX12_sunAt_15 is_360 ?_
  refine ax_irem (pc := 18) G dX12_sunAt_18 (by decide) ?_
  exact ax_iretE (pc := 19) G E rfl (rfl) dX12_sunAt_19 (rfl) (rfl)

theorem ct_isVisible {Ω : ax_O} (hA : ax_Amb Ω) {h : ax_H} {pl : pR} {N V O : Nat} {D : cD} (hp : pWP pl N V O) (hS : cSc h pl N V O D) (lon t : Int32) : ax_Met Ω yX12_isVisible 3 0 0 [.ref (D.1 0), .int lon, .int t] h (.inl (some (.int (bI (cVis pl lon t))))) h := by
  refine ax_met q1703 q146 (by decide +kernel) (by decide) hA (Nat.le_of_ble_eq_true rfl) (fun Γ G E => ?_)
  show ax_W Ω Γ 0 0 h 0 [some (.ref (D.1 0)), some (.int lon), some (.int t)] []
  refine ax_iload_n (pc := 0) G dX12_isVisible_0 rfl rfl ?_
  refine ax_aload_n (pc := 1) G dX12_isVisible_1 rfl rfl ?_
  refine ax_iload_n (pc := 2) G dX12_isVisible_2 rfl rfl ?_
  refine ax_cV1 (pc := 3) (kb := 0) (nb := 0) G (ct_sunAt hA hp (hS) t) lVX12_39_10 dX12_isVisible_3 ((hS).1) rfl (by decide) (Nat.le_of_ble_eq_true rfl) rfl ?_
  refine ax_cS1 (pc := 6) (kb := 0) (nb := 0) G (ct_around hA lon (cSun pl t)) lSX12_43 dX12_isVisible_6 rfl (by decide) (Nat.le_of_ble_eq_true rfl) rfl ?_
  refine ax_aload_n (pc := 9) G dX12_isVisible_9 rfl rfl ?_
  refine ax_getf (pc := 10) (v := .int (pl 9)) G flX12_49_10 dX12_isVisible_10 ((hS).1) rfl ?_
  refine ax_icmp_lt (pc := 13) (tgt := 20) G dX12_isVisible_13 rfl (fun c13 => ?_) (fun c13 => ?_)
  · refine ax_iconst (pc := 20) (v := nI 0) G dX12_isVisible_20 ic_0 ?_
    exact ax_iretE (pc := 21) G E rfl (rfl) dX12_isVisible_21 (by first | exact congrArg bI (decide_eq_true (Int32.not_lt.mp ‹¬ cAr lon (cSun pl t) < pl 9›)).symm | exact congrArg bI (decide_eq_false (Int32.not_le.mpr ‹cAr lon (cSun pl t) < pl 9›)).symm) (rfl)
  · refine ax_iconst (pc := 16) (v := nI 1) G dX12_isVisible_16 ic_1 ?_
    refine ax_goto (pc := 17) (tgt := 21) G dX12_isVisible_17 rfl ?_
    exact ax_iretE (pc := 21) G E rfl (rfl) dX12_isVisible_21 (by first | exact congrArg bI (decide_eq_true (Int32.not_lt.mp ‹¬ cAr lon (cSun pl t) < pl 9›)).symm | exact congrArg bI (decide_eq_false (Int32.not_le.mpr ‹cAr lon (cSun pl t) < pl 9›)).symm) (rfl)

theorem ct_isOut {Ω : ax_O} (hA : ax_Amb Ω) {h : ax_H} {pl : pR} {N V O : Nat} {D : cD} (hp : pWP pl N V O) (hS : cSc h pl N V O D) (a b : Int32) : ax_Met Ω yX12_isOut 4 0 0 [.ref (D.1 0), .int a, .int b] h (.inl (some (.int (bI (pOut pl a b O))))) h := by
  refine ax_met q1832 q146 (by decide +kernel) (by decide) hA (Nat.le_of_ble_eq_true rfl) (fun Γ G E => ?_)
  have hO9 := hp.lO
  have L0 : ∀ (n i : Nat), i + n = O → pOut pl a b i = false → ax_W Ω Γ 0 0 h 2 [some (.ref (D.1 0)), some (.int a), some (.int b), some (.int (nI i))] [] := by
    intro n
    induction n with
    | zero =>
      intro i hi hv
      have hi9 : O = i := by omega
      subst hi9
      refine ax_iload_n (pc := 2) G dX12_isOut_2 rfl rfl ?_
      refine ax_aload_n (pc := 3) G dX12_isOut_3 rfl rfl ?_
      refine ax_getf (pc := 4) (v := .ref (D.1 3)) G flX12_23_10 dX12_isOut_4 ((hS).1) rfl ?_
      refine ax_cJ1 (pc := 7) (kb := 0) (nb := 0) G (ct_lsize hA ((hS).2.2.2.1).1) lJX12_52_16 dX12_isOut_7 (((hS).2.2.2.1).1) rfl (by decide) (Nat.le_of_ble_eq_true rfl) rfl ?_
      refine ax_icmp_geN (pc := 12) (tgt := 44) G dX12_isOut_12 rfl (by omega) (by omega) (fun c12 => ?_) (fun c12 => ?_)
      · refine ax_iconst (pc := 44) (v := nI 0) G dX12_isOut_44 ic_0 ?_
        exact ax_iretE (pc := 45) G E rfl (rfl) dX12_isOut_45 (by rw [hv]; rfl) (rfl)
      · omega
    | succ n ih =>
      intro i hi hv
      refine ax_iload_n (pc := 2) G dX12_isOut_2 rfl rfl ?_
      refine ax_aload_n (pc := 3) G dX12_isOut_3 rfl rfl ?_
      refine ax_getf (pc := 4) (v := .ref (D.1 3)) G flX12_23_10 dX12_isOut_4 ((hS).1) rfl ?_
      refine ax_cJ1 (pc := 7) (kb := 0) (nb := 0) G (ct_lsize hA ((hS).2.2.2.1).1) lJX12_52_16 dX12_isOut_7 (((hS).2.2.2.1).1) rfl (by decide) (Nat.le_of_ble_eq_true rfl) rfl ?_
      refine ax_icmp_geN (pc := 12) (tgt := 44) G dX12_isOut_12 rfl (by omega) (by omega) (fun c12 => ?_) (fun c12 => ?_)
      · omega
      · refine ax_aload_n (pc := 15) G dX12_isOut_15 rfl rfl ?_
        refine ax_getf (pc := 16) (v := .ref (D.1 3)) G flX12_23_10 dX12_isOut_16 ((hS).1) rfl ?_
        refine ax_iload_n (pc := 19) G dX12_isOut_19 rfl rfl ?_
        refine ax_cJ1 (pc := 20) (kb := 0) (nb := 0) G (ct_lget hA ((hS).2.2.2.1).1 ((hS).2.2.2.1).2.1 (q := D.2.1 2 i) i (by omega) ((hS).2.2.2.1).2.2.1 ((hS).2.2.2.1).2.2.2.1 (((hS).2.2.2.1).2.2.2.2 i (by omega))) lJX12_58_16 dX12_isOut_20 (((hS).2.2.2.1).1) rfl (by decide) (Nat.le_of_ble_eq_true rfl) rfl ?_
        refine ax_checkcast (pc := 25) G q1837 ⟨_, rfl, Or.inl rfl⟩ dX12_isOut_25 ((hS).2.2.2.2.2 i (by omega)) ?_
        refine ax_iload_n (pc := 28) G dX12_isOut_28 rfl rfl ?_
        refine ax_iload_n (pc := 29) G dX12_isOut_29 rfl rfl ?_
        refine ax_cV1 (pc := 30) (kb := 0) (nb := 0) G (ct_overlaps hA ((hS).2.2.2.2.2 i (by omega)) a b) lVX12_64_15 dX12_isOut_30 ((hS).2.2.2.2.2 i (by omega)) rfl (by decide) (Nat.le_of_ble_eq_true rfl) rfl ?_
        refine ax_if_eq (pc := 33) (tgt := 38) G dX12_isOut_33 rfl (fun c33 => ?_) (fun c33 => ?_)
        · have c33b := bI_f c33
          refine ax_iincN (pc := 38) (n := 1) G dX12_isOut_38 rfl rfl ic_1 ?_
          refine ax_goto (pc := 41) (tgt := 2) G dX12_isOut_41 rfl ?_
          exact ih (i + 1) (by omega) (by rw [pOut, hv, c33b]; rfl)
        · have c33b := bI_t c33
          refine ax_iconst (pc := 36) (v := nI 1) G dX12_isOut_36 ic_1 ?_
          exact ax_iretE (pc := 37) G E rfl (rfl) dX12_isOut_37 (by rw [pOut_up (i := i + 1) (by omega) (by rw [pOut, hv, c33b]; rfl)]; rfl) (rfl)
  show ax_W Ω Γ 0 0 h 0 [some (.ref (D.1 0)), some (.int a), some (.int b), none] []
  refine ax_iconst (pc := 0) (v := nI 0) G dX12_isOut_0 ic_0 ?_
  refine ax_istore_n (pc := 1) G dX12_isOut_1 rfl (Nat.le_of_ble_eq_true rfl) rfl ?_
  exact L0 O 0 (by omega) rfl

theorem ct_reason {Ω : ax_O} (hA : ax_Amb Ω) {h : ax_H} {p w k : Nat} {pl r : pR} {N V O : Nat} {D : cD} {n : Nat → Int32} (hp : pWP pl N V O) (hS : ∀ P, cSc (pH h p P) pl N V O D) (hW : ∀ P, cWk (pH h p P) w pl r k) (lf : Int32) : ax_Met Ω yX8_reason 5 0 0 [.ref p, .ref (D.1 0), .int lf] (pH h p (.ref w, n)) (.inl (some (.int (cRsn pl r k O lf (n 7) (n 5) (n 6))))) (pH h p (.ref w, n)) := by
  refine ax_met q1800 q139 (by decide +kernel) (by decide) hA (Nat.le_of_ble_eq_true rfl) (fun Γ G E => ?_)
  show ax_W Ω Γ 0 0 (pH h p (.ref w, n)) 0 [some (.ref p), some (.ref (D.1 0)), some (.int lf)] []
  refine ax_aload_n (pc := 0) G dX8_reason_0 rfl rfl ?_
  refine pr_get (pc := 1) (v := .int (n 7)) G flX8_30_6 dX8_reason_1 rfl ?_
  refine ax_aload_n (pc := 4) G dX8_reason_4 rfl rfl ?_
  refine ax_getf (pc := 5) (v := .int (pl 3)) G flX8_32_10 dX8_reason_5 ((hS _).1) rfl ?_
  refine ax_icmp_le (pc := 8) (tgt := 13) G dX8_reason_8 rfl (fun c8 => ?_) (fun c8 => ?_)
  · refine ax_iload_n (pc := 13) G dX8_reason_13 rfl rfl ?_
    refine ax_aload_n (pc := 14) G dX8_reason_14 rfl rfl ?_
    refine pr_get (pc := 15) (v := .ref w) G flX8_7_6 dX8_reason_15 rfl ?_
    refine wk_duration (pc := 18) G (hW _) lJX8_20_13 lJX8_20_14 dX8_reason_18 (by decide) (Nat.le_of_ble_eq_true rfl) ?_
    refine ax_icmp_ge (pc := 23) (tgt := 28) G dX8_reason_23 rfl (fun c23 => ?_) (fun c23 => ?_)
    · refine ax_aload_n (pc := 28) G dX8_reason_28 rfl rfl ?_
      refine pr_get (pc := 29) (v := .int (n 5)) G flX8_50_6 dX8_reason_29 rfl ?_
      refine ax_i2l (pc := 32) G dX8_reason_32 rfl ?_
      refine ax_aload_n (pc := 33) G dX8_reason_33 rfl rfl ?_
      refine pr_get (pc := 34) (v := .ref w) G flX8_7_6 dX8_reason_34 rfl ?_
      refine wk_from (pc := 37) G (hW _) lJX8_62_13 lJX8_62_14 dX8_reason_37 (by decide) (Nat.le_of_ble_eq_true rfl) ?_
      refine ax_i2l (pc := 42) G dX8_reason_42 rfl ?_
      refine ax_aload_n (pc := 43) G dX8_reason_43 rfl rfl ?_
      refine pr_get (pc := 44) (v := .ref w) G flX8_7_6 dX8_reason_44 rfl ?_
      refine wk_to (pc := 47) G (hW _) lJX8_65_13 lJX8_65_14 dX8_reason_47 (by decide) (Nat.le_of_ble_eq_true rfl) ?_
      refine ax_i2l (pc := 52) G dX8_reason_52 rfl ?_
      refine ax_cSN1 (pc := 53) (kb := 0) (nb := 0) G (ct_in hA ((n 5).toInt64) ((pFrom pl r k).toInt64) ((pTo pl r k).toInt64)) lSX8_68 dX8_reason_53 rfl (by decide) (Nat.le_of_ble_eq_true rfl) rfl ?_
      rw [show cIn ((n 5).toInt64) ((pFrom pl r k).toInt64) ((pTo pl r k).toInt64) = pIn (n 5) (pFrom pl r k) (pTo pl r k) from cIn_i _ _ _]
      refine ax_if_ne (pc := 56) (tgt := 61) G dX8_reason_56 rfl (fun c56 => ?_) (fun c56 => ?_)
      · have c56b := bI_t c56
        refine ax_aload_n (pc := 61) G dX8_reason_61 rfl rfl ?_
        refine pr_get (pc := 62) (v := .int (n 6)) G flX8_53_6 dX8_reason_62 rfl ?_
        refine ax_aload_n (pc := 65) G dX8_reason_65 rfl rfl ?_
        refine ax_getf (pc := 66) (v := .int (pl 0)) G flX8_74_10 dX8_reason_66 ((hS _).1) rfl ?_
        refine ax_icmp_le (pc := 69) (tgt := 74) G dX8_reason_69 rfl (fun c69 => ?_) (fun c69 => ?_)
        · refine ax_aload_n (pc := 74) G dX8_reason_74 rfl rfl ?_
          refine ax_aload_n (pc := 75) G dX8_reason_75 rfl rfl ?_
          refine pr_get (pc := 76) (v := .ref w) G flX8_7_6 dX8_reason_76 rfl ?_
          refine wk_lon (pc := 79) G (hW _) lJX8_77_13 lJX8_77_14 dX8_reason_79 (by decide) (Nat.le_of_ble_eq_true rfl) ?_
          refine ax_aload_n (pc := 84) G dX8_reason_84 rfl rfl ?_
          refine pr_get (pc := 85) (v := .int (n 5)) G flX8_50_6 dX8_reason_85 rfl ?_
          refine ax_cV1 (pc := 88) (kb := 0) (nb := 0) G (ct_isVisible hA hp (hS _) (pLon pl r k) (n 5)) lVX8_80_10 dX8_reason_88 ((hS _).1) rfl (by decide) (Nat.le_of_ble_eq_true rfl) rfl ?_
          refine ax_if_eq (pc := 91) (tgt := 114) G dX8_reason_91 rfl (fun c91 => ?_) (fun c91 => ?_)
          · have c91b := bI_f c91
            refine ax_bipush (pc := 114) (v := nI 6) G dX8_reason_114 ib_6 ?_
            exact ax_iretE (pc := 116) G E rfl (rfl) dX8_reason_116 (by first | (simp only [cRsn, c8, Int32.not_lt.mpr c8, c23, Int32.not_lt.mpr c23, c56b, c69, Int32.not_lt.mpr c69, c91b, if_true, if_false, Bool.false_eq_true, not_false_eq_true, not_true_eq_false, decide_true, decide_false, Bool.and_true, Bool.true_and, Bool.and_false, Bool.false_and, Bool.or_true, Bool.true_or, Bool.or_false, Bool.false_or, and_self, and_true, true_and, and_false, false_and, or_true, true_or, or_false, false_or, ne_eq]; done) | (simp only [cRsn, c8, Int32.not_lt.mpr c8, c23, Int32.not_lt.mpr c23, c56b, c69, Int32.not_lt.mpr c69, c91b, if_true, if_false, Bool.false_eq_true, not_false_eq_true, not_true_eq_false, decide_true, decide_false, Bool.and_true, Bool.true_and, Bool.and_false, Bool.false_and, Bool.or_true, Bool.true_or, Bool.or_false, Bool.false_or, and_self, and_true, true_and, and_false, false_and, or_true, true_or, or_false, false_or, ne_eq]; rfl)) (by first | (simp only [cRsn, c8, Int32.not_lt.mpr c8, c23, Int32.not_lt.mpr c23, c56b, c69, Int32.not_lt.mpr c69, c91b, if_true, if_false, Bool.false_eq_true, not_false_eq_true, not_true_eq_false, decide_true, decide_false, Bool.and_true, Bool.true_and, Bool.and_false, Bool.false_and, Bool.or_true, Bool.true_or, Bool.or_false, Bool.false_or, and_self, and_true, true_and, and_false, false_and, or_true, true_or, or_false, false_or, ne_eq]; done) | (simp only [cRsn, c8, Int32.not_lt.mpr c8, c23, Int32.not_lt.mpr c23, c56b, c69, Int32.not_lt.mpr c69, c91b, if_true, if_false, Bool.false_eq_true, not_false_eq_true, not_true_eq_false, decide_true, decide_false, Bool.and_true, Bool.true_and, Bool.and_false, Bool.false_and, Bool.or_true, Bool.true_or, Bool.or_false, Bool.false_or, and_self, and_true, true_and, and_false, false_and, or_true, true_or, or_false, false_or, ne_eq]; rfl))
          · have c91b := bI_t c91
            refine ax_aload_n (pc := 94) G dX8_reason_94 rfl rfl ?_
            refine ax_aload_n (pc := 95) G dX8_reason_95 rfl rfl ?_
            refine pr_get (pc := 96) (v := .ref w) G flX8_7_6 dX8_reason_96 rfl ?_
            refine wk_lon (pc := 99) G (hW _) lJX8_77_13 lJX8_77_14 dX8_reason_99 (by decide) (Nat.le_of_ble_eq_true rfl) ?_
            refine ax_aload_n (pc := 104) G dX8_reason_104 rfl rfl ?_
            refine pr_get (pc := 105) (v := .int (n 6)) G flX8_53_6 dX8_reason_105 rfl ?_
            refine ax_cV1 (pc := 108) (kb := 0) (nb := 0) G (ct_isVisible hA hp (hS _) (pLon pl r k) (n 6)) lVX8_80_10 dX8_reason_108 ((hS _).1) rfl (by decide) (Nat.le_of_ble_eq_true rfl) rfl ?_
            refine ax_if_ne (pc := 111) (tgt := 117) G dX8_reason_111 rfl (fun c111 => ?_) (fun c111 => ?_)
            · have c111b := bI_t c111
              refine ax_aload_n (pc := 117) G dX8_reason_117 rfl rfl ?_
              refine ax_aload_n (pc := 118) G dX8_reason_118 rfl rfl ?_
              refine pr_get (pc := 119) (v := .int (n 5)) G flX8_50_6 dX8_reason_119 rfl ?_
              refine ax_aload_n (pc := 122) G dX8_reason_122 rfl rfl ?_
              refine pr_get (pc := 123) (v := .int (n 6)) G flX8_53_6 dX8_reason_123 rfl ?_
              refine ax_cV1 (pc := 126) (kb := 0) (nb := 0) G (ct_isOut hA hp (hS _) (n 5) (n 6)) lVX8_84_10 dX8_reason_126 ((hS _).1) rfl (by decide) (Nat.le_of_ble_eq_true rfl) rfl ?_
              refine ax_if_eq (pc := 129) (tgt := 137) G dX8_reason_129 rfl (fun c129 => ?_) (fun c129 => ?_)
              · have c129b := bI_f c129
                refine ax_iconst (pc := 137) (v := nI 0) G dX8_reason_137 ic_0 ?_
                exact ax_iretE (pc := 138) G E rfl (rfl) dX8_reason_138 (by first | (simp only [cRsn, c8, Int32.not_lt.mpr c8, c23, Int32.not_lt.mpr c23, c56b, c69, Int32.not_lt.mpr c69, c91b, c111b, c129b, if_true, if_false, Bool.false_eq_true, not_false_eq_true, not_true_eq_false, decide_true, decide_false, Bool.and_true, Bool.true_and, Bool.and_false, Bool.false_and, Bool.or_true, Bool.true_or, Bool.or_false, Bool.false_or, and_self, and_true, true_and, and_false, false_and, or_true, true_or, or_false, false_or, ne_eq]; done) | (simp only [cRsn, c8, Int32.not_lt.mpr c8, c23, Int32.not_lt.mpr c23, c56b, c69, Int32.not_lt.mpr c69, c91b, c111b, c129b, if_true, if_false, Bool.false_eq_true, not_false_eq_true, not_true_eq_false, decide_true, decide_false, Bool.and_true, Bool.true_and, Bool.and_false, Bool.false_and, Bool.or_true, Bool.true_or, Bool.or_false, Bool.false_or, and_self, and_true, true_and, and_false, false_and, or_true, true_or, or_false, false_or, ne_eq]; rfl)) (by first | (simp only [cRsn, c8, Int32.not_lt.mpr c8, c23, Int32.not_lt.mpr c23, c56b, c69, Int32.not_lt.mpr c69, c91b, c111b, c129b, if_true, if_false, Bool.false_eq_true, not_false_eq_true, not_true_eq_false, decide_true, decide_false, Bool.and_true, Bool.true_and, Bool.and_false, Bool.false_and, Bool.or_true, Bool.true_or, Bool.or_false, Bool.false_or, and_self, and_true, true_and, and_false, false_and, or_true, true_or, or_false, false_or, ne_eq]; done) | (simp only [cRsn, c8, Int32.not_lt.mpr c8, c23, Int32.not_lt.mpr c23, c56b, c69, Int32.not_lt.mpr c69, c91b, c111b, c129b, if_true, if_false, Bool.false_eq_true, not_false_eq_true, not_true_eq_false, decide_true, decide_false, Bool.and_true, Bool.true_and, Bool.and_false, Bool.false_and, Bool.or_true, Bool.true_or, Bool.or_false, Bool.false_or, and_self, and_true, true_and, and_false, false_and, or_true, true_or, or_false, false_or, ne_eq]; rfl))
              · have c129b := bI_t c129
                refine ax_bipush (pc := 132) (v := nI 7) G dX8_reason_132 ib_7 ?_
                refine ax_goto (pc := 134) (tgt := 138) G dX8_reason_134 rfl ?_
                exact ax_iretE (pc := 138) G E rfl (rfl) dX8_reason_138 (by first | (simp only [cRsn, c8, Int32.not_lt.mpr c8, c23, Int32.not_lt.mpr c23, c56b, c69, Int32.not_lt.mpr c69, c91b, c111b, c129b, if_true, if_false, Bool.false_eq_true, not_false_eq_true, not_true_eq_false, decide_true, decide_false, Bool.and_true, Bool.true_and, Bool.and_false, Bool.false_and, Bool.or_true, Bool.true_or, Bool.or_false, Bool.false_or, and_self, and_true, true_and, and_false, false_and, or_true, true_or, or_false, false_or, ne_eq]; done) | (simp only [cRsn, c8, Int32.not_lt.mpr c8, c23, Int32.not_lt.mpr c23, c56b, c69, Int32.not_lt.mpr c69, c91b, c111b, c129b, if_true, if_false, Bool.false_eq_true, not_false_eq_true, not_true_eq_false, decide_true, decide_false, Bool.and_true, Bool.true_and, Bool.and_false, Bool.false_and, Bool.or_true, Bool.true_or, Bool.or_false, Bool.false_or, and_self, and_true, true_and, and_false, false_and, or_true, true_or, or_false, false_or, ne_eq]; rfl)) (by first | (simp only [cRsn, c8, Int32.not_lt.mpr c8, c23, Int32.not_lt.mpr c23, c56b, c69, Int32.not_lt.mpr c69, c91b, c111b, c129b, if_true, if_false, Bool.false_eq_true, not_false_eq_true, not_true_eq_false, decide_true, decide_false, Bool.and_true, Bool.true_and, Bool.and_false, Bool.false_and, Bool.or_true, Bool.true_or, Bool.or_false, Bool.false_or, and_self, and_true, true_and, and_false, false_and, or_true, true_or, or_false, false_or, ne_eq]; done) | (simp only [cRsn, c8, Int32.not_lt.mpr c8, c23, Int32.not_lt.mpr c23, c56b, c69, Int32.not_lt.mpr c69, c91b, c111b, c129b, if_true, if_false, Bool.false_eq_true, not_false_eq_true, not_true_eq_false, decide_true, decide_false, Bool.and_true, Bool.true_and, Bool.and_false, Bool.false_and, Bool.or_true, Bool.true_or, Bool.or_false, Bool.false_or, and_self, and_true, true_and, and_false, false_and, or_true, true_or, or_false, false_or, ne_eq]; rfl))
            · have c111b := bI_f c111
              refine ax_bipush (pc := 114) (v := nI 6) G dX8_reason_114 ib_6 ?_
              exact ax_iretE (pc := 116) G E rfl (rfl) dX8_reason_116 (by first | (simp only [cRsn, c8, Int32.not_lt.mpr c8, c23, Int32.not_lt.mpr c23, c56b, c69, Int32.not_lt.mpr c69, c91b, c111b, if_true, if_false, Bool.false_eq_true, not_false_eq_true, not_true_eq_false, decide_true, decide_false, Bool.and_true, Bool.true_and, Bool.and_false, Bool.false_and, Bool.or_true, Bool.true_or, Bool.or_false, Bool.false_or, and_self, and_true, true_and, and_false, false_and, or_true, true_or, or_false, false_or, ne_eq]; done) | (simp only [cRsn, c8, Int32.not_lt.mpr c8, c23, Int32.not_lt.mpr c23, c56b, c69, Int32.not_lt.mpr c69, c91b, c111b, if_true, if_false, Bool.false_eq_true, not_false_eq_true, not_true_eq_false, decide_true, decide_false, Bool.and_true, Bool.true_and, Bool.and_false, Bool.false_and, Bool.or_true, Bool.true_or, Bool.or_false, Bool.false_or, and_self, and_true, true_and, and_false, false_and, or_true, true_or, or_false, false_or, ne_eq]; rfl)) (by first | (simp only [cRsn, c8, Int32.not_lt.mpr c8, c23, Int32.not_lt.mpr c23, c56b, c69, Int32.not_lt.mpr c69, c91b, c111b, if_true, if_false, Bool.false_eq_true, not_false_eq_true, not_true_eq_false, decide_true, decide_false, Bool.and_true, Bool.true_and, Bool.and_false, Bool.false_and, Bool.or_true, Bool.true_or, Bool.or_false, Bool.false_or, and_self, and_true, true_and, and_false, false_and, or_true, true_or, or_false, false_or, ne_eq]; done) | (simp only [cRsn, c8, Int32.not_lt.mpr c8, c23, Int32.not_lt.mpr c23, c56b, c69, Int32.not_lt.mpr c69, c91b, c111b, if_true, if_false, Bool.false_eq_true, not_false_eq_true, not_true_eq_false, decide_true, decide_false, Bool.and_true, Bool.true_and, Bool.and_false, Bool.false_and, Bool.or_true, Bool.true_or, Bool.or_false, Bool.false_or, and_self, and_true, true_and, and_false, false_and, or_true, true_or, or_false, false_or, ne_eq]; rfl))
        · refine ax_iconst (pc := 72) (v := nI 5) G dX8_reason_72 ic_5 ?_
          exact ax_iretE (pc := 73) G E rfl (rfl) dX8_reason_73 (by first | (simp only [cRsn, c8, Int32.not_lt.mpr c8, c23, Int32.not_lt.mpr c23, c56b, c69, Int32.not_le.mp c69, if_true, if_false, Bool.false_eq_true, not_false_eq_true, not_true_eq_false, decide_true, decide_false, Bool.and_true, Bool.true_and, Bool.and_false, Bool.false_and, Bool.or_true, Bool.true_or, Bool.or_false, Bool.false_or, and_self, and_true, true_and, and_false, false_and, or_true, true_or, or_false, false_or, ne_eq]; done) | (simp only [cRsn, c8, Int32.not_lt.mpr c8, c23, Int32.not_lt.mpr c23, c56b, c69, Int32.not_le.mp c69, if_true, if_false, Bool.false_eq_true, not_false_eq_true, not_true_eq_false, decide_true, decide_false, Bool.and_true, Bool.true_and, Bool.and_false, Bool.false_and, Bool.or_true, Bool.true_or, Bool.or_false, Bool.false_or, and_self, and_true, true_and, and_false, false_and, or_true, true_or, or_false, false_or, ne_eq]; rfl)) (by first | (simp only [cRsn, c8, Int32.not_lt.mpr c8, c23, Int32.not_lt.mpr c23, c56b, c69, Int32.not_le.mp c69, if_true, if_false, Bool.false_eq_true, not_false_eq_true, not_true_eq_false, decide_true, decide_false, Bool.and_true, Bool.true_and, Bool.and_false, Bool.false_and, Bool.or_true, Bool.true_or, Bool.or_false, Bool.false_or, and_self, and_true, true_and, and_false, false_and, or_true, true_or, or_false, false_or, ne_eq]; done) | (simp only [cRsn, c8, Int32.not_lt.mpr c8, c23, Int32.not_lt.mpr c23, c56b, c69, Int32.not_le.mp c69, if_true, if_false, Bool.false_eq_true, not_false_eq_true, not_true_eq_false, decide_true, decide_false, Bool.and_true, Bool.true_and, Bool.and_false, Bool.false_and, Bool.or_true, Bool.true_or, Bool.or_false, Bool.false_or, and_self, and_true, true_and, and_false, false_and, or_true, true_or, or_false, false_or, ne_eq]; rfl))
      · have c56b := bI_f c56
        refine ax_iconst (pc := 59) (v := nI 4) G dX8_reason_59 ic_4 ?_
        exact ax_iretE (pc := 60) G E rfl (rfl) dX8_reason_60 (by first | (simp only [cRsn, c8, Int32.not_lt.mpr c8, c23, Int32.not_lt.mpr c23, c56b, if_true, if_false, Bool.false_eq_true, not_false_eq_true, not_true_eq_false, decide_true, decide_false, Bool.and_true, Bool.true_and, Bool.and_false, Bool.false_and, Bool.or_true, Bool.true_or, Bool.or_false, Bool.false_or, and_self, and_true, true_and, and_false, false_and, or_true, true_or, or_false, false_or, ne_eq]; done) | (simp only [cRsn, c8, Int32.not_lt.mpr c8, c23, Int32.not_lt.mpr c23, c56b, if_true, if_false, Bool.false_eq_true, not_false_eq_true, not_true_eq_false, decide_true, decide_false, Bool.and_true, Bool.true_and, Bool.and_false, Bool.false_and, Bool.or_true, Bool.true_or, Bool.or_false, Bool.false_or, and_self, and_true, true_and, and_false, false_and, or_true, true_or, or_false, false_or, ne_eq]; rfl)) (by first | (simp only [cRsn, c8, Int32.not_lt.mpr c8, c23, Int32.not_lt.mpr c23, c56b, if_true, if_false, Bool.false_eq_true, not_false_eq_true, not_true_eq_false, decide_true, decide_false, Bool.and_true, Bool.true_and, Bool.and_false, Bool.false_and, Bool.or_true, Bool.true_or, Bool.or_false, Bool.false_or, and_self, and_true, true_and, and_false, false_and, or_true, true_or, or_false, false_or, ne_eq]; done) | (simp only [cRsn, c8, Int32.not_lt.mpr c8, c23, Int32.not_lt.mpr c23, c56b, if_true, if_false, Bool.false_eq_true, not_false_eq_true, not_true_eq_false, decide_true, decide_false, Bool.and_true, Bool.true_and, Bool.and_false, Bool.false_and, Bool.or_true, Bool.true_or, Bool.or_false, Bool.false_or, and_self, and_true, true_and, and_false, false_and, or_true, true_or, or_false, false_or, ne_eq]; rfl))
    · refine ax_iconst (pc := 26) (v := nI 3) G dX8_reason_26 ic_3 ?_
      exact ax_iretE (pc := 27) G E rfl (rfl) dX8_reason_27 (by first | (simp only [cRsn, c8, Int32.not_lt.mpr c8, c23, Int32.not_le.mp c23, if_true, if_false, Bool.false_eq_true, not_false_eq_true, not_true_eq_false, decide_true, decide_false, Bool.and_true, Bool.true_and, Bool.and_false, Bool.false_and, Bool.or_true, Bool.true_or, Bool.or_false, Bool.false_or, and_self, and_true, true_and, and_false, false_and, or_true, true_or, or_false, false_or, ne_eq]; done) | (simp only [cRsn, c8, Int32.not_lt.mpr c8, c23, Int32.not_le.mp c23, if_true, if_false, Bool.false_eq_true, not_false_eq_true, not_true_eq_false, decide_true, decide_false, Bool.and_true, Bool.true_and, Bool.and_false, Bool.false_and, Bool.or_true, Bool.true_or, Bool.or_false, Bool.false_or, and_self, and_true, true_and, and_false, false_and, or_true, true_or, or_false, false_or, ne_eq]; rfl)) (by first | (simp only [cRsn, c8, Int32.not_lt.mpr c8, c23, Int32.not_le.mp c23, if_true, if_false, Bool.false_eq_true, not_false_eq_true, not_true_eq_false, decide_true, decide_false, Bool.and_true, Bool.true_and, Bool.and_false, Bool.false_and, Bool.or_true, Bool.true_or, Bool.or_false, Bool.false_or, and_self, and_true, true_and, and_false, false_and, or_true, true_or, or_false, false_or, ne_eq]; done) | (simp only [cRsn, c8, Int32.not_lt.mpr c8, c23, Int32.not_le.mp c23, if_true, if_false, Bool.false_eq_true, not_false_eq_true, not_true_eq_false, decide_true, decide_false, Bool.and_true, Bool.true_and, Bool.and_false, Bool.false_and, Bool.or_true, Bool.true_or, Bool.or_false, Bool.false_or, and_self, and_true, true_and, and_false, false_and, or_true, true_or, or_false, false_or, ne_eq]; rfl))
  · refine ax_iconst (pc := 11) (v := nI 2) G dX8_reason_11 ic_2 ?_
    exact ax_iretE (pc := 12) G E rfl (rfl) dX8_reason_12 (by first | (simp only [cRsn, c8, Int32.not_le.mp c8, if_true, if_false, Bool.false_eq_true, not_false_eq_true, not_true_eq_false, decide_true, decide_false, Bool.and_true, Bool.true_and, Bool.and_false, Bool.false_and, Bool.or_true, Bool.true_or, Bool.or_false, Bool.false_or, and_self, and_true, true_and, and_false, false_and, or_true, true_or, or_false, false_or, ne_eq]; done) | (simp only [cRsn, c8, Int32.not_le.mp c8, if_true, if_false, Bool.false_eq_true, not_false_eq_true, not_true_eq_false, decide_true, decide_false, Bool.and_true, Bool.true_and, Bool.and_false, Bool.false_and, Bool.or_true, Bool.true_or, Bool.or_false, Bool.false_or, and_self, and_true, true_and, and_false, false_and, or_true, true_or, or_false, false_or, ne_eq]; rfl)) (by first | (simp only [cRsn, c8, Int32.not_le.mp c8, if_true, if_false, Bool.false_eq_true, not_false_eq_true, not_true_eq_false, decide_true, decide_false, Bool.and_true, Bool.true_and, Bool.and_false, Bool.false_and, Bool.or_true, Bool.true_or, Bool.or_false, Bool.false_or, and_self, and_true, true_and, and_false, false_and, or_true, true_or, or_false, false_or, ne_eq]; done) | (simp only [cRsn, c8, Int32.not_le.mp c8, if_true, if_false, Bool.false_eq_true, not_false_eq_true, not_true_eq_false, decide_true, decide_false, Bool.and_true, Bool.true_and, Bool.and_false, Bool.false_and, Bool.or_true, Bool.true_or, Bool.or_false, Bool.false_or, and_self, and_true, true_and, and_false, false_and, or_true, true_or, or_false, false_or, ne_eq]; rfl))

theorem ct_lay {Ω : ax_O} (hA : ax_Amb Ω) {h : ax_H} {p w k : Nat} {pl r : pR} {N V O : Nat} {D : cD} {n : Nat → Int32} {W0 : Value} (hp : pWP pl N V O) (hS : ∀ P, cSc (pH h p P) pl N V O D) (hW : ∀ P, cWk (pH h p P) w pl r k) (ha : Ω.2.1.heap.size ≤ p) (num : Int32) (op : Bool) (lf : Int32) : ax_Met Ω yX8_lay 7 0 0 [.ref p, .ref (D.1 0), .ref w, .int num, .int (bI op), .int (r 0), .int (r 3), .int (r 1), .int (r 2), .int lf] (pH h p (W0, n)) (.inl (some (.ref p))) (pH h p (cPl pl r k O w num op lf)) := by
  refine ax_met q1735 q139 (by decide +kernel) (by decide) hA (Nat.le_of_ble_eq_true rfl) (fun Γ G E => ?_)
  show ax_W Ω Γ 0 0 (pH h p (W0, n)) 0 [some (.ref p), some (.ref (D.1 0)), some (.ref w), some (.int num), some (.int (bI op)), some (.int (r 0)), some (.int (r 3)), some (.int (r 1)), some (.int (r 2)), some (.int lf)] []
  refine ax_aload_n (pc := 0) G dX8_lay_0 rfl rfl ?_
  refine ax_aload_n (pc := 1) G dX8_lay_1 rfl rfl ?_
  refine pr_put (pc := 2) (k := 0) G (.ref w, n) flX8_7_6 dX8_lay_2 ha (by decide) rfl rfl rfl ?_
  show ax_W Ω Γ _ _ (pH h p (.ref w, n)) _ _ _
  refine ax_aload_n (pc := 5) G dX8_lay_5 rfl rfl ?_
  refine ax_iload_n (pc := 6) G dX8_lay_6 rfl rfl ?_
  refine pr_put (pc := 7) (k := 1) G (.ref w, upd n 1 num) flX8_13_6 dX8_lay_7 ha (by decide) rfl rfl rfl ?_
  show ax_W Ω Γ _ _ (pH h p (.ref w, upd n 1 num)) _ _ _
  refine ax_aload_n (pc := 10) G dX8_lay_10 rfl rfl ?_
  refine ax_iload (pc := 11) G dX8_lay_11 rfl ?_
  refine pr_put (pc := 13) (k := 2) G (.ref w, upd (upd n 1 num) 2 (r 0)) flX8_17_6 dX8_lay_13 ha (by decide) rfl rfl rfl ?_
  show ax_W Ω Γ _ _ (pH h p (.ref w, upd (upd n 1 num) 2 (r 0))) _ _ _
  refine ax_aload_n (pc := 16) G dX8_lay_16 rfl rfl ?_
  refine ax_aload_n (pc := 17) G dX8_lay_17 rfl rfl ?_
  refine pr_get (pc := 18) (v := .ref w) G flX8_7_6 dX8_lay_18 rfl ?_
  refine ax_aload_n (pc := 21) G dX8_lay_21 rfl rfl ?_
  refine pr_get (pc := 22) (v := .ref w) G flX8_7_6 dX8_lay_22 rfl ?_
  refine wk_duration (pc := 25) G (hW _) lJX8_20_13 lJX8_20_14 dX8_lay_25 (by decide) (Nat.le_of_ble_eq_true rfl) ?_
  refine wk_growth (pc := 30) G (hW _) lJX8_26_13 lJX8_26_14 dX8_lay_30 (by decide) (Nat.le_of_ble_eq_true rfl) ?_
  refine pr_put (pc := 35) (k := 7) G (.ref w, upd (upd (upd n 1 num) 2 (r 0)) 7 (pGrows pl r k (pDur pl r k))) flX8_30_6 dX8_lay_35 ha (by decide) rfl rfl rfl ?_
  show ax_W Ω Γ _ _ (pH h p (.ref w, upd (upd (upd n 1 num) 2 (r 0)) 7 (pGrows pl r k (pDur pl r k)))) _ _ _
  refine ax_aload_n (pc := 38) G dX8_lay_38 rfl rfl ?_
  refine ax_iload (pc := 39) G dX8_lay_39 rfl ?_
  refine ax_aload_n (pc := 41) G dX8_lay_41 rfl rfl ?_
  refine pr_get (pc := 42) (v := .int (pGrows pl r k (pDur pl r k))) G flX8_30_6 dX8_lay_42 rfl ?_
  refine ax_iadd (pc := 45) G dX8_lay_45 ?_
  refine ax_aload_n (pc := 46) G dX8_lay_46 rfl rfl ?_
  refine ax_getf (pc := 47) (v := .int (pl 3)) G flX8_32_10 dX8_lay_47 ((hS _).1) rfl ?_
  have J61 : ax_W Ω Γ 0 0 (pH h p (.ref w, upd (upd (upd n 1 num) 2 (r 0)) 7 (pGrows pl r k (pDur pl r k)))) 61 [some (.ref p), some (.ref (D.1 0)), some (.ref w), some (.int num), some (.int (bI op)), some (.int (r 0)), some (.int (r 3)), some (.int (r 1)), some (.int (r 2)), some (.int lf)] [.int (cDump pl r k), .ref p] := by
    refine pr_put (pc := 61) (k := 3) G (.ref w, upd (upd (upd (upd n 1 num) 2 (r 0)) 7 (pGrows pl r k (pDur pl r k))) 3 (cDump pl r k)) flX8_40_6 dX8_lay_61 ha (by decide) rfl rfl rfl ?_
    show ax_W Ω Γ _ _ (pH h p (.ref w, upd (upd (upd (upd n 1 num) 2 (r 0)) 7 (pGrows pl r k (pDur pl r k))) 3 (cDump pl r k))) _ _ _
    refine ax_aload_n (pc := 64) G dX8_lay_64 rfl rfl ?_
    refine ax_aload_n (pc := 65) G dX8_lay_65 rfl rfl ?_
    refine ax_aload_n (pc := 66) G dX8_lay_66 rfl rfl ?_
    refine pr_get (pc := 67) (v := .ref w) G flX8_7_6 dX8_lay_67 rfl ?_
    refine ax_iload (pc := 70) G dX8_lay_70 rfl ?_
    refine ax_iload (pc := 72) G dX8_lay_72 rfl ?_
    refine wk_angleFrom (pc := 74) G (hW _) lJX8_41_13 lJX8_41_14 dX8_lay_74 (by decide) (Nat.le_of_ble_eq_true rfl) ?_
    refine ax_cV1 (pc := 79) (kb := 0) (nb := 0) G (ct_slew hA hp (hS _) (cAng pl r k (r 1) (r 2))) lVX8_45_10 dX8_lay_79 ((hS _).1) rfl (by decide) (Nat.le_of_ble_eq_true rfl) rfl ?_
    refine pr_put (pc := 82) (k := 4) G (.ref w, upd (upd (upd (upd (upd n 1 num) 2 (r 0)) 7 (pGrows pl r k (pDur pl r k))) 3 (cDump pl r k)) 4 (cSlew pl (cAng pl r k (r 1) (r 2)))) flX8_48_6 dX8_lay_82 ha (by decide) rfl rfl rfl ?_
    show ax_W Ω Γ _ _ (pH h p (.ref w, upd (upd (upd (upd (upd n 1 num) 2 (r 0)) 7 (pGrows pl r k (pDur pl r k))) 3 (cDump pl r k)) 4 (cSlew pl (cAng pl r k (r 1) (r 2))))) _ _ _
    refine ax_aload_n (pc := 85) G dX8_lay_85 rfl rfl ?_
    refine ax_aload_n (pc := 86) G dX8_lay_86 rfl rfl ?_
    refine pr_get (pc := 87) (v := .int (r 0)) G flX8_17_6 dX8_lay_87 rfl ?_
    refine ax_aload_n (pc := 90) G dX8_lay_90 rfl rfl ?_
    refine pr_get (pc := 91) (v := .int (cDump pl r k)) G flX8_40_6 dX8_lay_91 rfl ?_
    refine ax_iadd (pc := 94) G dX8_lay_94 ?_
    refine ax_aload_n (pc := 95) G dX8_lay_95 rfl rfl ?_
    refine pr_get (pc := 96) (v := .int (cSlew pl (cAng pl r k (r 1) (r 2)))) G flX8_48_6 dX8_lay_96 rfl ?_
    refine ax_iadd (pc := 99) G dX8_lay_99 ?_
    refine pr_put (pc := 100) (k := 5) G (.ref w, upd (upd (upd (upd (upd (upd n 1 num) 2 (r 0)) 7 (pGrows pl r k (pDur pl r k))) 3 (cDump pl r k)) 4 (cSlew pl (cAng pl r k (r 1) (r 2)))) 5 (((r 0) + (cDump pl r k)) + (cSlew pl (cAng pl r k (r 1) (r 2))))) flX8_50_6 dX8_lay_100 ha (by decide) rfl rfl rfl ?_
    show ax_W Ω Γ _ _ (pH h p (.ref w, upd (upd (upd (upd (upd (upd n 1 num) 2 (r 0)) 7 (pGrows pl r k (pDur pl r k))) 3 (cDump pl r k)) 4 (cSlew pl (cAng pl r k (r 1) (r 2)))) 5 (((r 0) + (cDump pl r k)) + (cSlew pl (cAng pl r k (r 1) (r 2)))))) _ _ _
    refine ax_aload_n (pc := 103) G dX8_lay_103 rfl rfl ?_
    refine ax_aload_n (pc := 104) G dX8_lay_104 rfl rfl ?_
    refine pr_get (pc := 105) (v := .int (((r 0) + (cDump pl r k)) + (cSlew pl (cAng pl r k (r 1) (r 2))))) G flX8_50_6 dX8_lay_105 rfl ?_
    refine ax_aload_n (pc := 108) G dX8_lay_108 rfl rfl ?_
    refine pr_get (pc := 109) (v := .ref w) G flX8_7_6 dX8_lay_109 rfl ?_
    refine wk_duration (pc := 112) G (hW _) lJX8_20_13 lJX8_20_14 dX8_lay_112 (by decide) (Nat.le_of_ble_eq_true rfl) ?_
    refine ax_iadd (pc := 117) G dX8_lay_117 ?_
    refine pr_put (pc := 118) (k := 6) G (.ref w, upd (upd (upd (upd (upd (upd (upd n 1 num) 2 (r 0)) 7 (pGrows pl r k (pDur pl r k))) 3 (cDump pl r k)) 4 (cSlew pl (cAng pl r k (r 1) (r 2)))) 5 (((r 0) + (cDump pl r k)) + (cSlew pl (cAng pl r k (r 1) (r 2))))) 6 ((((r 0) + (cDump pl r k)) + (cSlew pl (cAng pl r k (r 1) (r 2)))) + (pDur pl r k))) flX8_53_6 dX8_lay_118 ha (by decide) rfl rfl rfl ?_
    show ax_W Ω Γ _ _ (pH h p (.ref w, upd (upd (upd (upd (upd (upd (upd n 1 num) 2 (r 0)) 7 (pGrows pl r k (pDur pl r k))) 3 (cDump pl r k)) 4 (cSlew pl (cAng pl r k (r 1) (r 2)))) 5 (((r 0) + (cDump pl r k)) + (cSlew pl (cAng pl r k (r 1) (r 2))))) 6 ((((r 0) + (cDump pl r k)) + (cSlew pl (cAng pl r k (r 1) (r 2)))) + (pDur pl r k)))) _ _ _
    refine ax_aload_n (pc := 121) G dX8_lay_121 rfl rfl ?_
    refine ax_iload (pc := 122) G dX8_lay_122 rfl ?_
    have J138 : ax_W Ω Γ 0 0 (pH h p (.ref w, upd (upd (upd (upd (upd (upd (upd n 1 num) 2 (r 0)) 7 (pGrows pl r k (pDur pl r k))) 3 (cDump pl r k)) 4 (cSlew pl (cAng pl r k (r 1) (r 2)))) 5 (((r 0) + (cDump pl r k)) + (cSlew pl (cAng pl r k (r 1) (r 2))))) 6 ((((r 0) + (cDump pl r k)) + (cSlew pl (cAng pl r k (r 1) (r 2)))) + (pDur pl r k)))) 138 [some (.ref p), some (.ref (D.1 0)), some (.ref w), some (.int num), some (.int (bI op)), some (.int (r 0)), some (.int (r 3)), some (.int (r 1)), some (.int (r 2)), some (.int lf)] [.int (if op = true then cRsn pl r k O lf (pGrows pl r k (pDur pl r k)) (((r 0) + (cDump pl r k)) + (cSlew pl (cAng pl r k (r 1) (r 2)))) ((((r 0) + (cDump pl r k)) + (cSlew pl (cAng pl r k (r 1) (r 2)))) + (pDur pl r k)) else nI 1), .ref p] := by
      refine pr_put (pc := 138) (k := 8) G (.ref w, upd (upd (upd (upd (upd (upd (upd (upd n 1 num) 2 (r 0)) 7 (pGrows pl r k (pDur pl r k))) 3 (cDump pl r k)) 4 (cSlew pl (cAng pl r k (r 1) (r 2)))) 5 (((r 0) + (cDump pl r k)) + (cSlew pl (cAng pl r k (r 1) (r 2))))) 6 ((((r 0) + (cDump pl r k)) + (cSlew pl (cAng pl r k (r 1) (r 2)))) + (pDur pl r k))) 8 (if op = true then cRsn pl r k O lf (pGrows pl r k (pDur pl r k)) (((r 0) + (cDump pl r k)) + (cSlew pl (cAng pl r k (r 1) (r 2)))) ((((r 0) + (cDump pl r k)) + (cSlew pl (cAng pl r k (r 1) (r 2)))) + (pDur pl r k)) else nI 1)) flX8_60_6 dX8_lay_138 ha (by decide) rfl rfl rfl ?_
      show ax_W Ω Γ _ _ (pH h p (.ref w, upd (upd (upd (upd (upd (upd (upd (upd n 1 num) 2 (r 0)) 7 (pGrows pl r k (pDur pl r k))) 3 (cDump pl r k)) 4 (cSlew pl (cAng pl r k (r 1) (r 2)))) 5 (((r 0) + (cDump pl r k)) + (cSlew pl (cAng pl r k (r 1) (r 2))))) 6 ((((r 0) + (cDump pl r k)) + (cSlew pl (cAng pl r k (r 1) (r 2)))) + (pDur pl r k))) 8 (if op = true then cRsn pl r k O lf (pGrows pl r k (pDur pl r k)) (((r 0) + (cDump pl r k)) + (cSlew pl (cAng pl r k (r 1) (r 2)))) ((((r 0) + (cDump pl r k)) + (cSlew pl (cAng pl r k (r 1) (r 2)))) + (pDur pl r k)) else nI 1))) _ _ _
      refine ax_aload_n (pc := 141) G dX8_lay_141 rfl rfl ?_
      exact ax_aretE (pc := 142) G E rfl (Or.inl ⟨_, rfl⟩) (Or.inr ⟨_, rfl⟩) dX8_lay_142 (rfl) (pH_eq rfl)
    refine ax_if_eq (pc := 124) (tgt := 137) G dX8_lay_124 rfl (fun c124 => ?_) (fun c124 => ?_)
    · have c124b := bI_f c124
      refine ax_iconst (pc := 137) (v := nI 1) G dX8_lay_137 ic_1 ?_
      refine ax_top (show (.int (nI 1) : Value) = .int (if op = true then cRsn pl r k O lf (pGrows pl r k (pDur pl r k)) (((r 0) + (cDump pl r k)) + (cSlew pl (cAng pl r k (r 1) (r 2)))) ((((r 0) + (cDump pl r k)) + (cSlew pl (cAng pl r k (r 1) (r 2)))) + (pDur pl r k)) else nI 1) from congrArg Value.int (by first | (simp only [c124b, if_true, if_false, Bool.false_eq_true, not_false_eq_true, not_true_eq_false, decide_true, decide_false, Bool.and_true, Bool.true_and, Bool.and_false, Bool.false_and, Bool.or_true, Bool.true_or, Bool.or_false, Bool.false_or, and_self, and_true, true_and, and_false, false_and, or_true, true_or, or_false, false_or, ne_eq]; done) | (simp only [c124b, if_true, if_false, Bool.false_eq_true, not_false_eq_true, not_true_eq_false, decide_true, decide_false, Bool.and_true, Bool.true_and, Bool.and_false, Bool.false_and, Bool.or_true, Bool.true_or, Bool.or_false, Bool.false_or, and_self, and_true, true_and, and_false, false_and, or_true, true_or, or_false, false_or, ne_eq]; rfl))) ?_
      exact J138
    · have c124b := bI_t c124
      refine ax_aload_n (pc := 127) G dX8_lay_127 rfl rfl ?_
      refine ax_aload_n (pc := 128) G dX8_lay_128 rfl rfl ?_
      refine ax_iload (pc := 129) G dX8_lay_129 rfl ?_
      refine ax_cV1 (pc := 131) (kb := 0) (nb := 0) G (ct_reason hA (n := upd (upd (upd (upd (upd (upd (upd n 1 num) 2 (r 0)) 7 (pGrows pl r k (pDur pl r k))) 3 (cDump pl r k)) 4 (cSlew pl (cAng pl r k (r 1) (r 2)))) 5 (((r 0) + (cDump pl r k)) + (cSlew pl (cAng pl r k (r 1) (r 2))))) 6 ((((r 0) + (cDump pl r k)) + (cSlew pl (cAng pl r k (r 1) (r 2)))) + (pDur pl r k))) hp hS hW lf) lVX8_56_6 dX8_lay_131 pH_obj rfl (by decide) (Nat.le_of_ble_eq_true rfl) rfl ?_
      refine ax_goto (pc := 134) (tgt := 138) G dX8_lay_134 rfl ?_
      refine ax_top (show (.int (cRsn pl r k O lf (pGrows pl r k (pDur pl r k)) (((r 0) + (cDump pl r k)) + (cSlew pl (cAng pl r k (r 1) (r 2)))) ((((r 0) + (cDump pl r k)) + (cSlew pl (cAng pl r k (r 1) (r 2)))) + (pDur pl r k))) : Value) = .int (if op = true then cRsn pl r k O lf (pGrows pl r k (pDur pl r k)) (((r 0) + (cDump pl r k)) + (cSlew pl (cAng pl r k (r 1) (r 2)))) ((((r 0) + (cDump pl r k)) + (cSlew pl (cAng pl r k (r 1) (r 2)))) + (pDur pl r k)) else nI 1) from congrArg Value.int (by first | (simp only [c124b, if_true, if_false, Bool.false_eq_true, not_false_eq_true, not_true_eq_false, decide_true, decide_false, Bool.and_true, Bool.true_and, Bool.and_false, Bool.false_and, Bool.or_true, Bool.true_or, Bool.or_false, Bool.false_or, and_self, and_true, true_and, and_false, false_and, or_true, true_or, or_false, false_or, ne_eq]; done) | (simp only [c124b, if_true, if_false, Bool.false_eq_true, not_false_eq_true, not_true_eq_false, decide_true, decide_false, Bool.and_true, Bool.true_and, Bool.and_false, Bool.false_and, Bool.or_true, Bool.true_or, Bool.or_false, Bool.false_or, and_self, and_true, true_and, and_false, false_and, or_true, true_or, or_false, false_or, ne_eq]; rfl))) ?_
      exact J138
  refine ax_icmp_le (pc := 50) (tgt := 60) G dX8_lay_50 rfl (fun c50 => ?_) (fun c50 => ?_)
  · refine ax_iconst (pc := 60) (v := nI 0) G dX8_lay_60 ic_0 ?_
    refine ax_top (show (.int (nI 0) : Value) = .int (cDump pl r k) from congrArg Value.int (by first | (simp only [cDump, c50, Int32.not_lt.mpr c50, if_true, if_false, Bool.false_eq_true, not_false_eq_true, not_true_eq_false, decide_true, decide_false, Bool.and_true, Bool.true_and, Bool.and_false, Bool.false_and, Bool.or_true, Bool.true_or, Bool.or_false, Bool.false_or, and_self, and_true, true_and, and_false, false_and, or_true, true_or, or_false, false_or, ne_eq]; done) | (simp only [cDump, c50, Int32.not_lt.mpr c50, if_true, if_false, Bool.false_eq_true, not_false_eq_true, not_true_eq_false, decide_true, decide_false, Bool.and_true, Bool.true_and, Bool.and_false, Bool.false_and, Bool.or_true, Bool.true_or, Bool.or_false, Bool.false_or, and_self, and_true, true_and, and_false, false_and, or_true, true_or, or_false, false_or, ne_eq]; rfl))) ?_
    exact J61
  · refine ax_aload_n (pc := 53) G dX8_lay_53 rfl rfl ?_
    refine ax_getf (pc := 54) (v := .int (pl 4)) G flX8_37_10 dX8_lay_54 ((hS _).1) rfl ?_
    refine ax_goto (pc := 57) (tgt := 61) G dX8_lay_57 rfl ?_
    refine ax_top (show (.int (pl 4) : Value) = .int (cDump pl r k) from congrArg Value.int (by first | (simp only [cDump, c50, Int32.not_le.mp c50, if_true, if_false, Bool.false_eq_true, not_false_eq_true, not_true_eq_false, decide_true, decide_false, Bool.and_true, Bool.true_and, Bool.and_false, Bool.false_and, Bool.or_true, Bool.true_or, Bool.or_false, Bool.false_or, and_self, and_true, true_and, and_false, false_and, or_true, true_or, or_false, false_or, ne_eq]; done) | (simp only [cDump, c50, Int32.not_le.mp c50, if_true, if_false, Bool.false_eq_true, not_false_eq_true, not_true_eq_false, decide_true, decide_false, Bool.and_true, Bool.true_and, Bool.and_false, Bool.false_and, Bool.or_true, Bool.true_or, Bool.or_false, Bool.false_or, and_self, and_true, true_and, and_false, false_and, or_true, true_or, or_false, false_or, ne_eq]; rfl))) ?_
    exact J61

theorem ct_can {Ω : ax_O} (hA : ax_Amb Ω) {h : ax_H} {p : Nat} {P : cP} (hP : h.1 p = some (.inr (6, cPF P))) : ax_Met Ω yX8_can 1 0 0 [.ref p] h (.inl (some (.int (bI (decide (P.2 8 = 0)))))) h := by
  refine ax_met q1878 q139 (by decide +kernel) (by decide) hA (Nat.le_of_ble_eq_true rfl) (fun Γ G E => ?_)
  show ax_W Ω Γ 0 0 h 0 [some (.ref p)] []
  refine ax_aload_n (pc := 0) G dX8_can_0 rfl rfl ?_
  refine ax_getf (pc := 1) (v := .int (P.2 8)) G flX8_60_6 dX8_can_1 (hP) rfl ?_
  refine ax_if_ne (pc := 4) (tgt := 11) G dX8_can_4 rfl (fun c4 => ?_) (fun c4 => ?_)
  · refine ax_iconst (pc := 11) (v := nI 0) G dX8_can_11 ic_0 ?_
    exact ax_iretE (pc := 12) G E rfl (rfl) dX8_can_12 (by first | exact congrArg bI (decide_eq_true ‹P.2 8 = 0›).symm | exact congrArg bI (decide_eq_false ‹¬ P.2 8 = 0›).symm) (rfl)
  · refine ax_iconst (pc := 7) (v := nI 1) G dX8_can_7 ic_1 ?_
    refine ax_goto (pc := 8) (tgt := 12) G dX8_can_8 rfl ?_
    exact ax_iretE (pc := 12) G E rfl (rfl) dX8_can_12 (by first | exact congrArg bI (decide_eq_true ‹P.2 8 = 0›).symm | exact congrArg bI (decide_eq_false ‹¬ P.2 8 = 0›).symm) (rfl)

theorem ct_become {Ω : ax_O} (hA : ax_Amb Ω) {h : ax_H} {p q w : Nat} {P0 : cP} {n : Nat → Int32} (ha : Ω.2.1.heap.size ≤ p) (hQ : ∀ P, (pH h p P).1 q = some (.inr (6, cPF (.ref w, n)))) : ax_Met Ω yX8_become 1 0 0 [.ref p, .ref q] (pH h p P0) (.inl none) (pH h p (.ref w, n)) := by
  refine ax_met q1945 q139 (by decide +kernel) (by decide) hA (Nat.le_of_ble_eq_true rfl) (fun Γ G E => ?_)
  show ax_W Ω Γ 0 0 (pH h p P0) 0 [some (.ref p), some (.ref q)] []
  refine ax_aload_n (pc := 0) G dX8_become_0 rfl rfl ?_
  refine ax_aload_n (pc := 1) G dX8_become_1 rfl rfl ?_
  refine ax_getf (pc := 2) (v := .ref w) G flX8_7_6 dX8_become_2 (hQ _) rfl ?_
  refine pr_put (pc := 5) (k := 0) G (.ref w, P0.2) flX8_7_6 dX8_become_5 ha (by decide) rfl rfl rfl ?_
  show ax_W Ω Γ _ _ (pH h p (.ref w, P0.2)) _ _ _
  refine ax_aload_n (pc := 8) G dX8_become_8 rfl rfl ?_
  refine ax_aload_n (pc := 9) G dX8_become_9 rfl rfl ?_
  refine ax_getf (pc := 10) (v := .int (n 1)) G flX8_13_6 dX8_become_10 (hQ _) rfl ?_
  refine pr_put (pc := 13) (k := 1) G (.ref w, upd P0.2 1 (n 1)) flX8_13_6 dX8_become_13 ha (by decide) rfl rfl rfl ?_
  show ax_W Ω Γ _ _ (pH h p (.ref w, upd P0.2 1 (n 1))) _ _ _
  refine ax_aload_n (pc := 16) G dX8_become_16 rfl rfl ?_
  refine ax_aload_n (pc := 17) G dX8_become_17 rfl rfl ?_
  refine ax_getf (pc := 18) (v := .int (n 2)) G flX8_17_6 dX8_become_18 (hQ _) rfl ?_
  refine pr_put (pc := 21) (k := 2) G (.ref w, upd (upd P0.2 1 (n 1)) 2 (n 2)) flX8_17_6 dX8_become_21 ha (by decide) rfl rfl rfl ?_
  show ax_W Ω Γ _ _ (pH h p (.ref w, upd (upd P0.2 1 (n 1)) 2 (n 2))) _ _ _
  refine ax_aload_n (pc := 24) G dX8_become_24 rfl rfl ?_
  refine ax_aload_n (pc := 25) G dX8_become_25 rfl rfl ?_
  refine ax_getf (pc := 26) (v := .int (n 3)) G flX8_40_6 dX8_become_26 (hQ _) rfl ?_
  refine pr_put (pc := 29) (k := 3) G (.ref w, upd (upd (upd P0.2 1 (n 1)) 2 (n 2)) 3 (n 3)) flX8_40_6 dX8_become_29 ha (by decide) rfl rfl rfl ?_
  show ax_W Ω Γ _ _ (pH h p (.ref w, upd (upd (upd P0.2 1 (n 1)) 2 (n 2)) 3 (n 3))) _ _ _
  refine ax_aload_n (pc := 32) G dX8_become_32 rfl rfl ?_
  refine ax_aload_n (pc := 33) G dX8_become_33 rfl rfl ?_
  refine ax_getf (pc := 34) (v := .int (n 4)) G flX8_48_6 dX8_become_34 (hQ _) rfl ?_
  refine pr_put (pc := 37) (k := 4) G (.ref w, upd (upd (upd (upd P0.2 1 (n 1)) 2 (n 2)) 3 (n 3)) 4 (n 4)) flX8_48_6 dX8_become_37 ha (by decide) rfl rfl rfl ?_
  show ax_W Ω Γ _ _ (pH h p (.ref w, upd (upd (upd (upd P0.2 1 (n 1)) 2 (n 2)) 3 (n 3)) 4 (n 4))) _ _ _
  refine ax_aload_n (pc := 40) G dX8_become_40 rfl rfl ?_
  refine ax_aload_n (pc := 41) G dX8_become_41 rfl rfl ?_
  refine ax_getf (pc := 42) (v := .int (n 5)) G flX8_50_6 dX8_become_42 (hQ _) rfl ?_
  refine pr_put (pc := 45) (k := 5) G (.ref w, upd (upd (upd (upd (upd P0.2 1 (n 1)) 2 (n 2)) 3 (n 3)) 4 (n 4)) 5 (n 5)) flX8_50_6 dX8_become_45 ha (by decide) rfl rfl rfl ?_
  show ax_W Ω Γ _ _ (pH h p (.ref w, upd (upd (upd (upd (upd P0.2 1 (n 1)) 2 (n 2)) 3 (n 3)) 4 (n 4)) 5 (n 5))) _ _ _
  refine ax_aload_n (pc := 48) G dX8_become_48 rfl rfl ?_
  refine ax_aload_n (pc := 49) G dX8_become_49 rfl rfl ?_
  refine ax_getf (pc := 50) (v := .int (n 6)) G flX8_53_6 dX8_become_50 (hQ _) rfl ?_
  refine pr_put (pc := 53) (k := 6) G (.ref w, upd (upd (upd (upd (upd (upd P0.2 1 (n 1)) 2 (n 2)) 3 (n 3)) 4 (n 4)) 5 (n 5)) 6 (n 6)) flX8_53_6 dX8_become_53 ha (by decide) rfl rfl rfl ?_
  show ax_W Ω Γ _ _ (pH h p (.ref w, upd (upd (upd (upd (upd (upd P0.2 1 (n 1)) 2 (n 2)) 3 (n 3)) 4 (n 4)) 5 (n 5)) 6 (n 6))) _ _ _
  refine ax_aload_n (pc := 56) G dX8_become_56 rfl rfl ?_
  refine ax_aload_n (pc := 57) G dX8_become_57 rfl rfl ?_
  refine ax_getf (pc := 58) (v := .int (n 7)) G flX8_30_6 dX8_become_58 (hQ _) rfl ?_
  refine pr_put (pc := 61) (k := 7) G (.ref w, upd (upd (upd (upd (upd (upd (upd P0.2 1 (n 1)) 2 (n 2)) 3 (n 3)) 4 (n 4)) 5 (n 5)) 6 (n 6)) 7 (n 7)) flX8_30_6 dX8_become_61 ha (by decide) rfl rfl rfl ?_
  show ax_W Ω Γ _ _ (pH h p (.ref w, upd (upd (upd (upd (upd (upd (upd P0.2 1 (n 1)) 2 (n 2)) 3 (n 3)) 4 (n 4)) 5 (n 5)) 6 (n 6)) 7 (n 7))) _ _ _
  refine ax_aload_n (pc := 64) G dX8_become_64 rfl rfl ?_
  refine ax_aload_n (pc := 65) G dX8_become_65 rfl rfl ?_
  refine ax_getf (pc := 66) (v := .int (n 8)) G flX8_60_6 dX8_become_66 (hQ _) rfl ?_
  refine pr_put (pc := 69) (k := 8) G (.ref w, upd (upd (upd (upd (upd (upd (upd (upd P0.2 1 (n 1)) 2 (n 2)) 3 (n 3)) 4 (n 4)) 5 (n 5)) 6 (n 6)) 7 (n 7)) 8 (n 8)) flX8_60_6 dX8_become_69 ha (by decide) rfl rfl rfl ?_
  show ax_W Ω Γ _ _ (pH h p (.ref w, upd (upd (upd (upd (upd (upd (upd (upd P0.2 1 (n 1)) 2 (n 2)) 3 (n 3)) 4 (n 4)) 5 (n 5)) 6 (n 6)) 7 (n 7)) 8 (n 8))) _ _ _
  exact ax_vretE (pc := 72) G E rfl dX8_become_72 (pH_eq rfl)

theorem ct_left {Ω : ax_O} (hA : ax_Amb Ω) {h : ax_H} {a : Nat} {s : pR} {π : Nat → cP} {sc : Value} {rl : Nat} (p : Nat) (hp6 : p < 6) : ax_Met Ω yX2_left 1 0 0 [.ref a, .int (nI p)] (sH h a (s, π, sc, rl)) (.inl (some (.int (pLeft s p)))) (sH h a (s, π, sc, rl)) := by
  refine ax_met q1459 q114 (by decide +kernel) (by decide) hA (Nat.le_of_ble_eq_true rfl) (fun Γ G E => ?_)
  show ax_W Ω Γ 0 0 (sH h a (s, π, sc, rl)) 0 [some (.ref a), some (.int (nI p))] []
  refine ax_aload_n (pc := 0) G dX2_left_0 rfl rfl ?_
  refine sr_get (pc := 1) (v := .ref (a + 4)) G flX2_30_1 dX2_left_1 rfl ?_
  refine ax_iload_n (pc := 4) G dX2_left_4 rfl rfl ?_
  refine sr_ld (pc := 5) (k := 4) (j := p) (r := 17 + p) G dX2_left_5 (by decide) (by decide) rfl rfl (show p < 6 by omega) ?_
  show ax_W Ω Γ _ _ _ _ _ (.int (s (17 + p)) :: _)
  refine ax_aload_n (pc := 6) G dX2_left_6 rfl rfl ?_
  refine sr_get (pc := 7) (v := .ref (a + 5)) G flX2_34_1 dX2_left_7 rfl ?_
  refine ax_iload_n (pc := 10) G dX2_left_10 rfl rfl ?_
  refine sr_ld (pc := 11) (k := 5) (j := p) (r := 23 + p) G dX2_left_11 (by decide) (by decide) rfl rfl (show p < 6 by omega) ?_
  show ax_W Ω Γ _ _ _ _ _ (.int (s (23 + p)) :: _)
  refine ax_isub (pc := 12) G dX2_left_12 ?_
  refine ax_aload_n (pc := 13) G dX2_left_13 rfl rfl ?_
  refine sr_get (pc := 14) (v := .ref (a + 6)) G flX2_37_1 dX2_left_14 rfl ?_
  refine ax_iload_n (pc := 17) G dX2_left_17 rfl rfl ?_
  refine sr_ld (pc := 18) (k := 6) (j := p) (r := 29 + p) G dX2_left_18 (by decide) (by decide) rfl rfl (show p < 6 by omega) ?_
  show ax_W Ω Γ _ _ _ _ _ (.int (s (29 + p)) :: _)
  refine ax_isub (pc := 19) G dX2_left_19 ?_
  exact ax_iretE (pc := 20) G E rfl (rfl) dX2_left_20 (rfl) (rfl)

theorem ct_divisor {Ω : ax_O} (hA : ax_Amb Ω) {h : ax_H} {a : Nat} {s : pR} {π : Nat → cP} {sc : Value} {rl : Nat} (p : Nat) (hp6 : p < 6) : ax_Met Ω yX2_divisor 2 0 0 [.ref a, .int (nI p)] (sH h a (s, π, sc, rl)) (.inl (some (.int (cDiv s p)))) (sH h a (s, π, sc, rl)) := by
  refine ax_met q1925 q114 (by decide +kernel) (by decide) hA (Nat.le_of_ble_eq_true rfl) (fun Γ G E => ?_)
  show ax_W Ω Γ 0 0 (sH h a (s, π, sc, rl)) 0 [some (.ref a), some (.int (nI p))] []
  refine ax_iconst (pc := 0) (v := nI 1) G dX2_divisor_0 ic_1 ?_
  refine ax_aload_n (pc := 1) G dX2_divisor_1 rfl rfl ?_
  refine sr_get (pc := 2) (v := .ref (a + 4)) G flX2_30_1 dX2_divisor_2 rfl ?_
  refine ax_iload_n (pc := 5) G dX2_divisor_5 rfl rfl ?_
  refine sr_ld (pc := 6) (k := 4) (j := p) (r := 17 + p) G dX2_divisor_6 (by decide) (by decide) rfl rfl (show p < 6 by omega) ?_
  show ax_W Ω Γ _ _ _ _ _ (.int (s (17 + p)) :: _)
  refine ax_max (pc := 7) G q1926 q322 q132 q323 (by decide) (Nat.le_of_ble_eq_true rfl) dX2_divisor_7 ?_
  exact ax_iretE (pc := 10) G E rfl (rfl) dX2_divisor_10 (rfl) (rfl)

theorem sH_pe {h : ax_H} {a : Nat} {σ : cS} {k : Nat} {P : cP} (h1 : 16 ≤ k) (h2 : k ≤ 18) (e : σ.2.1 (k - 16) = P) : (sH h a σ).1 (a + k) = some (.inr (6, cPF P)) := by rw [sH_pl h1 h2, e]
theorem ct_byPriority {Ω : ax_O} (hA : ax_Amb Ω) {h : ax_H} {a w0 w1 : Nat} {pl s : pR} {π : Nat → cP} {sc : Value} {rl : Nat} {N V O A : Nat} {n0 n1 : Nat → Int32} (hp : pWP pl N V O) (hs : pWS s A) (k o : Nat) (hk : k < 20) (ho : o < 20) (h0 : π 0 = (.ref w0, n0)) (h1 : π 1 = (.ref w1, n1)) (hn0 : n0 1 = nI k) (hn1 : n1 1 = nI o) (hw0 : ∀ σ, cWk (sH h a σ) w0 pl s k) (hw1 : ∀ σ, cWk (sH h a σ) w1 pl s o)  : ax_Met Ω yX3_byPriority 2 0 0 [.ref a, .ref (a + 16), .ref (a + 17)] (sH h a (s, π, sc, rl)) (.inl (some (.int (cPri s k o)))) (sH h a (s, π, sc, rl)) := by
  refine ax_met q1904 q115 (by decide +kernel) (by decide) hA (Nat.le_of_ble_eq_true rfl) (fun Γ G E => ?_)
  show ax_W Ω Γ 0 0 (sH h a (s, π, sc, rl)) 0 [some (.ref a), some (.ref (a + 16)), some (.ref (a + 17))] []
  refine ax_aload_n (pc := 0) G dX3_byPriority_0 rfl rfl ?_
  refine sr_get (pc := 1) (v := .ref (a + 11)) G flX3_1_1 dX3_byPriority_1 rfl ?_
  refine ax_aload_n (pc := 4) G dX3_byPriority_4 rfl rfl ?_
  refine ax_getf (pc := 5) (v := .int (n1 1)) G flX3_7_6 dX3_byPriority_5 (sH_pe (k := 17) (by decide) (by decide) h1) rfl ?_
  refine ax_top (show Value.int (n1 1) = .int (nI o) from congrArg Value.int (hn1)) ?_
  refine sr_ld (pc := 8) (k := 11) (j := o) (r := 107 + o) G dX3_byPriority_8 (by decide) (by decide) rfl rfl (show o < 20 by omega) ?_
  show ax_W Ω Γ _ _ _ _ _ (.int (s (107 + o)) :: _)
  refine ax_aload_n (pc := 9) G dX3_byPriority_9 rfl rfl ?_
  refine sr_get (pc := 10) (v := .ref (a + 11)) G flX3_1_1 dX3_byPriority_10 rfl ?_
  refine ax_aload_n (pc := 13) G dX3_byPriority_13 rfl rfl ?_
  refine ax_getf (pc := 14) (v := .int (n0 1)) G flX3_7_6 dX3_byPriority_14 (sH_pe (k := 16) (by decide) (by decide) h0) rfl ?_
  refine ax_top (show Value.int (n0 1) = .int (nI k) from congrArg Value.int (hn0)) ?_
  refine sr_ld (pc := 17) (k := 11) (j := k) (r := 107 + k) G dX3_byPriority_17 (by decide) (by decide) rfl rfl (show k < 20 by omega) ?_
  show ax_W Ω Γ _ _ _ _ _ (.int (s (107 + k)) :: _)
  refine ax_cS1 (pc := 18) (kb := 0) (nb := 0) G (ct_cmp hA (s (107 + o)) (s (107 + k))) lSX3_13 dX3_byPriority_18 rfl (by decide) (Nat.le_of_ble_eq_true rfl) rfl ?_
  exact ax_iretE (pc := 21) G E rfl (rfl) dX3_byPriority_21 (rfl) (rfl)

theorem ct_compare_2 {Ω : ax_O} (hA : ax_Amb Ω) {h : ax_H} {a w0 w1 : Nat} {pl s : pR} {π : Nat → cP} {sc : Value} {rl : Nat} {N V O A : Nat} {n0 n1 : Nat → Int32} (hp : pWP pl N V O) (hs : pWS s A) (k o : Nat) (hk : k < 20) (ho : o < 20) (h0 : π 0 = (.ref w0, n0)) (h1 : π 1 = (.ref w1, n1)) (hn0 : n0 1 = nI k) (hn1 : n1 1 = nI o) (hw0 : ∀ σ, cWk (sH h a σ) w0 pl s k) (hw1 : ∀ σ, cWk (sH h a σ) w1 pl s o) {u : Nat} : ax_Met Ω yX4_compare 4 0 0 [.ref u, .ref a, .ref (a + 16), .ref (a + 17)] (sH h a (s, π, sc, rl)) (.inl (some (.int (cOr (cPri s k o) (cCmp (n0 5) (n1 5)))))) (sH h a (s, π, sc, rl)) := by
  refine ax_met q1911 q116 (by decide +kernel) (by decide) hA (Nat.le_of_ble_eq_true rfl) (fun Γ G E => ?_)
  show ax_W Ω Γ 0 0 (sH h a (s, π, sc, rl)) 0 [some (.ref u), some (.ref a), some (.ref (a + 16)), some (.ref (a + 17)), none] []
  refine ax_aload_n (pc := 0) G dX4_compare_0 rfl rfl ?_
  refine ax_aload_n (pc := 1) G dX4_compare_1 rfl rfl ?_
  refine ax_aload_n (pc := 2) G dX4_compare_2 rfl rfl ?_
  refine ax_cS1 (pc := 3) (kb := 0) (nb := 0) G (ct_byPriority hA hp hs k o hk ho h0 h1 hn0 hn1 hw0 hw1) lSX4_7 dX4_compare_3 rfl (by decide) (Nat.le_of_ble_eq_true rfl) rfl ?_
  refine ax_istore (pc := 6) G dX4_compare_6 (Nat.le_of_ble_eq_true rfl) rfl ?_
  refine ax_iload (pc := 8) G dX4_compare_8 rfl ?_
  refine ax_if_eq (pc := 10) (tgt := 18) G dX4_compare_10 rfl (fun c10 => ?_) (fun c10 => ?_)
  · refine ax_aload_n (pc := 18) G dX4_compare_18 rfl rfl ?_
    refine ax_getf (pc := 19) (v := .int (n0 5)) G flX4_13_6 dX4_compare_19 (sH_pe (k := 16) (by decide) (by decide) h0) rfl ?_
    refine ax_aload_n (pc := 22) G dX4_compare_22 rfl rfl ?_
    refine ax_getf (pc := 23) (v := .int (n1 5)) G flX4_13_6 dX4_compare_23 (sH_pe (k := 17) (by decide) (by decide) h1) rfl ?_
    refine ax_cS1 (pc := 26) (kb := 0) (nb := 0) G (ct_cmp hA (n0 5) (n1 5)) lSX4_19 dX4_compare_26 rfl (by decide) (Nat.le_of_ble_eq_true rfl) rfl ?_
    exact ax_iretE (pc := 29) G E rfl (rfl) dX4_compare_29 (by first | (simp only [cOr, cShr, c10, if_true, if_false, Bool.false_eq_true, not_false_eq_true, not_true_eq_false, decide_true, decide_false, Bool.and_true, Bool.true_and, Bool.and_false, Bool.false_and, Bool.or_true, Bool.true_or, Bool.or_false, Bool.false_or, and_self, and_true, true_and, and_false, false_and, or_true, true_or, or_false, false_or, ne_eq]; done) | (simp only [cOr, cShr, c10, if_true, if_false, Bool.false_eq_true, not_false_eq_true, not_true_eq_false, decide_true, decide_false, Bool.and_true, Bool.true_and, Bool.and_false, Bool.false_and, Bool.or_true, Bool.true_or, Bool.or_false, Bool.false_or, and_self, and_true, true_and, and_false, false_and, or_true, true_or, or_false, false_or, ne_eq]; rfl) | (simp only [cOr, cShr, if_pos c10, decide_eq_true c10, if_true, if_false, Bool.false_eq_true, not_false_eq_true, not_true_eq_false, decide_true, decide_false, Bool.and_true, Bool.true_and, Bool.and_false, Bool.false_and, Bool.or_true, Bool.true_or, Bool.or_false, Bool.false_or, and_self, and_true, true_and, and_false, false_and, or_true, true_or, or_false, false_or, ne_eq]; done) | (simp only [cOr, cShr, if_pos c10, decide_eq_true c10, if_true, if_false, Bool.false_eq_true, not_false_eq_true, not_true_eq_false, decide_true, decide_false, Bool.and_true, Bool.true_and, Bool.and_false, Bool.false_and, Bool.or_true, Bool.true_or, Bool.or_false, Bool.false_or, and_self, and_true, true_and, and_false, false_and, or_true, true_or, or_false, false_or, ne_eq]; rfl)) (by first | (simp only [cOr, cShr, c10, if_true, if_false, Bool.false_eq_true, not_false_eq_true, not_true_eq_false, decide_true, decide_false, Bool.and_true, Bool.true_and, Bool.and_false, Bool.false_and, Bool.or_true, Bool.true_or, Bool.or_false, Bool.false_or, and_self, and_true, true_and, and_false, false_and, or_true, true_or, or_false, false_or, ne_eq]; done) | (simp only [cOr, cShr, c10, if_true, if_false, Bool.false_eq_true, not_false_eq_true, not_true_eq_false, decide_true, decide_false, Bool.and_true, Bool.true_and, Bool.and_false, Bool.false_and, Bool.or_true, Bool.true_or, Bool.or_false, Bool.false_or, and_self, and_true, true_and, and_false, false_and, or_true, true_or, or_false, false_or, ne_eq]; rfl) | (simp only [cOr, cShr, if_pos c10, decide_eq_true c10, if_true, if_false, Bool.false_eq_true, not_false_eq_true, not_true_eq_false, decide_true, decide_false, Bool.and_true, Bool.true_and, Bool.and_false, Bool.false_and, Bool.or_true, Bool.true_or, Bool.or_false, Bool.false_or, and_self, and_true, true_and, and_false, false_and, or_true, true_or, or_false, false_or, ne_eq]; done) | (simp only [cOr, cShr, if_pos c10, decide_eq_true c10, if_true, if_false, Bool.false_eq_true, not_false_eq_true, not_true_eq_false, decide_true, decide_false, Bool.and_true, Bool.true_and, Bool.and_false, Bool.false_and, Bool.or_true, Bool.true_or, Bool.or_false, Bool.false_or, and_self, and_true, true_and, and_false, false_and, or_true, true_or, or_false, false_or, ne_eq]; rfl))
  · refine ax_iload (pc := 13) G dX4_compare_13 rfl ?_
    refine ax_goto (pc := 15) (tgt := 29) G dX4_compare_15 rfl ?_
    exact ax_iretE (pc := 29) G E rfl (rfl) dX4_compare_29 (by first | (simp only [cOr, cShr, c10, if_true, if_false, Bool.false_eq_true, not_false_eq_true, not_true_eq_false, decide_true, decide_false, Bool.and_true, Bool.true_and, Bool.and_false, Bool.false_and, Bool.or_true, Bool.true_or, Bool.or_false, Bool.false_or, and_self, and_true, true_and, and_false, false_and, or_true, true_or, or_false, false_or, ne_eq]; done) | (simp only [cOr, cShr, c10, if_true, if_false, Bool.false_eq_true, not_false_eq_true, not_true_eq_false, decide_true, decide_false, Bool.and_true, Bool.true_and, Bool.and_false, Bool.false_and, Bool.or_true, Bool.true_or, Bool.or_false, Bool.false_or, and_self, and_true, true_and, and_false, false_and, or_true, true_or, or_false, false_or, ne_eq]; rfl)) (by first | (simp only [cOr, cShr, c10, if_true, if_false, Bool.false_eq_true, not_false_eq_true, not_true_eq_false, decide_true, decide_false, Bool.and_true, Bool.true_and, Bool.and_false, Bool.false_and, Bool.or_true, Bool.true_or, Bool.or_false, Bool.false_or, and_self, and_true, true_and, and_false, false_and, or_true, true_or, or_false, false_or, ne_eq]; done) | (simp only [cOr, cShr, c10, if_true, if_false, Bool.false_eq_true, not_false_eq_true, not_true_eq_false, decide_true, decide_false, Bool.and_true, Bool.true_and, Bool.and_false, Bool.false_and, Bool.or_true, Bool.true_or, Bool.or_false, Bool.false_or, and_self, and_true, true_and, and_false, false_and, or_true, true_or, or_false, false_or, ne_eq]; rfl))

theorem ct_prefers_2 {Ω : ax_O} (hA : ax_Amb Ω) {h : ax_H} {a w0 w1 : Nat} {pl s : pR} {π : Nat → cP} {sc : Value} {rl : Nat} {N V O A : Nat} {n0 n1 : Nat → Int32} (hp : pWP pl N V O) (hs : pWS s A) (k o : Nat) (hk : k < 20) (ho : o < 20) (h0 : π 0 = (.ref w0, n0)) (h1 : π 1 = (.ref w1, n1)) (hn0 : n0 1 = nI k) (hn1 : n1 1 = nI o) (hw0 : ∀ σ, cWk (sH h a σ) w0 pl s k) (hw1 : ∀ σ, cWk (sH h a σ) w1 pl s o) {u : Nat} (hu : ∀ σ, (sH h a σ).1 u = some (.inr (2, []))) (hko : o < k) : ax_Met Ω yX3_prefers 5 0 0 [.ref u, .ref a, .ref (a + 16), .ref (a + 17)] (sH h a (s, π, sc, rl)) (.inl (some (.int (bI (decide (cOr (cPri s k o) (cCmp (n0 5) (n1 5)) < 0)))))) (sH h a (s, π, sc, rl)) := by
  refine ax_met q1887 q115 (by decide +kernel) (by decide) hA (Nat.le_of_ble_eq_true rfl) (fun Γ G E => ?_)
  show ax_W Ω Γ 0 0 (sH h a (s, π, sc, rl)) 0 [some (.ref u), some (.ref a), some (.ref (a + 16)), some (.ref (a + 17)), none] []
  refine ax_aload_n (pc := 0) G dX3_prefers_0 rfl rfl ?_
  refine ax_aload_n (pc := 1) G dX3_prefers_1 rfl rfl ?_
  refine ax_aload_n (pc := 2) G dX3_prefers_2 rfl rfl ?_
  refine ax_aload_n (pc := 3) G dX3_prefers_3 rfl rfl ?_
  refine ax_cJ1 (pc := 4) (kb := 0) (nb := 0) G (ct_compare_2 hA hp hs k o hk ho h0 h1 hn0 hn1 hw0 hw1) lJX3_19_2 dX3_prefers_4 (hu _) rfl (by decide) (Nat.le_of_ble_eq_true rfl) rfl ?_
  refine ax_istore (pc := 9) G dX3_prefers_9 (Nat.le_of_ble_eq_true rfl) rfl ?_
  refine ax_iload (pc := 11) G dX3_prefers_11 rfl ?_
  refine ax_if_lt (pc := 13) (tgt := 32) G dX3_prefers_13 rfl (fun c13 => ?_) (fun c13 => ?_)
  · refine ax_iconst (pc := 32) (v := nI 1) G dX3_prefers_32 ic_1 ?_
    refine ax_goto (pc := 33) (tgt := 37) G dX3_prefers_33 rfl ?_
    exact ax_iretE (pc := 37) G E rfl (rfl) dX3_prefers_37 (congrArg bI (decide_eq_true c13).symm) (rfl)
  · refine ax_iload (pc := 16) G dX3_prefers_16 rfl ?_
    refine ax_if_ne (pc := 18) (tgt := 36) G dX3_prefers_18 rfl (fun c18 => ?_) (fun c18 => ?_)
    · refine ax_iconst (pc := 36) (v := nI 0) G dX3_prefers_36 ic_0 ?_
      exact ax_iretE (pc := 37) G E rfl (rfl) dX3_prefers_37 (congrArg bI (decide_eq_false c13).symm) (rfl)
    · refine ax_aload_n (pc := 21) G dX3_prefers_21 rfl rfl ?_
      refine ax_getf (pc := 22) (v := .int (n0 1)) G flX3_7_6 dX3_prefers_22 (sH_pe (k := 16) (by decide) (by decide) h0) rfl ?_
      refine ax_top (show Value.int (n0 1) = .int (nI k) from congrArg Value.int (hn0)) ?_
      refine ax_aload_n (pc := 25) G dX3_prefers_25 rfl rfl ?_
      refine ax_getf (pc := 26) (v := .int (n1 1)) G flX3_7_6 dX3_prefers_26 (sH_pe (k := 17) (by decide) (by decide) h1) rfl ?_
      refine ax_top (show Value.int (n1 1) = .int (nI o) from congrArg Value.int (hn1)) ?_
      refine ax_icmp_geN (pc := 29) (tgt := 36) G dX3_prefers_29 rfl (by omega) (by omega) (fun c29 => ?_) (fun c29 => ?_)
      · refine ax_iconst (pc := 36) (v := nI 0) G dX3_prefers_36 ic_0 ?_
        exact ax_iretE (pc := 37) G E rfl (rfl) dX3_prefers_37 (congrArg bI (decide_eq_false c13).symm) (rfl)
      · omega

theorem ct_compare_3 {Ω : ax_O} (hA : ax_Amb Ω) {h : ax_H} {a w0 w1 : Nat} {pl s : pR} {π : Nat → cP} {sc : Value} {rl : Nat} {N V O A : Nat} {n0 n1 : Nat → Int32} (hp : pWP pl N V O) (hs : pWS s A) (k o : Nat) (hk : k < 20) (ho : o < 20) (h0 : π 0 = (.ref w0, n0)) (h1 : π 1 = (.ref w1, n1)) (hn0 : n0 1 = nI k) (hn1 : n1 1 = nI o) (hw0 : ∀ σ, cWk (sH h a σ) w0 pl s k) (hw1 : ∀ σ, cWk (sH h a σ) w1 pl s o) {u : Nat} : ax_Met Ω yX5_compare 4 0 0 [.ref u, .ref a, .ref (a + 16), .ref (a + 17)] (sH h a (s, π, sc, rl)) (.inl (some (.int (cOr (cShr s (pQ pl s k) (pQ pl s o)) (cPri s k o))))) (sH h a (s, π, sc, rl)) := by
  refine ax_met q1919 q117 (by decide +kernel) (by decide) hA (Nat.le_of_ble_eq_true rfl) (fun Γ G E => ?_)
  show ax_W Ω Γ 0 0 (sH h a (s, π, sc, rl)) 0 [some (.ref u), some (.ref a), some (.ref (a + 16)), some (.ref (a + 17)), none, none, none] []
  refine ax_aload_n (pc := 0) G dX5_compare_0 rfl rfl ?_
  refine ax_getf (pc := 1) (v := .ref w0) G flX5_7_6 dX5_compare_1 (sH_pe (k := 16) (by decide) (by decide) h0) rfl ?_
  refine wk_proposal (pc := 4) G (hw0 _) lJX5_13_13 lJX5_13_14 dX5_compare_4 (by decide) (Nat.le_of_ble_eq_true rfl) ?_
  have qk9 := pQ_l hp hs (k := k) (by omega)
  refine ax_top (show Value.int (pProp pl s k) = .int (nI (pQ pl s k)) from congrArg Value.int (pQ_e hp hs (by omega))) ?_
  refine ax_istore (pc := 9) G dX5_compare_9 (Nat.le_of_ble_eq_true rfl) rfl ?_
  refine ax_aload_n (pc := 11) G dX5_compare_11 rfl rfl ?_
  refine ax_getf (pc := 12) (v := .ref w1) G flX5_7_6 dX5_compare_12 (sH_pe (k := 17) (by decide) (by decide) h1) rfl ?_
  refine wk_proposal (pc := 15) G (hw1 _) lJX5_13_13 lJX5_13_14 dX5_compare_15 (by decide) (Nat.le_of_ble_eq_true rfl) ?_
  have qo9 := pQ_l hp hs (k := o) (by omega)
  refine ax_top (show Value.int (pProp pl s o) = .int (nI (pQ pl s o)) from congrArg Value.int (pQ_e hp hs (by omega))) ?_
  refine ax_istore (pc := 20) G dX5_compare_20 (Nat.le_of_ble_eq_true rfl) rfl ?_
  refine ax_aload_n (pc := 22) G dX5_compare_22 rfl rfl ?_
  refine sr_get (pc := 23) (v := .ref (a + 5)) G flX5_19_1 dX5_compare_23 rfl ?_
  refine ax_iload (pc := 26) G dX5_compare_26 rfl ?_
  refine sr_ld (pc := 28) (k := 5) (j := pQ pl s k) (r := 23 + pQ pl s k) G dX5_compare_28 (by decide) (by decide) rfl rfl (show pQ pl s k < 6 by omega) ?_
  show ax_W Ω Γ _ _ _ _ _ (.int (s (23 + pQ pl s k)) :: _)
  refine ax_i2l (pc := 29) G dX5_compare_29 rfl ?_
  refine ax_aload_n (pc := 30) G dX5_compare_30 rfl rfl ?_
  refine ax_iload (pc := 31) G dX5_compare_31 rfl ?_
  refine ax_cV1 (pc := 33) (kb := 0) (nb := 0) G (ct_divisor hA (a := a) (pQ pl s o) (by omega)) lVX5_25_1 dX5_compare_33 sH_obj rfl (by decide) (Nat.le_of_ble_eq_true rfl) rfl ?_
  refine ax_i2l (pc := 36) G dX5_compare_36 rfl ?_
  refine ax_lmul (pc := 37) G dX5_compare_37 ?_
  refine ax_aload_n (pc := 38) G dX5_compare_38 rfl rfl ?_
  refine sr_get (pc := 39) (v := .ref (a + 5)) G flX5_19_1 dX5_compare_39 rfl ?_
  refine ax_iload (pc := 42) G dX5_compare_42 rfl ?_
  refine sr_ld (pc := 44) (k := 5) (j := pQ pl s o) (r := 23 + pQ pl s o) G dX5_compare_44 (by decide) (by decide) rfl rfl (show pQ pl s o < 6 by omega) ?_
  show ax_W Ω Γ _ _ _ _ _ (.int (s (23 + pQ pl s o)) :: _)
  refine ax_i2l (pc := 45) G dX5_compare_45 rfl ?_
  refine ax_aload_n (pc := 46) G dX5_compare_46 rfl rfl ?_
  refine ax_iload (pc := 47) G dX5_compare_47 rfl ?_
  refine ax_cV1 (pc := 49) (kb := 0) (nb := 0) G (ct_divisor hA (a := a) (pQ pl s k) (by omega)) lVX5_25_1 dX5_compare_49 sH_obj rfl (by decide) (Nat.le_of_ble_eq_true rfl) rfl ?_
  refine ax_i2l (pc := 52) G dX5_compare_52 rfl ?_
  refine ax_lmul (pc := 53) G dX5_compare_53 ?_
  refine ax_cS1 (pc := 54) (kb := 0) (nb := 0) G (ct_cmpL hA (((s (23 + pQ pl s k)).toInt64) * ((cDiv s (pQ pl s o)).toInt64)) (((s (23 + pQ pl s o)).toInt64) * ((cDiv s (pQ pl s k)).toInt64))) lSX5_29 dX5_compare_54 rfl (by decide) (Nat.le_of_ble_eq_true rfl) rfl ?_
  refine ax_istore (pc := 57) G dX5_compare_57 (Nat.le_of_ble_eq_true rfl) rfl ?_
  refine ax_iload (pc := 59) G dX5_compare_59 rfl ?_
  refine ax_if_eq (pc := 61) (tgt := 69) G dX5_compare_61 rfl (fun c61 => ?_) (fun c61 => ?_)
  · refine ax_aload_n (pc := 69) G dX5_compare_69 rfl rfl ?_
    refine ax_aload_n (pc := 70) G dX5_compare_70 rfl rfl ?_
    refine ax_aload_n (pc := 71) G dX5_compare_71 rfl rfl ?_
    refine ax_cS1 (pc := 72) (kb := 0) (nb := 0) G (ct_byPriority hA hp hs k o hk ho h0 h1 hn0 hn1 hw0 hw1) lSX5_35 dX5_compare_72 rfl (by decide) (Nat.le_of_ble_eq_true rfl) rfl ?_
    exact ax_iretE (pc := 75) G E rfl (rfl) dX5_compare_75 (by first | (simp only [cOr, cShr, c61, if_true, if_false, Bool.false_eq_true, not_false_eq_true, not_true_eq_false, decide_true, decide_false, Bool.and_true, Bool.true_and, Bool.and_false, Bool.false_and, Bool.or_true, Bool.true_or, Bool.or_false, Bool.false_or, and_self, and_true, true_and, and_false, false_and, or_true, true_or, or_false, false_or, ne_eq]; done) | (simp only [cOr, cShr, c61, if_true, if_false, Bool.false_eq_true, not_false_eq_true, not_true_eq_false, decide_true, decide_false, Bool.and_true, Bool.true_and, Bool.and_false, Bool.false_and, Bool.or_true, Bool.true_or, Bool.or_false, Bool.false_or, and_self, and_true, true_and, and_false, false_and, or_true, true_or, or_false, false_or, ne_eq]; rfl) | (simp only [cOr, cShr, if_pos c61, decide_eq_true c61, if_true, if_false, Bool.false_eq_true, not_false_eq_true, not_true_eq_false, decide_true, decide_false, Bool.and_true, Bool.true_and, Bool.and_false, Bool.false_and, Bool.or_true, Bool.true_or, Bool.or_false, Bool.false_or, and_self, and_true, true_and, and_false, false_and, or_true, true_or, or_false, false_or, ne_eq]; done) | (simp only [cOr, cShr, if_pos c61, decide_eq_true c61, if_true, if_false, Bool.false_eq_true, not_false_eq_true, not_true_eq_false, decide_true, decide_false, Bool.and_true, Bool.true_and, Bool.and_false, Bool.false_and, Bool.or_true, Bool.true_or, Bool.or_false, Bool.false_or, and_self, and_true, true_and, and_false, false_and, or_true, true_or, or_false, false_or, ne_eq]; rfl)) (by first | (simp only [cOr, cShr, c61, if_true, if_false, Bool.false_eq_true, not_false_eq_true, not_true_eq_false, decide_true, decide_false, Bool.and_true, Bool.true_and, Bool.and_false, Bool.false_and, Bool.or_true, Bool.true_or, Bool.or_false, Bool.false_or, and_self, and_true, true_and, and_false, false_and, or_true, true_or, or_false, false_or, ne_eq]; done) | (simp only [cOr, cShr, c61, if_true, if_false, Bool.false_eq_true, not_false_eq_true, not_true_eq_false, decide_true, decide_false, Bool.and_true, Bool.true_and, Bool.and_false, Bool.false_and, Bool.or_true, Bool.true_or, Bool.or_false, Bool.false_or, and_self, and_true, true_and, and_false, false_and, or_true, true_or, or_false, false_or, ne_eq]; rfl) | (simp only [cOr, cShr, if_pos c61, decide_eq_true c61, if_true, if_false, Bool.false_eq_true, not_false_eq_true, not_true_eq_false, decide_true, decide_false, Bool.and_true, Bool.true_and, Bool.and_false, Bool.false_and, Bool.or_true, Bool.true_or, Bool.or_false, Bool.false_or, and_self, and_true, true_and, and_false, false_and, or_true, true_or, or_false, false_or, ne_eq]; done) | (simp only [cOr, cShr, if_pos c61, decide_eq_true c61, if_true, if_false, Bool.false_eq_true, not_false_eq_true, not_true_eq_false, decide_true, decide_false, Bool.and_true, Bool.true_and, Bool.and_false, Bool.false_and, Bool.or_true, Bool.true_or, Bool.or_false, Bool.false_or, and_self, and_true, true_and, and_false, false_and, or_true, true_or, or_false, false_or, ne_eq]; rfl))
  · refine ax_iload (pc := 64) G dX5_compare_64 rfl ?_
    refine ax_goto (pc := 66) (tgt := 75) G dX5_compare_66 rfl ?_
    exact ax_iretE (pc := 75) G E rfl (rfl) dX5_compare_75 (by first | (simp only [cOr, cShr, c61, if_true, if_false, Bool.false_eq_true, not_false_eq_true, not_true_eq_false, decide_true, decide_false, Bool.and_true, Bool.true_and, Bool.and_false, Bool.false_and, Bool.or_true, Bool.true_or, Bool.or_false, Bool.false_or, and_self, and_true, true_and, and_false, false_and, or_true, true_or, or_false, false_or, ne_eq]; done) | (simp only [cOr, cShr, c61, if_true, if_false, Bool.false_eq_true, not_false_eq_true, not_true_eq_false, decide_true, decide_false, Bool.and_true, Bool.true_and, Bool.and_false, Bool.false_and, Bool.or_true, Bool.true_or, Bool.or_false, Bool.false_or, and_self, and_true, true_and, and_false, false_and, or_true, true_or, or_false, false_or, ne_eq]; rfl)) (by first | (simp only [cOr, cShr, c61, if_true, if_false, Bool.false_eq_true, not_false_eq_true, not_true_eq_false, decide_true, decide_false, Bool.and_true, Bool.true_and, Bool.and_false, Bool.false_and, Bool.or_true, Bool.true_or, Bool.or_false, Bool.false_or, and_self, and_true, true_and, and_false, false_and, or_true, true_or, or_false, false_or, ne_eq]; done) | (simp only [cOr, cShr, c61, if_true, if_false, Bool.false_eq_true, not_false_eq_true, not_true_eq_false, decide_true, decide_false, Bool.and_true, Bool.true_and, Bool.and_false, Bool.false_and, Bool.or_true, Bool.true_or, Bool.or_false, Bool.false_or, and_self, and_true, true_and, and_false, false_and, or_true, true_or, or_false, false_or, ne_eq]; rfl))

theorem ct_prefers_3 {Ω : ax_O} (hA : ax_Amb Ω) {h : ax_H} {a w0 w1 : Nat} {pl s : pR} {π : Nat → cP} {sc : Value} {rl : Nat} {N V O A : Nat} {n0 n1 : Nat → Int32} (hp : pWP pl N V O) (hs : pWS s A) (k o : Nat) (hk : k < 20) (ho : o < 20) (h0 : π 0 = (.ref w0, n0)) (h1 : π 1 = (.ref w1, n1)) (hn0 : n0 1 = nI k) (hn1 : n1 1 = nI o) (hw0 : ∀ σ, cWk (sH h a σ) w0 pl s k) (hw1 : ∀ σ, cWk (sH h a σ) w1 pl s o) {u : Nat} (hu : ∀ σ, (sH h a σ).1 u = some (.inr (3, []))) (hko : o < k) : ax_Met Ω yX3_prefers 5 0 0 [.ref u, .ref a, .ref (a + 16), .ref (a + 17)] (sH h a (s, π, sc, rl)) (.inl (some (.int (bI (decide (cOr (cShr s (pQ pl s k) (pQ pl s o)) (cPri s k o) < 0)))))) (sH h a (s, π, sc, rl)) := by
  refine ax_met q1887 q115 (by decide +kernel) (by decide) hA (Nat.le_of_ble_eq_true rfl) (fun Γ G E => ?_)
  show ax_W Ω Γ 0 0 (sH h a (s, π, sc, rl)) 0 [some (.ref u), some (.ref a), some (.ref (a + 16)), some (.ref (a + 17)), none] []
  refine ax_aload_n (pc := 0) G dX3_prefers_0 rfl rfl ?_
  refine ax_aload_n (pc := 1) G dX3_prefers_1 rfl rfl ?_
  refine ax_aload_n (pc := 2) G dX3_prefers_2 rfl rfl ?_
  refine ax_aload_n (pc := 3) G dX3_prefers_3 rfl rfl ?_
  refine ax_cJ1 (pc := 4) (kb := 0) (nb := 0) G (ct_compare_3 hA hp hs k o hk ho h0 h1 hn0 hn1 hw0 hw1) lJX3_19_3 dX3_prefers_4 (hu _) rfl (by decide) (Nat.le_of_ble_eq_true rfl) rfl ?_
  refine ax_istore (pc := 9) G dX3_prefers_9 (Nat.le_of_ble_eq_true rfl) rfl ?_
  refine ax_iload (pc := 11) G dX3_prefers_11 rfl ?_
  refine ax_if_lt (pc := 13) (tgt := 32) G dX3_prefers_13 rfl (fun c13 => ?_) (fun c13 => ?_)
  · refine ax_iconst (pc := 32) (v := nI 1) G dX3_prefers_32 ic_1 ?_
    refine ax_goto (pc := 33) (tgt := 37) G dX3_prefers_33 rfl ?_
    exact ax_iretE (pc := 37) G E rfl (rfl) dX3_prefers_37 (congrArg bI (decide_eq_true c13).symm) (rfl)
  · refine ax_iload (pc := 16) G dX3_prefers_16 rfl ?_
    refine ax_if_ne (pc := 18) (tgt := 36) G dX3_prefers_18 rfl (fun c18 => ?_) (fun c18 => ?_)
    · refine ax_iconst (pc := 36) (v := nI 0) G dX3_prefers_36 ic_0 ?_
      exact ax_iretE (pc := 37) G E rfl (rfl) dX3_prefers_37 (congrArg bI (decide_eq_false c13).symm) (rfl)
    · refine ax_aload_n (pc := 21) G dX3_prefers_21 rfl rfl ?_
      refine ax_getf (pc := 22) (v := .int (n0 1)) G flX3_7_6 dX3_prefers_22 (sH_pe (k := 16) (by decide) (by decide) h0) rfl ?_
      refine ax_top (show Value.int (n0 1) = .int (nI k) from congrArg Value.int (hn0)) ?_
      refine ax_aload_n (pc := 25) G dX3_prefers_25 rfl rfl ?_
      refine ax_getf (pc := 26) (v := .int (n1 1)) G flX3_7_6 dX3_prefers_26 (sH_pe (k := 17) (by decide) (by decide) h1) rfl ?_
      refine ax_top (show Value.int (n1 1) = .int (nI o) from congrArg Value.int (hn1)) ?_
      refine ax_icmp_geN (pc := 29) (tgt := 36) G dX3_prefers_29 rfl (by omega) (by omega) (fun c29 => ?_) (fun c29 => ?_)
      · refine ax_iconst (pc := 36) (v := nI 0) G dX3_prefers_36 ic_0 ?_
        exact ax_iretE (pc := 37) G E rfl (rfl) dX3_prefers_37 (congrArg bI (decide_eq_false c13).symm) (rfl)
      · omega

theorem ct_compare_4 {Ω : ax_O} (hA : ax_Amb Ω) {h : ax_H} {a w0 w1 : Nat} {pl s : pR} {π : Nat → cP} {sc : Value} {rl : Nat} {N V O A : Nat} {n0 n1 : Nat → Int32} (hp : pWP pl N V O) (hs : pWS s A) (k o : Nat) (hk : k < 20) (ho : o < 20) (h0 : π 0 = (.ref w0, n0)) (h1 : π 1 = (.ref w1, n1)) (hn0 : n0 1 = nI k) (hn1 : n1 1 = nI o) (hw0 : ∀ σ, cWk (sH h a σ) w0 pl s k) (hw1 : ∀ σ, cWk (sH h a σ) w1 pl s o) {u : Nat} : ax_Met Ω yX6_compare 4 0 0 [.ref u, .ref a, .ref (a + 16), .ref (a + 17)] (sH h a (s, π, sc, rl)) (.inl (some (.int (cOr (cCmp (pTo pl s k) (pTo pl s o)) (cPri s k o))))) (sH h a (s, π, sc, rl)) := by
  refine ax_met q1896 q118 (by decide +kernel) (by decide) hA (Nat.le_of_ble_eq_true rfl) (fun Γ G E => ?_)
  show ax_W Ω Γ 0 0 (sH h a (s, π, sc, rl)) 0 [some (.ref u), some (.ref a), some (.ref (a + 16)), some (.ref (a + 17)), none] []
  refine ax_aload_n (pc := 0) G dX6_compare_0 rfl rfl ?_
  refine ax_getf (pc := 1) (v := .ref w0) G flX6_7_6 dX6_compare_1 (sH_pe (k := 16) (by decide) (by decide) h0) rfl ?_
  refine wk_to (pc := 4) G (hw0 _) lJX6_13_13 lJX6_13_14 dX6_compare_4 (by decide) (Nat.le_of_ble_eq_true rfl) ?_
  refine ax_aload_n (pc := 9) G dX6_compare_9 rfl rfl ?_
  refine ax_getf (pc := 10) (v := .ref w1) G flX6_7_6 dX6_compare_10 (sH_pe (k := 17) (by decide) (by decide) h1) rfl ?_
  refine wk_to (pc := 13) G (hw1 _) lJX6_13_13 lJX6_13_14 dX6_compare_13 (by decide) (Nat.le_of_ble_eq_true rfl) ?_
  refine ax_cS1 (pc := 18) (kb := 0) (nb := 0) G (ct_cmp hA (pTo pl s k) (pTo pl s o)) lSX6_19 dX6_compare_18 rfl (by decide) (Nat.le_of_ble_eq_true rfl) rfl ?_
  refine ax_istore (pc := 21) G dX6_compare_21 (Nat.le_of_ble_eq_true rfl) rfl ?_
  refine ax_iload (pc := 23) G dX6_compare_23 rfl ?_
  refine ax_if_eq (pc := 25) (tgt := 33) G dX6_compare_25 rfl (fun c25 => ?_) (fun c25 => ?_)
  · refine ax_aload_n (pc := 33) G dX6_compare_33 rfl rfl ?_
    refine ax_aload_n (pc := 34) G dX6_compare_34 rfl rfl ?_
    refine ax_aload_n (pc := 35) G dX6_compare_35 rfl rfl ?_
    refine ax_cS1 (pc := 36) (kb := 0) (nb := 0) G (ct_byPriority hA hp hs k o hk ho h0 h1 hn0 hn1 hw0 hw1) lSX6_25 dX6_compare_36 rfl (by decide) (Nat.le_of_ble_eq_true rfl) rfl ?_
    exact ax_iretE (pc := 39) G E rfl (rfl) dX6_compare_39 (by first | (simp only [cOr, cShr, c25, if_true, if_false, Bool.false_eq_true, not_false_eq_true, not_true_eq_false, decide_true, decide_false, Bool.and_true, Bool.true_and, Bool.and_false, Bool.false_and, Bool.or_true, Bool.true_or, Bool.or_false, Bool.false_or, and_self, and_true, true_and, and_false, false_and, or_true, true_or, or_false, false_or, ne_eq]; done) | (simp only [cOr, cShr, c25, if_true, if_false, Bool.false_eq_true, not_false_eq_true, not_true_eq_false, decide_true, decide_false, Bool.and_true, Bool.true_and, Bool.and_false, Bool.false_and, Bool.or_true, Bool.true_or, Bool.or_false, Bool.false_or, and_self, and_true, true_and, and_false, false_and, or_true, true_or, or_false, false_or, ne_eq]; rfl) | (simp only [cOr, cShr, if_pos c25, decide_eq_true c25, if_true, if_false, Bool.false_eq_true, not_false_eq_true, not_true_eq_false, decide_true, decide_false, Bool.and_true, Bool.true_and, Bool.and_false, Bool.false_and, Bool.or_true, Bool.true_or, Bool.or_false, Bool.false_or, and_self, and_true, true_and, and_false, false_and, or_true, true_or, or_false, false_or, ne_eq]; done) | (simp only [cOr, cShr, if_pos c25, decide_eq_true c25, if_true, if_false, Bool.false_eq_true, not_false_eq_true, not_true_eq_false, decide_true, decide_false, Bool.and_true, Bool.true_and, Bool.and_false, Bool.false_and, Bool.or_true, Bool.true_or, Bool.or_false, Bool.false_or, and_self, and_true, true_and, and_false, false_and, or_true, true_or, or_false, false_or, ne_eq]; rfl)) (by first | (simp only [cOr, cShr, c25, if_true, if_false, Bool.false_eq_true, not_false_eq_true, not_true_eq_false, decide_true, decide_false, Bool.and_true, Bool.true_and, Bool.and_false, Bool.false_and, Bool.or_true, Bool.true_or, Bool.or_false, Bool.false_or, and_self, and_true, true_and, and_false, false_and, or_true, true_or, or_false, false_or, ne_eq]; done) | (simp only [cOr, cShr, c25, if_true, if_false, Bool.false_eq_true, not_false_eq_true, not_true_eq_false, decide_true, decide_false, Bool.and_true, Bool.true_and, Bool.and_false, Bool.false_and, Bool.or_true, Bool.true_or, Bool.or_false, Bool.false_or, and_self, and_true, true_and, and_false, false_and, or_true, true_or, or_false, false_or, ne_eq]; rfl) | (simp only [cOr, cShr, if_pos c25, decide_eq_true c25, if_true, if_false, Bool.false_eq_true, not_false_eq_true, not_true_eq_false, decide_true, decide_false, Bool.and_true, Bool.true_and, Bool.and_false, Bool.false_and, Bool.or_true, Bool.true_or, Bool.or_false, Bool.false_or, and_self, and_true, true_and, and_false, false_and, or_true, true_or, or_false, false_or, ne_eq]; done) | (simp only [cOr, cShr, if_pos c25, decide_eq_true c25, if_true, if_false, Bool.false_eq_true, not_false_eq_true, not_true_eq_false, decide_true, decide_false, Bool.and_true, Bool.true_and, Bool.and_false, Bool.false_and, Bool.or_true, Bool.true_or, Bool.or_false, Bool.false_or, and_self, and_true, true_and, and_false, false_and, or_true, true_or, or_false, false_or, ne_eq]; rfl))
  · refine ax_iload (pc := 28) G dX6_compare_28 rfl ?_
    refine ax_goto (pc := 30) (tgt := 39) G dX6_compare_30 rfl ?_
    exact ax_iretE (pc := 39) G E rfl (rfl) dX6_compare_39 (by first | (simp only [cOr, cShr, c25, if_true, if_false, Bool.false_eq_true, not_false_eq_true, not_true_eq_false, decide_true, decide_false, Bool.and_true, Bool.true_and, Bool.and_false, Bool.false_and, Bool.or_true, Bool.true_or, Bool.or_false, Bool.false_or, and_self, and_true, true_and, and_false, false_and, or_true, true_or, or_false, false_or, ne_eq]; done) | (simp only [cOr, cShr, c25, if_true, if_false, Bool.false_eq_true, not_false_eq_true, not_true_eq_false, decide_true, decide_false, Bool.and_true, Bool.true_and, Bool.and_false, Bool.false_and, Bool.or_true, Bool.true_or, Bool.or_false, Bool.false_or, and_self, and_true, true_and, and_false, false_and, or_true, true_or, or_false, false_or, ne_eq]; rfl)) (by first | (simp only [cOr, cShr, c25, if_true, if_false, Bool.false_eq_true, not_false_eq_true, not_true_eq_false, decide_true, decide_false, Bool.and_true, Bool.true_and, Bool.and_false, Bool.false_and, Bool.or_true, Bool.true_or, Bool.or_false, Bool.false_or, and_self, and_true, true_and, and_false, false_and, or_true, true_or, or_false, false_or, ne_eq]; done) | (simp only [cOr, cShr, c25, if_true, if_false, Bool.false_eq_true, not_false_eq_true, not_true_eq_false, decide_true, decide_false, Bool.and_true, Bool.true_and, Bool.and_false, Bool.false_and, Bool.or_true, Bool.true_or, Bool.or_false, Bool.false_or, and_self, and_true, true_and, and_false, false_and, or_true, true_or, or_false, false_or, ne_eq]; rfl))

theorem ct_prefers_4 {Ω : ax_O} (hA : ax_Amb Ω) {h : ax_H} {a w0 w1 : Nat} {pl s : pR} {π : Nat → cP} {sc : Value} {rl : Nat} {N V O A : Nat} {n0 n1 : Nat → Int32} (hp : pWP pl N V O) (hs : pWS s A) (k o : Nat) (hk : k < 20) (ho : o < 20) (h0 : π 0 = (.ref w0, n0)) (h1 : π 1 = (.ref w1, n1)) (hn0 : n0 1 = nI k) (hn1 : n1 1 = nI o) (hw0 : ∀ σ, cWk (sH h a σ) w0 pl s k) (hw1 : ∀ σ, cWk (sH h a σ) w1 pl s o) {u : Nat} (hu : ∀ σ, (sH h a σ).1 u = some (.inr (4, []))) (hko : o < k) : ax_Met Ω yX3_prefers 5 0 0 [.ref u, .ref a, .ref (a + 16), .ref (a + 17)] (sH h a (s, π, sc, rl)) (.inl (some (.int (bI (decide (cOr (cCmp (pTo pl s k) (pTo pl s o)) (cPri s k o) < 0)))))) (sH h a (s, π, sc, rl)) := by
  refine ax_met q1887 q115 (by decide +kernel) (by decide) hA (Nat.le_of_ble_eq_true rfl) (fun Γ G E => ?_)
  show ax_W Ω Γ 0 0 (sH h a (s, π, sc, rl)) 0 [some (.ref u), some (.ref a), some (.ref (a + 16)), some (.ref (a + 17)), none] []
  refine ax_aload_n (pc := 0) G dX3_prefers_0 rfl rfl ?_
  refine ax_aload_n (pc := 1) G dX3_prefers_1 rfl rfl ?_
  refine ax_aload_n (pc := 2) G dX3_prefers_2 rfl rfl ?_
  refine ax_aload_n (pc := 3) G dX3_prefers_3 rfl rfl ?_
  refine ax_cJ1 (pc := 4) (kb := 0) (nb := 0) G (ct_compare_4 hA hp hs k o hk ho h0 h1 hn0 hn1 hw0 hw1) lJX3_19_4 dX3_prefers_4 (hu _) rfl (by decide) (Nat.le_of_ble_eq_true rfl) rfl ?_
  refine ax_istore (pc := 9) G dX3_prefers_9 (Nat.le_of_ble_eq_true rfl) rfl ?_
  refine ax_iload (pc := 11) G dX3_prefers_11 rfl ?_
  refine ax_if_lt (pc := 13) (tgt := 32) G dX3_prefers_13 rfl (fun c13 => ?_) (fun c13 => ?_)
  · refine ax_iconst (pc := 32) (v := nI 1) G dX3_prefers_32 ic_1 ?_
    refine ax_goto (pc := 33) (tgt := 37) G dX3_prefers_33 rfl ?_
    exact ax_iretE (pc := 37) G E rfl (rfl) dX3_prefers_37 (congrArg bI (decide_eq_true c13).symm) (rfl)
  · refine ax_iload (pc := 16) G dX3_prefers_16 rfl ?_
    refine ax_if_ne (pc := 18) (tgt := 36) G dX3_prefers_18 rfl (fun c18 => ?_) (fun c18 => ?_)
    · refine ax_iconst (pc := 36) (v := nI 0) G dX3_prefers_36 ic_0 ?_
      exact ax_iretE (pc := 37) G E rfl (rfl) dX3_prefers_37 (congrArg bI (decide_eq_false c13).symm) (rfl)
    · refine ax_aload_n (pc := 21) G dX3_prefers_21 rfl rfl ?_
      refine ax_getf (pc := 22) (v := .int (n0 1)) G flX3_7_6 dX3_prefers_22 (sH_pe (k := 16) (by decide) (by decide) h0) rfl ?_
      refine ax_top (show Value.int (n0 1) = .int (nI k) from congrArg Value.int (hn0)) ?_
      refine ax_aload_n (pc := 25) G dX3_prefers_25 rfl rfl ?_
      refine ax_getf (pc := 26) (v := .int (n1 1)) G flX3_7_6 dX3_prefers_26 (sH_pe (k := 17) (by decide) (by decide) h1) rfl ?_
      refine ax_top (show Value.int (n1 1) = .int (nI o) from congrArg Value.int (hn1)) ?_
      refine ax_icmp_geN (pc := 29) (tgt := 36) G dX3_prefers_29 rfl (by omega) (by omega) (fun c29 => ?_) (fun c29 => ?_)
      · refine ax_iconst (pc := 36) (v := nI 0) G dX3_prefers_36 ic_0 ?_
        exact ax_iretE (pc := 37) G E rfl (rfl) dX3_prefers_37 (congrArg bI (decide_eq_false c13).symm) (rfl)
      · omega

theorem ct_compare_5 {Ω : ax_O} (hA : ax_Amb Ω) {h : ax_H} {a w0 w1 : Nat} {pl s : pR} {π : Nat → cP} {sc : Value} {rl : Nat} {N V O A : Nat} {n0 n1 : Nat → Int32} (hp : pWP pl N V O) (hs : pWS s A) (k o : Nat) (hk : k < 20) (ho : o < 20) (h0 : π 0 = (.ref w0, n0)) (h1 : π 1 = (.ref w1, n1)) (hn0 : n0 1 = nI k) (hn1 : n1 1 = nI o) (hw0 : ∀ σ, cWk (sH h a σ) w0 pl s k) (hw1 : ∀ σ, cWk (sH h a σ) w1 pl s o) {u : Nat} : ax_Met Ω yX7_compare 4 0 0 [.ref u, .ref a, .ref (a + 16), .ref (a + 17)] (sH h a (s, π, sc, rl)) (.inl (some (.int (cOr (cCmp (n0 4) (n1 4)) (cPri s k o))))) (sH h a (s, π, sc, rl)) := by
  refine ax_met q1936 q119 (by decide +kernel) (by decide) hA (Nat.le_of_ble_eq_true rfl) (fun Γ G E => ?_)
  show ax_W Ω Γ 0 0 (sH h a (s, π, sc, rl)) 0 [some (.ref u), some (.ref a), some (.ref (a + 16)), some (.ref (a + 17)), none] []
  refine ax_aload_n (pc := 0) G dX7_compare_0 rfl rfl ?_
  refine ax_getf (pc := 1) (v := .int (n0 4)) G flX7_7_6 dX7_compare_1 (sH_pe (k := 16) (by decide) (by decide) h0) rfl ?_
  refine ax_aload_n (pc := 4) G dX7_compare_4 rfl rfl ?_
  refine ax_getf (pc := 5) (v := .int (n1 4)) G flX7_7_6 dX7_compare_5 (sH_pe (k := 17) (by decide) (by decide) h1) rfl ?_
  refine ax_cS1 (pc := 8) (kb := 0) (nb := 0) G (ct_cmp hA (n0 4) (n1 4)) lSX7_13 dX7_compare_8 rfl (by decide) (Nat.le_of_ble_eq_true rfl) rfl ?_
  refine ax_istore (pc := 11) G dX7_compare_11 (Nat.le_of_ble_eq_true rfl) rfl ?_
  refine ax_iload (pc := 13) G dX7_compare_13 rfl ?_
  refine ax_if_eq (pc := 15) (tgt := 23) G dX7_compare_15 rfl (fun c15 => ?_) (fun c15 => ?_)
  · refine ax_aload_n (pc := 23) G dX7_compare_23 rfl rfl ?_
    refine ax_aload_n (pc := 24) G dX7_compare_24 rfl rfl ?_
    refine ax_aload_n (pc := 25) G dX7_compare_25 rfl rfl ?_
    refine ax_cS1 (pc := 26) (kb := 0) (nb := 0) G (ct_byPriority hA hp hs k o hk ho h0 h1 hn0 hn1 hw0 hw1) lSX7_19 dX7_compare_26 rfl (by decide) (Nat.le_of_ble_eq_true rfl) rfl ?_
    exact ax_iretE (pc := 29) G E rfl (rfl) dX7_compare_29 (by first | (simp only [cOr, cShr, c15, if_true, if_false, Bool.false_eq_true, not_false_eq_true, not_true_eq_false, decide_true, decide_false, Bool.and_true, Bool.true_and, Bool.and_false, Bool.false_and, Bool.or_true, Bool.true_or, Bool.or_false, Bool.false_or, and_self, and_true, true_and, and_false, false_and, or_true, true_or, or_false, false_or, ne_eq]; done) | (simp only [cOr, cShr, c15, if_true, if_false, Bool.false_eq_true, not_false_eq_true, not_true_eq_false, decide_true, decide_false, Bool.and_true, Bool.true_and, Bool.and_false, Bool.false_and, Bool.or_true, Bool.true_or, Bool.or_false, Bool.false_or, and_self, and_true, true_and, and_false, false_and, or_true, true_or, or_false, false_or, ne_eq]; rfl) | (simp only [cOr, cShr, if_pos c15, decide_eq_true c15, if_true, if_false, Bool.false_eq_true, not_false_eq_true, not_true_eq_false, decide_true, decide_false, Bool.and_true, Bool.true_and, Bool.and_false, Bool.false_and, Bool.or_true, Bool.true_or, Bool.or_false, Bool.false_or, and_self, and_true, true_and, and_false, false_and, or_true, true_or, or_false, false_or, ne_eq]; done) | (simp only [cOr, cShr, if_pos c15, decide_eq_true c15, if_true, if_false, Bool.false_eq_true, not_false_eq_true, not_true_eq_false, decide_true, decide_false, Bool.and_true, Bool.true_and, Bool.and_false, Bool.false_and, Bool.or_true, Bool.true_or, Bool.or_false, Bool.false_or, and_self, and_true, true_and, and_false, false_and, or_true, true_or, or_false, false_or, ne_eq]; rfl)) (by first | (simp only [cOr, cShr, c15, if_true, if_false, Bool.false_eq_true, not_false_eq_true, not_true_eq_false, decide_true, decide_false, Bool.and_true, Bool.true_and, Bool.and_false, Bool.false_and, Bool.or_true, Bool.true_or, Bool.or_false, Bool.false_or, and_self, and_true, true_and, and_false, false_and, or_true, true_or, or_false, false_or, ne_eq]; done) | (simp only [cOr, cShr, c15, if_true, if_false, Bool.false_eq_true, not_false_eq_true, not_true_eq_false, decide_true, decide_false, Bool.and_true, Bool.true_and, Bool.and_false, Bool.false_and, Bool.or_true, Bool.true_or, Bool.or_false, Bool.false_or, and_self, and_true, true_and, and_false, false_and, or_true, true_or, or_false, false_or, ne_eq]; rfl) | (simp only [cOr, cShr, if_pos c15, decide_eq_true c15, if_true, if_false, Bool.false_eq_true, not_false_eq_true, not_true_eq_false, decide_true, decide_false, Bool.and_true, Bool.true_and, Bool.and_false, Bool.false_and, Bool.or_true, Bool.true_or, Bool.or_false, Bool.false_or, and_self, and_true, true_and, and_false, false_and, or_true, true_or, or_false, false_or, ne_eq]; done) | (simp only [cOr, cShr, if_pos c15, decide_eq_true c15, if_true, if_false, Bool.false_eq_true, not_false_eq_true, not_true_eq_false, decide_true, decide_false, Bool.and_true, Bool.true_and, Bool.and_false, Bool.false_and, Bool.or_true, Bool.true_or, Bool.or_false, Bool.false_or, and_self, and_true, true_and, and_false, false_and, or_true, true_or, or_false, false_or, ne_eq]; rfl))
  · refine ax_iload (pc := 18) G dX7_compare_18 rfl ?_
    refine ax_goto (pc := 20) (tgt := 29) G dX7_compare_20 rfl ?_
    exact ax_iretE (pc := 29) G E rfl (rfl) dX7_compare_29 (by first | (simp only [cOr, cShr, c15, if_true, if_false, Bool.false_eq_true, not_false_eq_true, not_true_eq_false, decide_true, decide_false, Bool.and_true, Bool.true_and, Bool.and_false, Bool.false_and, Bool.or_true, Bool.true_or, Bool.or_false, Bool.false_or, and_self, and_true, true_and, and_false, false_and, or_true, true_or, or_false, false_or, ne_eq]; done) | (simp only [cOr, cShr, c15, if_true, if_false, Bool.false_eq_true, not_false_eq_true, not_true_eq_false, decide_true, decide_false, Bool.and_true, Bool.true_and, Bool.and_false, Bool.false_and, Bool.or_true, Bool.true_or, Bool.or_false, Bool.false_or, and_self, and_true, true_and, and_false, false_and, or_true, true_or, or_false, false_or, ne_eq]; rfl)) (by first | (simp only [cOr, cShr, c15, if_true, if_false, Bool.false_eq_true, not_false_eq_true, not_true_eq_false, decide_true, decide_false, Bool.and_true, Bool.true_and, Bool.and_false, Bool.false_and, Bool.or_true, Bool.true_or, Bool.or_false, Bool.false_or, and_self, and_true, true_and, and_false, false_and, or_true, true_or, or_false, false_or, ne_eq]; done) | (simp only [cOr, cShr, c15, if_true, if_false, Bool.false_eq_true, not_false_eq_true, not_true_eq_false, decide_true, decide_false, Bool.and_true, Bool.true_and, Bool.and_false, Bool.false_and, Bool.or_true, Bool.true_or, Bool.or_false, Bool.false_or, and_self, and_true, true_and, and_false, false_and, or_true, true_or, or_false, false_or, ne_eq]; rfl))

theorem ct_prefers_5 {Ω : ax_O} (hA : ax_Amb Ω) {h : ax_H} {a w0 w1 : Nat} {pl s : pR} {π : Nat → cP} {sc : Value} {rl : Nat} {N V O A : Nat} {n0 n1 : Nat → Int32} (hp : pWP pl N V O) (hs : pWS s A) (k o : Nat) (hk : k < 20) (ho : o < 20) (h0 : π 0 = (.ref w0, n0)) (h1 : π 1 = (.ref w1, n1)) (hn0 : n0 1 = nI k) (hn1 : n1 1 = nI o) (hw0 : ∀ σ, cWk (sH h a σ) w0 pl s k) (hw1 : ∀ σ, cWk (sH h a σ) w1 pl s o) {u : Nat} (hu : ∀ σ, (sH h a σ).1 u = some (.inr (5, []))) (hko : o < k) : ax_Met Ω yX3_prefers 5 0 0 [.ref u, .ref a, .ref (a + 16), .ref (a + 17)] (sH h a (s, π, sc, rl)) (.inl (some (.int (bI (decide (cOr (cCmp (n0 4) (n1 4)) (cPri s k o) < 0)))))) (sH h a (s, π, sc, rl)) := by
  refine ax_met q1887 q115 (by decide +kernel) (by decide) hA (Nat.le_of_ble_eq_true rfl) (fun Γ G E => ?_)
  show ax_W Ω Γ 0 0 (sH h a (s, π, sc, rl)) 0 [some (.ref u), some (.ref a), some (.ref (a + 16)), some (.ref (a + 17)), none] []
  refine ax_aload_n (pc := 0) G dX3_prefers_0 rfl rfl ?_
  refine ax_aload_n (pc := 1) G dX3_prefers_1 rfl rfl ?_
  refine ax_aload_n (pc := 2) G dX3_prefers_2 rfl rfl ?_
  refine ax_aload_n (pc := 3) G dX3_prefers_3 rfl rfl ?_
  refine ax_cJ1 (pc := 4) (kb := 0) (nb := 0) G (ct_compare_5 hA hp hs k o hk ho h0 h1 hn0 hn1 hw0 hw1) lJX3_19_5 dX3_prefers_4 (hu _) rfl (by decide) (Nat.le_of_ble_eq_true rfl) rfl ?_
  refine ax_istore (pc := 9) G dX3_prefers_9 (Nat.le_of_ble_eq_true rfl) rfl ?_
  refine ax_iload (pc := 11) G dX3_prefers_11 rfl ?_
  refine ax_if_lt (pc := 13) (tgt := 32) G dX3_prefers_13 rfl (fun c13 => ?_) (fun c13 => ?_)
  · refine ax_iconst (pc := 32) (v := nI 1) G dX3_prefers_32 ic_1 ?_
    refine ax_goto (pc := 33) (tgt := 37) G dX3_prefers_33 rfl ?_
    exact ax_iretE (pc := 37) G E rfl (rfl) dX3_prefers_37 (congrArg bI (decide_eq_true c13).symm) (rfl)
  · refine ax_iload (pc := 16) G dX3_prefers_16 rfl ?_
    refine ax_if_ne (pc := 18) (tgt := 36) G dX3_prefers_18 rfl (fun c18 => ?_) (fun c18 => ?_)
    · refine ax_iconst (pc := 36) (v := nI 0) G dX3_prefers_36 ic_0 ?_
      exact ax_iretE (pc := 37) G E rfl (rfl) dX3_prefers_37 (congrArg bI (decide_eq_false c13).symm) (rfl)
    · refine ax_aload_n (pc := 21) G dX3_prefers_21 rfl rfl ?_
      refine ax_getf (pc := 22) (v := .int (n0 1)) G flX3_7_6 dX3_prefers_22 (sH_pe (k := 16) (by decide) (by decide) h0) rfl ?_
      refine ax_top (show Value.int (n0 1) = .int (nI k) from congrArg Value.int (hn0)) ?_
      refine ax_aload_n (pc := 25) G dX3_prefers_25 rfl rfl ?_
      refine ax_getf (pc := 26) (v := .int (n1 1)) G flX3_7_6 dX3_prefers_26 (sH_pe (k := 17) (by decide) (by decide) h1) rfl ?_
      refine ax_top (show Value.int (n1 1) = .int (nI o) from congrArg Value.int (hn1)) ?_
      refine ax_icmp_geN (pc := 29) (tgt := 36) G dX3_prefers_29 rfl (by omega) (by omega) (fun c29 => ?_) (fun c29 => ?_)
      · refine ax_iconst (pc := 36) (v := nI 0) G dX3_prefers_36 ic_0 ?_
        exact ax_iretE (pc := 37) G E rfl (rfl) dX3_prefers_37 (congrArg bI (decide_eq_false c13).symm) (rfl)
      · omega

