/-! THE MODEL: steps -/
theorem mt_logs {Ω : ax_O} (hA : ax_Amb Ω) {h : ax_H} {m : Nat} {μ : md_S} {s : pR} {j : Nat} (hm : Ω.2.1.heap.size ≤ m) (hj : j = 4 ∨ j = 6) {N : Nat} (hN : s 16 = nI N) (hl : N ≤ 100) (k v b : Int32) : ax_Met Ω yX10_logs 1 0 0 [.ref (m + j), .int k, .int v, .int b] (md_H h m (md_sa μ j s)) (.inl none) (md_H h m (md_sa μ j (pLogs s k v b))) := by
  refine ax_met q3075 q142 (by decide +kernel) (by decide) hA (Nat.le_of_ble_eq_true rfl) (fun Γ G E => ?_)
  show ax_W Ω Γ 0 0 (md_H h m (md_sa μ j s)) 0 [some (.ref (m + j)), some (.int k), some (.int v), some (.int b), none] []
  refine ax_aload_n (pc := 0) G dX10_logs_0 rfl rfl ?_
  refine ax_bipush (pc := 1) (v := nI 16) G dX10_logs_1 ib_16 ?_
  refine md_lds (pc := 3) (i := 16) G hj dX10_logs_3 rfl (by omega) ?_
  refine ax_top (show Value.int (s 16) = .int (nI N) from congrArg Value.int hN) ?_
  refine ax_bipush (pc := 4) (v := nI 100) G dX10_logs_4 ib_100 ?_
  refine ax_icmp_neN (pc := 6) (tgt := 10) G dX10_logs_6 rfl (by omega) (by omega) (fun c6 => ?_) (fun c6 => ?_)
  · refine ax_sipush (pc := 10) (v := nI 227) G dX10_logs_10 is_227 ?_
    refine ax_iconst (pc := 13) (v := nI 4) G dX10_logs_13 ic_4 ?_
    refine ax_aload_n (pc := 14) G dX10_logs_14 rfl rfl ?_
    refine ax_bipush (pc := 15) (v := nI 16) G dX10_logs_15 ib_16 ?_
    refine md_lds (pc := 17) (i := 16) G hj dX10_logs_17 rfl (by omega) ?_
    refine ax_top (show Value.int (s 16) = .int (nI N) from congrArg Value.int hN) ?_
    refine ax_imulN (pc := 18) G dX10_logs_18 ?_
    refine ax_iaddN (pc := 19) G dX10_logs_19 ?_
    refine ax_istore (pc := 20) G dX10_logs_20 (Nat.le_of_ble_eq_true rfl) rfl ?_
    refine ax_aload_n (pc := 22) G dX10_logs_22 rfl rfl ?_
    refine ax_iload (pc := 23) G dX10_logs_23 rfl ?_
    refine ax_iload_n (pc := 25) G dX10_logs_25 rfl rfl ?_
    refine md_sts (pc := 26) (i := 227 + (4 * N)) G hj hm dX10_logs_26 rfl (by omega) ?_
    refine ax_aload_n (pc := 27) G dX10_logs_27 rfl rfl ?_
    refine ax_iload (pc := 28) G dX10_logs_28 rfl ?_
    refine ax_iconst (pc := 30) (v := nI 1) G dX10_logs_30 ic_1 ?_
    refine ax_iaddN (pc := 31) G dX10_logs_31 ?_
    refine ax_iload_n (pc := 32) G dX10_logs_32 rfl rfl ?_
    refine md_sts (pc := 33) (i := 227 + (4 * N) + 1) G hj hm dX10_logs_33 rfl (by omega) ?_
    refine ax_aload_n (pc := 34) G dX10_logs_34 rfl rfl ?_
    refine ax_iload (pc := 35) G dX10_logs_35 rfl ?_
    refine ax_iconst (pc := 37) (v := nI 2) G dX10_logs_37 ic_2 ?_
    refine ax_iaddN (pc := 38) G dX10_logs_38 ?_
    refine ax_iload_n (pc := 39) G dX10_logs_39 rfl rfl ?_
    refine md_sts (pc := 40) (i := 227 + (4 * N) + 2) G hj hm dX10_logs_40 rfl (by omega) ?_
    show ax_W Ω Γ _ _ (md_H h m (md_sa μ j (pLogA s N k v b))) _ _ _
    refine ax_aload_n (pc := 41) G dX10_logs_41 rfl rfl ?_
    refine ax_iload (pc := 42) G dX10_logs_42 rfl ?_
    refine ax_iconst (pc := 44) (v := nI 3) G dX10_logs_44 ic_3 ?_
    refine ax_iaddN (pc := 45) G dX10_logs_45 ?_
    refine ax_aload_n (pc := 46) G dX10_logs_46 rfl rfl ?_
    refine ax_iconst (pc := 47) (v := nI 0) G dX10_logs_47 ic_0 ?_
    refine md_lds (pc := 48) (i := 0) G hj dX10_logs_48 rfl (by omega) ?_
    refine md_sts (pc := 49) (i := 227 + (4 * N) + 3) G hj hm dX10_logs_49 rfl (by omega) ?_
    refine ax_aload_n (pc := 50) G dX10_logs_50 rfl rfl ?_
    refine ax_bipush (pc := 51) (v := nI 16) G dX10_logs_51 ib_16 ?_
    refine ax_dup2_11 (pc := 53) G dX10_logs_53 rfl rfl ?_
    refine md_lds (pc := 54) (i := 16) G hj dX10_logs_54 rfl (by omega) ?_
    refine ax_iconst (pc := 55) (v := nI 1) G dX10_logs_55 ic_1 ?_
    refine ax_iadd (pc := 56) G dX10_logs_56 ?_
    refine md_sts (pc := 57) (i := 16) G hj hm dX10_logs_57 rfl (by omega) ?_
    show ax_W Ω Γ _ _ (md_H h m (md_sa μ j (pAdd (upd (pLogA s N k v b) (227 + (4 * N) + 3) ((pLogA s N k v b) 0)) 16 (nI 1)))) _ _ _
    exact ax_vretE (pc := 58) G E rfl dX10_logs_58 (by
  have h9 : ¬ s 16 = 100 := fun z => c6 ((nI_eq (by omega) (by omega)).mp (hN.symm.trans z))
  rw [pLogs, if_neg h9, hN, pN_nI (by omega)]; rfl)
  · exact ax_vretE (pc := 9) G E rfl dX10_logs_9 (by rw [pLogs, if_pos (by rw [hN, c6]; rfl)])

theorem mt_steps {Ω : ax_O} (hA : ax_Amb Ω) {h : ax_H} {m : Nat} {μ : md_S} {t : pT} {s : pR} {j : Nat} (hm : Ω.2.1.heap.size ≤ m) (hj : j = 4 ∨ j = 6) {P V O : Nat} (hp : pWP (μ.2 2) P V O) {A : Nat} (hs : pWS s A)  : ax_Met Ω yX10_steps 10 0 0 [.ref m, .ref (m + j)] (md_H h m (md_sa (mAs μ t) j s)) (.inl (some (.int ((pStep (μ.2 2) s V A).2)))) (md_H h m (md_sa (mAs μ (pStT (μ.2 2) s V A t)) j ((pStep (μ.2 2) s V A).1))) := by
  refine ax_met q3014 q142 (by decide +kernel) (by decide) hA (Nat.le_of_ble_eq_true rfl) (fun Γ G E => ?_)
  have hA9 := hs.lA
  have hV9 := hp.lV
  show ax_W Ω Γ 0 0 (md_H h m (md_sa (mAs μ t) j s)) 0 [some (.ref m), some (.ref (m + j)), none, none, none, none] []
  refine ax_aload_n (pc := 0) G dX10_steps_0 rfl rfl ?_
  refine ax_iconst (pc := 1) (v := nI 0) G dX10_steps_1 ic_0 ?_
  refine md_lds (pc := 2) (i := 0) G hj dX10_steps_2 rfl (by omega) ?_
  refine ax_istore_n (pc := 3) G dX10_steps_3 rfl (Nat.le_of_ble_eq_true rfl) rfl ?_
  refine ax_aload_n (pc := 4) G dX10_steps_4 rfl rfl ?_
  refine ax_aload_n (pc := 5) G dX10_steps_5 rfl rfl ?_
  refine ax_cV0 (pc := 6) (kb := 0) (nb := 0) G (mt_expires hA (μ := (mAs μ t)) hm hj hp hs) lVX10_319_8 dX10_steps_6 md_obj rfl (by decide) (Nat.le_of_ble_eq_true rfl) rfl ?_
  show ax_W Ω Γ _ _ (md_H h m (md_sa (mAs μ t) j (pExp (μ.2 2) s A))) _ _ _
  refine ax_aload_n (pc := 9) G dX10_steps_9 rfl rfl ?_
  refine ax_aload_n (pc := 10) G dX10_steps_10 rfl rfl ?_
  refine ax_cV1 (pc := 11) (kb := 0) (nb := 0) G (mt_alertFor hA (μ := (mAs μ t)) hj hp (pWS.exp (hs) (by omega))) lVX10_322_8 dX10_steps_11 md_obj rfl (by decide) (Nat.le_of_ble_eq_true rfl) rfl ?_
  refine ax_istore_n (pc := 14) G dX10_steps_14 rfl (Nat.le_of_ble_eq_true rfl) rfl ?_
  refine ax_iconst (pc := 15) (v := (-1)) G dX10_steps_15 (by decide) ?_
  refine ax_istore (pc := 16) G dX10_steps_16 (Nat.le_of_ble_eq_true rfl) rfl ?_
  refine ax_iconst (pc := 18) (v := nI 3) G dX10_steps_18 ic_3 ?_
  refine ax_istore (pc := 19) G dX10_steps_19 (Nat.le_of_ble_eq_true rfl) rfl ?_
  show ax_W Ω Γ _ _ _ _ [some (.ref m), some (.ref (m + j)), some (.int (s 0)), some (.int (oI (pAl (μ.2 2) (pExp (μ.2 2) s A) A))), some (.int (-1)), some (.int (nI 3))] _
  rcases ea : pAl (μ.2 2) (pExp (μ.2 2) s A) A with _ | a
  · show ax_W Ω Γ _ _ _ _ [some (.ref m), some (.ref (m + j)), some (.int (s 0)), some (.int (-1)), some (.int (-1)), some (.int (nI 3))] _
    refine ax_iload_n (pc := 21) G dX10_steps_21 rfl rfl ?_
    refine ax_iconst (pc := 22) (v := (-1)) G dX10_steps_22 (by decide) ?_
    refine ax_icmp_eq (pc := 23) (tgt := 43) G dX10_steps_23 rfl (fun _ => ?_) (fun c9 => absurd rfl c9)
    refine ax_aload_n (pc := 43) G dX10_steps_43 rfl rfl ?_
    refine ax_aload_n (pc := 44) G dX10_steps_44 rfl rfl ?_
    refine ax_cV1 (pc := 45) (kb := 0) (nb := 0) G (mt_isCalibrationDue hA (μ := (mAs μ t)) hj) lVX10_329_8 dX10_steps_45 md_obj rfl (by decide) (Nat.le_of_ble_eq_true rfl) rfl ?_
    refine ax_if_eq (pc := 48) (tgt := 59) G dX10_steps_48 rfl (fun c48 => ?_) (fun c48 => ?_)
    · replace c48 : (bI (pCalDue (μ.2 2) (pExp (μ.2 2) s A))) = 0 := c48
      have c48b := bI_f c48
      refine ax_aload_n (pc := 59) G dX10_steps_59 rfl rfl ?_
      refine ax_aload_n (pc := 60) G dX10_steps_60 rfl rfl ?_
      refine ax_cV1 (pc := 61) (kb := 0) (nb := 0) G (mt_chosenOf hA (μ := (mAs μ t)) hj hp (pWS.exp (hs) (by omega))) lVX10_336_8 dX10_steps_61 md_obj rfl (by decide) (Nat.le_of_ble_eq_true rfl) rfl ?_
      refine ax_istore (pc := 64) G dX10_steps_64 (Nat.le_of_ble_eq_true rfl) rfl ?_
      show ax_W Ω Γ _ _ _ _ [some (.ref m), some (.ref (m + j)), some (.int (s 0)), some (.int (-1)), some (.int (oI (pCh (μ.2 2) (pExp (μ.2 2) s A) V))), some (.int (nI 3))] _
      rcases eo : pCh (μ.2 2) (pExp (μ.2 2) s A) V with _ | o
      · show ax_W Ω Γ _ _ _ _ [some (.ref m), some (.ref (m + j)), some (.int (s 0)), some (.int (-1)), some (.int (-1)), some (.int (nI 3))] _
        refine ax_iload (pc := 66) G dX10_steps_66 rfl ?_
        refine ax_iconst (pc := 68) (v := (-1)) G dX10_steps_68 (by decide) ?_
        refine ax_icmp_eq (pc := 69) (tgt := 82) G dX10_steps_69 rfl (fun _ => ?_) (fun c9 => absurd rfl c9)
        refine ax_aload_n (pc := 82) G dX10_steps_82 rfl rfl ?_
        refine ax_aload_n (pc := 83) G dX10_steps_83 rfl rfl ?_
        refine ax_cV1 (pc := 84) (kb := 0) (nb := 0) G (mt_idles hA (μ := (mAs μ t)) hm hj hp (pWS.exp (hs) (by omega))) lVX10_342_8 dX10_steps_84 md_obj rfl (by decide) (Nat.le_of_ble_eq_true rfl) rfl ?_
        show ax_W Ω Γ _ _ (md_H h m (md_sa (mAs μ t) j (pIdles (μ.2 2) (pExp (μ.2 2) s A) A))) _ _ _
        refine ax_istore (pc := 87) G dX10_steps_87 (Nat.le_of_ble_eq_true rfl) rfl ?_
        refine ax_aload_n (pc := 89) G dX10_steps_89 rfl rfl ?_
        refine ax_iload (pc := 90) G dX10_steps_90 rfl ?_
        refine ax_iload (pc := 92) G dX10_steps_92 rfl ?_
        refine ax_iload_n (pc := 94) G dX10_steps_94 rfl rfl ?_
        refine ax_cS0 (pc := 95) (kb := 0) (nb := 0) G (mt_logs hA (μ := (mAs μ t)) hm hj ((pWS.exp (hs) (by omega)).idles).hN.choose_spec.2 ((pWS.exp (hs) (by omega)).idles).hN.choose_spec.1 (nI 4) (-1) (s 0)) lSX10_345 dX10_steps_95 rfl (by decide) (Nat.le_of_ble_eq_true rfl) rfl ?_
        show ax_W Ω Γ _ _ (md_H h m (md_sa (mAs μ t) j (pLogs (pIdles (μ.2 2) (pExp (μ.2 2) s A) A) (nI 4) (-1) (s 0)))) _ _ _
        refine ax_iload (pc := 98) G dX10_steps_98 rfl ?_
        exact ax_iretE (pc := 100) G E rfl (rfl) dX10_steps_100 (by first | (simp only [pStep, ea, c48b, eo, if_true, if_false, Bool.false_eq_true, not_false_eq_true, not_true_eq_false, decide_true, decide_false, Bool.and_true, Bool.true_and, Bool.and_false, Bool.false_and, Bool.or_true, Bool.true_or, Bool.or_false, Bool.false_or, and_self, and_true, true_and, and_false, false_and, or_true, true_or, or_false, false_or, ne_eq]; done) | (simp only [pStep, ea, c48b, eo, if_true, if_false, Bool.false_eq_true, not_false_eq_true, not_true_eq_false, decide_true, decide_false, Bool.and_true, Bool.true_and, Bool.and_false, Bool.false_and, Bool.or_true, Bool.true_or, Bool.or_false, Bool.false_or, and_self, and_true, true_and, and_false, false_and, or_true, true_or, or_false, false_or, ne_eq]; rfl)) (by first | (simp only [pStep, pStT, ea, c48b, eo, if_true, if_false, Bool.false_eq_true, not_false_eq_true, not_true_eq_false, decide_true, decide_false, Bool.and_true, Bool.true_and, Bool.and_false, Bool.false_and, Bool.or_true, Bool.true_or, Bool.or_false, Bool.false_or, and_self, and_true, true_and, and_false, false_and, or_true, true_or, or_false, false_or, ne_eq]; done) | (simp only [pStep, pStT, ea, c48b, eo, if_true, if_false, Bool.false_eq_true, not_false_eq_true, not_true_eq_false, decide_true, decide_false, Bool.and_true, Bool.true_and, Bool.and_false, Bool.false_and, Bool.or_true, Bool.true_or, Bool.or_false, Bool.false_or, and_self, and_true, true_and, and_false, false_and, or_true, true_or, or_false, false_or, ne_eq]; rfl))
      · have ho_o := pCh_l eo
        show ax_W Ω Γ _ _ _ _ [some (.ref m), some (.ref (m + j)), some (.int (s 0)), some (.int (-1)), some (.int (nI o)), some (.int (nI 3))] _
        refine ax_iload (pc := 66) G dX10_steps_66 rfl ?_
        refine ax_iconst (pc := 68) (v := (-1)) G dX10_steps_68 (by decide) ?_
        refine ax_icmp_eq (pc := 69) (tgt := 82) G dX10_steps_69 rfl (fun c9 => absurd c9 (nI_nm (by omega))) (fun _ => ?_)
        refine ax_aload_n (pc := 72) G dX10_steps_72 rfl rfl ?_
        refine ax_aload_n (pc := 73) G dX10_steps_73 rfl rfl ?_
        refine ax_iload (pc := 74) G dX10_steps_74 rfl ?_
        refine ax_cV1 (pc := 76) (kb := 0) (nb := 0) G (mt_makesVisit hA (μ := μ) (t := t) hm hj hp (pWS.exp (hs) (by omega)) o (by omega)) lVX10_339_8 dX10_steps_76 md_obj rfl (by decide) (Nat.le_of_ble_eq_true rfl) rfl ?_
        show ax_W Ω Γ _ _ (md_H h m (md_sa (mAs μ (pBrT (μ.2 2) (pComes (μ.2 2) (pExp (μ.2 2) s A) o) o t A)) j ((pMV (μ.2 2) (pExp (μ.2 2) s A) o A).1))) _ _ _
        refine ax_goto (pc := 79) (tgt := 87) G dX10_steps_79 rfl ?_
        refine ax_istore (pc := 87) G dX10_steps_87 (Nat.le_of_ble_eq_true rfl) rfl ?_
        refine ax_aload_n (pc := 89) G dX10_steps_89 rfl rfl ?_
        refine ax_iload (pc := 90) G dX10_steps_90 rfl ?_
        refine ax_iload (pc := 92) G dX10_steps_92 rfl ?_
        refine ax_iload_n (pc := 94) G dX10_steps_94 rfl rfl ?_
        refine ax_cS0 (pc := 95) (kb := 0) (nb := 0) G (mt_logs hA (μ := (mAs μ (pBrT (μ.2 2) (pComes (μ.2 2) (pExp (μ.2 2) s A) o) o t A))) hm hj (pWS.mv hp (pWS.exp (hs) (by omega)) (by omega)).hN.choose_spec.2 (pWS.mv hp (pWS.exp (hs) (by omega)) (by omega)).hN.choose_spec.1 ((pMV (μ.2 2) (pExp (μ.2 2) s A) o A).2) (nI o) (s 0)) lSX10_345 dX10_steps_95 rfl (by decide) (Nat.le_of_ble_eq_true rfl) rfl ?_
        show ax_W Ω Γ _ _ (md_H h m (md_sa (mAs μ (pBrT (μ.2 2) (pComes (μ.2 2) (pExp (μ.2 2) s A) o) o t A)) j (pLogs ((pMV (μ.2 2) (pExp (μ.2 2) s A) o A).1) ((pMV (μ.2 2) (pExp (μ.2 2) s A) o A).2) (nI o) (s 0)))) _ _ _
        refine ax_iload (pc := 98) G dX10_steps_98 rfl ?_
        exact ax_iretE (pc := 100) G E rfl (rfl) dX10_steps_100 (by first | (simp only [pStep, ea, c48b, eo, if_true, if_false, Bool.false_eq_true, not_false_eq_true, not_true_eq_false, decide_true, decide_false, Bool.and_true, Bool.true_and, Bool.and_false, Bool.false_and, Bool.or_true, Bool.true_or, Bool.or_false, Bool.false_or, and_self, and_true, true_and, and_false, false_and, or_true, true_or, or_false, false_or, ne_eq]; done) | (simp only [pStep, ea, c48b, eo, if_true, if_false, Bool.false_eq_true, not_false_eq_true, not_true_eq_false, decide_true, decide_false, Bool.and_true, Bool.true_and, Bool.and_false, Bool.false_and, Bool.or_true, Bool.true_or, Bool.or_false, Bool.false_or, and_self, and_true, true_and, and_false, false_and, or_true, true_or, or_false, false_or, ne_eq]; rfl)) (by first | (simp only [pStep, pStT, ea, c48b, eo, if_true, if_false, Bool.false_eq_true, not_false_eq_true, not_true_eq_false, decide_true, decide_false, Bool.and_true, Bool.true_and, Bool.and_false, Bool.false_and, Bool.or_true, Bool.true_or, Bool.or_false, Bool.false_or, and_self, and_true, true_and, and_false, false_and, or_true, true_or, or_false, false_or, ne_eq]; done) | (simp only [pStep, pStT, ea, c48b, eo, if_true, if_false, Bool.false_eq_true, not_false_eq_true, not_true_eq_false, decide_true, decide_false, Bool.and_true, Bool.true_and, Bool.and_false, Bool.false_and, Bool.or_true, Bool.true_or, Bool.or_false, Bool.false_or, and_self, and_true, true_and, and_false, false_and, or_true, true_or, or_false, false_or, ne_eq]; rfl))
    · replace c48 : ¬ (bI (pCalDue (μ.2 2) (pExp (μ.2 2) s A))) = 0 := c48
      have c48b := bI_t c48
      refine ax_aload_n (pc := 51) G dX10_steps_51 rfl rfl ?_
      refine ax_aload_n (pc := 52) G dX10_steps_52 rfl rfl ?_
      refine ax_cV0 (pc := 53) (kb := 0) (nb := 0) G (mt_calibrates hA (μ := (mAs μ t)) hm hj) lVX10_333_8 dX10_steps_53 md_obj rfl (by decide) (Nat.le_of_ble_eq_true rfl) rfl ?_
      show ax_W Ω Γ _ _ (md_H h m (md_sa (mAs μ t) j (pCalibrates (μ.2 2) (pExp (μ.2 2) s A)))) _ _ _
      refine ax_goto (pc := 56) (tgt := 89) G dX10_steps_56 rfl ?_
      refine ax_aload_n (pc := 89) G dX10_steps_89 rfl rfl ?_
      refine ax_iload (pc := 90) G dX10_steps_90 rfl ?_
      refine ax_iload (pc := 92) G dX10_steps_92 rfl ?_
      refine ax_iload_n (pc := 94) G dX10_steps_94 rfl rfl ?_
      refine ax_cS0 (pc := 95) (kb := 0) (nb := 0) G (mt_logs hA (μ := (mAs μ t)) hm hj ((pWS.exp (hs) (by omega)).calibrates).hN.choose_spec.2 ((pWS.exp (hs) (by omega)).calibrates).hN.choose_spec.1 (nI 3) (-1) (s 0)) lSX10_345 dX10_steps_95 rfl (by decide) (Nat.le_of_ble_eq_true rfl) rfl ?_
      show ax_W Ω Γ _ _ (md_H h m (md_sa (mAs μ t) j (pLogs (pCalibrates (μ.2 2) (pExp (μ.2 2) s A)) (nI 3) (-1) (s 0)))) _ _ _
      refine ax_iload (pc := 98) G dX10_steps_98 rfl ?_
      exact ax_iretE (pc := 100) G E rfl (rfl) dX10_steps_100 (by first | (simp only [pStep, ea, c48b, if_true, if_false, Bool.false_eq_true, not_false_eq_true, not_true_eq_false, decide_true, decide_false, Bool.and_true, Bool.true_and, Bool.and_false, Bool.false_and, Bool.or_true, Bool.true_or, Bool.or_false, Bool.false_or, and_self, and_true, true_and, and_false, false_and, or_true, true_or, or_false, false_or, ne_eq]; done) | (simp only [pStep, ea, c48b, if_true, if_false, Bool.false_eq_true, not_false_eq_true, not_true_eq_false, decide_true, decide_false, Bool.and_true, Bool.true_and, Bool.and_false, Bool.false_and, Bool.or_true, Bool.true_or, Bool.or_false, Bool.false_or, and_self, and_true, true_and, and_false, false_and, or_true, true_or, or_false, false_or, ne_eq]; rfl)) (by first | (simp only [pStep, pStT, ea, c48b, if_true, if_false, Bool.false_eq_true, not_false_eq_true, not_true_eq_false, decide_true, decide_false, Bool.and_true, Bool.true_and, Bool.and_false, Bool.false_and, Bool.or_true, Bool.true_or, Bool.or_false, Bool.false_or, and_self, and_true, true_and, and_false, false_and, or_true, true_or, or_false, false_or, ne_eq]; done) | (simp only [pStep, pStT, ea, c48b, if_true, if_false, Bool.false_eq_true, not_false_eq_true, not_true_eq_false, decide_true, decide_false, Bool.and_true, Bool.true_and, Bool.and_false, Bool.false_and, Bool.or_true, Bool.true_or, Bool.or_false, Bool.false_or, and_self, and_true, true_and, and_false, false_and, or_true, true_or, or_false, false_or, ne_eq]; rfl))
  · have ho_a := pAl_l ea
    show ax_W Ω Γ _ _ _ _ [some (.ref m), some (.ref (m + j)), some (.int (s 0)), some (.int (nI a)), some (.int (-1)), some (.int (nI 3))] _
    refine ax_iload_n (pc := 21) G dX10_steps_21 rfl rfl ?_
    refine ax_iconst (pc := 22) (v := (-1)) G dX10_steps_22 (by decide) ?_
    refine ax_icmp_eq (pc := 23) (tgt := 43) G dX10_steps_23 rfl (fun c9 => absurd c9 (nI_nm (by omega))) (fun _ => ?_)
    refine ax_aload_n (pc := 26) G dX10_steps_26 rfl rfl ?_
    refine ax_aload_n (pc := 27) G dX10_steps_27 rfl rfl ?_
    refine ax_iload_n (pc := 28) G dX10_steps_28 rfl rfl ?_
    refine ax_cV1 (pc := 29) (kb := 0) (nb := 0) G (mt_makesAlert hA (μ := (mAs μ t)) hm hj hp (pWS.exp (hs) (by omega)) a (by omega)) lVX10_326_8 dX10_steps_29 md_obj rfl (by decide) (Nat.le_of_ble_eq_true rfl) rfl ?_
    show ax_W Ω Γ _ _ (md_H h m (md_sa (mAs μ t) j (pMA (μ.2 2) (pExp (μ.2 2) s A) a))) _ _ _
    refine ax_istore (pc := 32) G dX10_steps_32 (Nat.le_of_ble_eq_true rfl) rfl ?_
    refine ax_iload_n (pc := 34) G dX10_steps_34 rfl rfl ?_
    refine ax_bipush (pc := 35) (v := nI 20) G dX10_steps_35 ib_20 ?_
    refine ax_isubN (pc := 37) G dX10_steps_37 (by omega) ?_
    refine ax_istore (pc := 38) G dX10_steps_38 (Nat.le_of_ble_eq_true rfl) rfl ?_
    refine ax_goto (pc := 40) (tgt := 89) G dX10_steps_40 rfl ?_
    refine ax_aload_n (pc := 89) G dX10_steps_89 rfl rfl ?_
    refine ax_iload (pc := 90) G dX10_steps_90 rfl ?_
    refine ax_iload (pc := 92) G dX10_steps_92 rfl ?_
    refine ax_iload_n (pc := 94) G dX10_steps_94 rfl rfl ?_
    refine ax_cS0 (pc := 95) (kb := 0) (nb := 0) G (mt_logs hA (μ := (mAs μ t)) hm hj (pWS.ma hp (pWS.exp (hs) (by omega)) (by omega)).hN.choose_spec.2 (pWS.ma hp (pWS.exp (hs) (by omega)) (by omega)).hN.choose_spec.1 (nI 2) (nI (a - 20)) (s 0)) lSX10_345 dX10_steps_95 rfl (by decide) (Nat.le_of_ble_eq_true rfl) rfl ?_
    show ax_W Ω Γ _ _ (md_H h m (md_sa (mAs μ t) j (pLogs (pMA (μ.2 2) (pExp (μ.2 2) s A) a) (nI 2) (nI (a - 20)) (s 0)))) _ _ _
    refine ax_iload (pc := 98) G dX10_steps_98 rfl ?_
    exact ax_iretE (pc := 100) G E rfl (rfl) dX10_steps_100 (by first | (simp only [pStep, ea, if_true, if_false, Bool.false_eq_true, not_false_eq_true, not_true_eq_false, decide_true, decide_false, Bool.and_true, Bool.true_and, Bool.and_false, Bool.false_and, Bool.or_true, Bool.true_or, Bool.or_false, Bool.false_or, and_self, and_true, true_and, and_false, false_and, or_true, true_or, or_false, false_or, ne_eq]; done) | (simp only [pStep, ea, if_true, if_false, Bool.false_eq_true, not_false_eq_true, not_true_eq_false, decide_true, decide_false, Bool.and_true, Bool.true_and, Bool.and_false, Bool.false_and, Bool.or_true, Bool.true_or, Bool.or_false, Bool.false_or, and_self, and_true, true_and, and_false, false_and, or_true, true_or, or_false, false_or, ne_eq]; rfl)) (by first | (simp only [pStep, pStT, ea, if_true, if_false, Bool.false_eq_true, not_false_eq_true, not_true_eq_false, decide_true, decide_false, Bool.and_true, Bool.true_and, Bool.and_false, Bool.false_and, Bool.or_true, Bool.true_or, Bool.or_false, Bool.false_or, and_self, and_true, true_and, and_false, false_and, or_true, true_or, or_false, false_or, ne_eq]; done) | (simp only [pStep, pStT, ea, if_true, if_false, Bool.false_eq_true, not_false_eq_true, not_true_eq_false, decide_true, decide_false, Bool.and_true, Bool.true_and, Bool.and_false, Bool.false_and, Bool.or_true, Bool.true_or, Bool.or_false, Bool.false_or, and_self, and_true, true_and, and_false, false_and, or_true, true_or, or_false, false_or, ne_eq]; rfl))

theorem mt_stepsMany {Ω : ax_O} (hA : ax_Amb Ω) {h : ax_H} {m : Nat} {μ : md_S} {t : pT} {s : pR} {j : Nat} (hm : Ω.2.1.heap.size ≤ m) (hj : j = 4 ∨ j = 6) {P V O : Nat} (hp : pWP (μ.2 2) P V O) {A : Nat} (hs : pWS s A) (N : Nat) (hN : N ≤ 4000) : ax_Met Ω yX10_stepsMany 11 0 0 [.ref m, .ref (m + j), .int (nI N)] (md_H h m (md_sa (mAs μ t) j s)) (.inl (some (.int (nI (pMany (μ.2 2) V A N s).2)))) (md_H h m (md_sa (mAs μ (pManyT (μ.2 2) V A N s t)) j ((pMany (μ.2 2) V A N s).1))) := by
  refine ax_met q3127 q142 (by decide +kernel) (by decide) hA (Nat.le_of_ble_eq_true rfl) (fun Γ G E => ?_)
  have hA9 := hs.lA
  have L0 : ∀ (n e : Nat) (r : pR) (u : pT) (l4 : Option Value), e + n = N → pWS r A → (l4 = none ∨ ∃ x, l4 = some (.int x)) → e + (pMany (μ.2 2) V A n r).2 = (pMany (μ.2 2) V A N s).2 → (pMany (μ.2 2) V A n r).1 = (pMany (μ.2 2) V A N s).1 → pManyT (μ.2 2) V A n r u = pManyT (μ.2 2) V A N s t → ax_W Ω Γ 0 0 (md_H h m (md_sa (mAs μ u) j r)) 2 [some (.ref m), some (.ref (m + j)), some (.int (nI N)), some (.int (nI e)), l4] [] := by
    intro n
    induction n with
    | zero =>
      intro e r u l4 hi hr hl4 h1 h2 h3
      have hi9 : N = e := by omega
      have h1b : e = (pMany (μ.2 2) V A N s).2 := h1
      have h2b : r = (pMany (μ.2 2) V A N s).1 := h2
      have h3b : u = pManyT (μ.2 2) V A N s t := h3
      refine ax_iload_n (pc := 2) G dX10_stepsMany_2 rfl rfl ?_
      refine ax_iload_n (pc := 3) G dX10_stepsMany_3 rfl rfl ?_
      refine ax_icmp_geN (pc := 4) (tgt := 32) G dX10_stepsMany_4 rfl (by omega) (by omega) (fun c4 => ?_) (fun c4 => ?_)
      · refine ax_iload_n (pc := 32) G dX10_stepsMany_32 rfl rfl ?_
        exact ax_iretE (pc := 33) G E rfl (rfl) dX10_stepsMany_33 (by rw [← h1b]) (by rw [← h2b, ← h3b])
      · omega
    | succ n ih =>
      intro e r u l4 hi hr hl4 h1 h2 h3
      rw [pMany_s] at h1 h2
      rw [pManyT_s] at h3
      refine ax_iload_n (pc := 2) G dX10_stepsMany_2 rfl rfl ?_
      refine ax_iload_n (pc := 3) G dX10_stepsMany_3 rfl rfl ?_
      refine ax_icmp_geN (pc := 4) (tgt := 32) G dX10_stepsMany_4 rfl (by omega) (by omega) (fun c4 => ?_) (fun c4 => ?_)
      · omega
      · refine ax_aload_n (pc := 7) G dX10_stepsMany_7 rfl rfl ?_
        refine ax_iconst (pc := 8) (v := nI 0) G dX10_stepsMany_8 ic_0 ?_
        refine md_lds (pc := 9) (i := 0) G hj dX10_stepsMany_9 rfl (by omega) ?_
        refine ax_aload_n (pc := 10) G dX10_stepsMany_10 rfl rfl ?_
        refine md_get (pc := 11) (v := .ref (m + 2)) G flX10_17_8 dX10_stepsMany_11 rfl ?_
        refine ax_iconst (pc := 14) (v := nI 0) G dX10_stepsMany_14 ic_0 ?_
        refine md_ldp (pc := 15) (i := 0) (j2 := 2) G 235 dX10_stepsMany_15 (by omega) (by decide) (by decide) rfl rfl rfl (by omega) (by decide) ?_
        refine ax_icmp_ge (pc := 16) (tgt := 32) G dX10_stepsMany_16 rfl (fun c16 => ?_) (fun c16 => ?_)
        · replace c16 : ((μ.2 2) 0) ≤ (r 0) := c16
          refine ax_iload_n (pc := 32) G dX10_stepsMany_32 rfl rfl ?_
          exact ax_iretE (pc := 33) G E rfl (rfl) dX10_stepsMany_33 (by rw [if_pos c16] at h1; exact congrArg nI h1) (by rw [if_pos c16] at h2 h3; rw [← h2, ← h3])
        · replace c16 : ¬ ((μ.2 2) 0) ≤ (r 0) := c16
          refine ax_aload_n (pc := 19) G dX10_stepsMany_19 rfl rfl ?_
          refine ax_aload_n (pc := 20) G dX10_stepsMany_20 rfl rfl ?_
          refine ax_cV1 (pc := 21) (kb := 0) (nb := 0) G (mt_steps hA (μ := μ) (t := u) hm hj hp hr) lVX10_349_8 dX10_stepsMany_21 md_obj rfl (by decide) (Nat.le_of_ble_eq_true rfl) rfl ?_
          show ax_W Ω Γ _ _ (md_H h m (md_sa (mAs μ (pStT (μ.2 2) r V A u)) j ((pStep (μ.2 2) r V A).1))) _ _ _
          refine ax_istore (pc := 24) G dX10_stepsMany_24 (Nat.le_of_ble_eq_true rfl) rfl ?_
          refine ax_iincN (pc := 26) (n := 1) G dX10_stepsMany_26 rfl rfl ic_1 ?_
          refine ax_goto (pc := 29) (tgt := 2) G dX10_stepsMany_29 rfl ?_
          exact ih (e + 1) _ _ _ (by omega) (hr.step hp) (Or.inr ⟨_, rfl⟩) (by rw [if_neg c16] at h1; rw [← h1]; omega) (by rw [if_neg c16] at h2; exact h2) (by rw [if_neg c16] at h3; exact h3)
  show ax_W Ω Γ 0 0 (md_H h m (md_sa (mAs μ t) j s)) 0 [some (.ref m), some (.ref (m + j)), some (.int (nI N)), none, none] []
  refine ax_iconst (pc := 0) (v := nI 0) G dX10_stepsMany_0 ic_0 ?_
  refine ax_istore_n (pc := 1) G dX10_stepsMany_1 rfl (Nat.le_of_ble_eq_true rfl) rfl ?_
  exact L0 N 0 s t none (by omega) hs (Or.inl rfl) (by omega) rfl rfl

