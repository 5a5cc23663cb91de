/-! THE COMPONENT: breaks, changes -/
theorem ct_couldBegin_0 {Ω : ax_O} (hA : ax_Amb Ω) {h : ax_H} {a : Nat} {pl s : pR} {π : Nat → cP} {N V O A : Nat} {D : cD} (ha : Ω.2.1.heap.size ≤ a) (hp : pWP pl N V O) (hs : pWS s A) (hE : cEn h a pl s N V O A D) {w vi : Nat} {u : Nat → Int32} (hv20 : vi < 20) (hw : ∀ σ, cWk (sH h a σ) w pl s vi) (hπ : π 0 = (.ref w, u)) (k : Nat) (hk : k < A) : ax_Met Ω yX2_couldBegin 9 0 0 [.ref a, .ref (a + 16), .ref (D.2.1 3 k), .int (nI k)] (sH h a (s, π, (.ref (D.1 0)), (D.1 8))) (.inl (some (.int (bI (decide (cCb pl s O vi k (u 5) (u 3) = 0)))))) (sH h a (s, cU π 2 (cPl pl (cRow pl s vi k (u 5) (u 3)) (20 + k) O (D.2.1 3 k) (nI k) true (cLf pl s vi k (u 5))), .ref (D.1 0), D.1 8)) := by
  refine ax_met q1979 q114 (by decide +kernel) (by decide) hA (Nat.le_of_ble_eq_true rfl) (fun Γ G E => ?_)
  have hV9 := hp.lV
  have hA9 := hs.lA
  have hO9 := hp.lO
  show ax_W Ω Γ 0 0 (sH h a (s, π, (.ref (D.1 0)), (D.1 8))) 0 [some (.ref a), some (.ref (a + 16)), some (.ref (D.2.1 3 k)), some (.int (nI k)), none, none, none] []
  refine ax_aload_n (pc := 0) G dX2_couldBegin_0 rfl rfl ?_
  refine ax_getf (pc := 1) (v := .int (pFrom pl s (20 + k))) G flX2_207_14 dX2_couldBegin_1 (alO (pl := pl) ((hE (s, π, (.ref (D.1 0)), (D.1 8))).2) (k := k) (by omega)) rfl ?_
  refine ax_aload_n (pc := 4) G dX2_couldBegin_4 rfl rfl ?_
  refine ax_getf (pc := 5) (v := .int (u 5)) G flX2_208_6 dX2_couldBegin_5 (sH_pe (k := 16) (by decide) (by decide) (show (π : Nat → cP) 0 = (.ref w, u) from hπ)) rfl ?_
  refine ax_isub (pc := 8) G dX2_couldBegin_8 ?_
  refine ax_istore (pc := 9) G dX2_couldBegin_9 (Nat.le_of_ble_eq_true rfl) rfl ?_
  refine ax_aload_n (pc := 11) G dX2_couldBegin_11 rfl rfl ?_
  refine ax_getf (pc := 12) (v := .int (u 3)) G flX2_218_6 dX2_couldBegin_12 (sH_pe (k := 16) (by decide) (by decide) (show (π : Nat → cP) 0 = (.ref w, u) from hπ)) rfl ?_
  have J26 : ax_W Ω Γ 0 0 (sH h a (s, π, (.ref (D.1 0)), (D.1 8))) 26 [some (.ref a), some (.ref (a + 16)), some (.ref (D.2.1 3 k)), some (.int (nI k)), some (.int ((pFrom pl s (20 + k)) - (u 5))), none, none] [.int (if 0 < u 3 then nI 0 else s 3)] := by
    refine ax_aload_n (pc := 26) G dX2_couldBegin_26 rfl rfl ?_
    refine ax_getf (pc := 27) (v := .ref w) G flX2_221_6 dX2_couldBegin_27 (sH_pe (k := 16) (by decide) (by decide) (show (π : Nat → cP) 0 = (.ref w, u) from hπ)) rfl ?_
    refine ax_iload (pc := 30) G dX2_couldBegin_30 rfl ?_
    refine wk_growth (pc := 32) G (hw _) lJX2_225_13 lJX2_225_14 dX2_couldBegin_32 (by decide) (Nat.le_of_ble_eq_true rfl) ?_
    refine ax_iadd (pc := 37) G dX2_couldBegin_37 ?_
    refine ax_istore (pc := 38) G dX2_couldBegin_38 (Nat.le_of_ble_eq_true rfl) rfl ?_
    refine ax_aload_n (pc := 40) G dX2_couldBegin_40 rfl rfl ?_
    refine ax_aload_n (pc := 41) G dX2_couldBegin_41 rfl rfl ?_
    refine ax_cVU1 (pc := 42) (kb := 0) (nb := 0) G (ct_proposal_14 hA (alO (pl := pl) ((hE (s, π, (.ref (D.1 0)), (D.1 8))).2) (k := k) (by omega))) lVUX2_228_14 dX2_couldBegin_42 (alO (pl := pl) ((hE (s, π, (.ref (D.1 0)), (D.1 8))).2) (k := k) (by omega)) rfl (by decide) (Nat.le_of_ble_eq_true rfl) rfl ?_
    have := pQ_l hp hs (k := (20 + k)) (by omega)
    refine ax_top (show Value.int (pProp pl s (20 + k)) = .int (nI (pQ pl s (20 + k))) from congrArg Value.int (pQ_e hp hs (by omega))) ?_
    refine ax_cV1 (pc := 45) (kb := 0) (nb := 0) G (ct_left hA (a := a) (pQ pl s (20 + k)) (by omega)) lVX2_172_1 dX2_couldBegin_45 sH_obj rfl (by decide) (Nat.le_of_ble_eq_true rfl) rfl ?_
    refine ax_aload_n (pc := 48) G dX2_couldBegin_48 rfl rfl ?_
    refine ax_cVU1 (pc := 49) (kb := 0) (nb := 0) G (ct_proposal_14 hA (alO (pl := pl) ((hE (s, π, (.ref (D.1 0)), (D.1 8))).2) (k := k) (by omega))) lVUX2_228_14 dX2_couldBegin_49 (alO (pl := pl) ((hE (s, π, (.ref (D.1 0)), (D.1 8))).2) (k := k) (by omega)) rfl (by decide) (Nat.le_of_ble_eq_true rfl) rfl ?_
    have := pQ_l hp hs (k := (20 + k)) (by omega)
    refine ax_top (show Value.int (pProp pl s (20 + k)) = .int (nI (pQ pl s (20 + k))) from congrArg Value.int (pQ_e hp hs (by omega))) ?_
    refine ax_aload_n (pc := 52) G dX2_couldBegin_52 rfl rfl ?_
    refine ax_getf (pc := 53) (v := .ref w) G flX2_221_6 dX2_couldBegin_53 (sH_pe (k := 16) (by decide) (by decide) (show (π : Nat → cP) 0 = (.ref w, u) from hπ)) rfl ?_
    refine wk_proposal (pc := 56) G (hw _) lJX2_167_13 lJX2_167_14 dX2_couldBegin_56 (by decide) (Nat.le_of_ble_eq_true rfl) ?_
    have := pQ_l hp hs (k := vi) (by omega)
    refine ax_top (show Value.int (pProp pl s vi) = .int (nI (pQ pl s vi)) from congrArg Value.int (pQ_e hp hs (by omega))) ?_
    have J70 : ax_W Ω Γ 0 0 (sH h a (s, π, (.ref (D.1 0)), (D.1 8))) 70 [some (.ref a), some (.ref (a + 16)), some (.ref (D.2.1 3 k)), some (.int (nI k)), some (.int ((pFrom pl s (20 + k)) - (u 5))), some (.int ((if 0 < u 3 then nI 0 else s 3) + (pGrows pl s vi ((pFrom pl s (20 + k)) - (u 5))))), none] [.int (if pQ pl s (20 + k) = pQ pl s vi then pFrom pl s (20 + k) - u 5 else nI 0), .int (pLeft s (pQ pl s (20 + k)))] := by
      refine ax_isub (pc := 70) G dX2_couldBegin_70 ?_
      refine ax_istore (pc := 71) G dX2_couldBegin_71 (Nat.le_of_ble_eq_true rfl) rfl ?_
      refine ax_aload_n (pc := 73) G dX2_couldBegin_73 rfl rfl ?_
      refine sr_get (pc := 74) (v := .ref (a + 18)) G flX2_77_1 dX2_couldBegin_74 rfl ?_
      refine ax_aload_n (pc := 77) G dX2_couldBegin_77 rfl rfl ?_
      refine sr_get (pc := 78) (v := .ref (D.1 0)) G flX2_80_1 dX2_couldBegin_78 rfl ?_
      refine ax_aload_n (pc := 81) G dX2_couldBegin_81 rfl rfl ?_
      refine ax_iload_n (pc := 82) G dX2_couldBegin_82 rfl rfl ?_
      refine ax_iconst (pc := 83) (v := nI 1) G dX2_couldBegin_83 ic_1 ?_
      refine ax_aload_n (pc := 84) G dX2_couldBegin_84 rfl rfl ?_
      refine ax_getf (pc := 85) (v := .int (pFrom pl s (20 + k))) G flX2_207_14 dX2_couldBegin_85 (alO (pl := pl) ((hE (s, π, (.ref (D.1 0)), (D.1 8))).2) (k := k) (by omega)) rfl ?_
      refine ax_iload (pc := 88) G dX2_couldBegin_88 rfl ?_
      refine ax_aload_n (pc := 90) G dX2_couldBegin_90 rfl rfl ?_
      refine ax_getf (pc := 91) (v := .ref w) G flX2_221_6 dX2_couldBegin_91 (sH_pe (k := 16) (by decide) (by decide) (show (π : Nat → cP) 0 = (.ref w, u) from hπ)) rfl ?_
      refine wk_lon (pc := 94) G (hw _) lJX2_229_13 lJX2_229_14 dX2_couldBegin_94 (by decide) (Nat.le_of_ble_eq_true rfl) ?_
      refine ax_aload_n (pc := 99) G dX2_couldBegin_99 rfl rfl ?_
      refine ax_getf (pc := 100) (v := .ref w) G flX2_221_6 dX2_couldBegin_100 (sH_pe (k := 16) (by decide) (by decide) (show (π : Nat → cP) 0 = (.ref w, u) from hπ)) rfl ?_
      refine wk_lat (pc := 103) G (hw _) lJX2_231_13 lJX2_231_14 dX2_couldBegin_103 (by decide) (Nat.le_of_ble_eq_true rfl) ?_
      refine ax_iload (pc := 108) G dX2_couldBegin_108 rfl ?_
      refine ax_cV1 (pc := 110) (kb := 0) (nb := 0) G (ct_layS hA (w := D.2.1 3 k) (k := 20 + k) (r := cRow pl s vi k (u 5) (u 3)) (σ := (s, π, (.ref (D.1 0)), (D.1 8))) (i := 2) (by decide) hp hE (fun σ => ((hE σ).2.wk (pl := pl) (k := k) (by omega)).im (pIm_row) (by omega)) ha (nI k) true ((pLeft s (pQ pl s (20 + k))) - (if pQ pl s (20 + k) = pQ pl s vi then pFrom pl s (20 + k) - u 5 else nI 0))) lVX2_176_6 dX2_couldBegin_110 (sH_pl (k := 18) (by decide) (by decide)) rfl (by decide) (Nat.le_of_ble_eq_true rfl) rfl ?_
      show ax_W Ω Γ _ _ (sH h a (s, cU π 2 (cPl pl (cRow pl s vi k (u 5) (u 3)) (20 + k) O (D.2.1 3 k) (nI k) true ((pLeft s (pQ pl s (20 + k))) - (if pQ pl s (20 + k) = pQ pl s vi then pFrom pl s (20 + k) - u 5 else nI 0))), (.ref (D.1 0)), (D.1 8))) _ _ _
      refine ax_cV1 (pc := 113) (kb := 0) (nb := 0) G (ct_can hA (P := (cPl pl (cRow pl s vi k (u 5) (u 3)) (20 + k) O (D.2.1 3 k) (nI k) true ((pLeft s (pQ pl s (20 + k))) - (if pQ pl s (20 + k) = pQ pl s vi then pFrom pl s (20 + k) - u 5 else nI 0)))) (sH_pe (k := 18) (by decide) (by decide) (show (cU π 2 (cPl pl (cRow pl s vi k (u 5) (u 3)) (20 + k) O (D.2.1 3 k) (nI k) true ((pLeft s (pQ pl s (20 + k))) - (if pQ pl s (20 + k) = pQ pl s vi then pFrom pl s (20 + k) - u 5 else nI 0)))) 2 = (cPl pl (cRow pl s vi k (u 5) (u 3)) (20 + k) O (D.2.1 3 k) (nI k) true ((pLeft s (pQ pl s (20 + k))) - (if pQ pl s (20 + k) = pQ pl s vi then pFrom pl s (20 + k) - u 5 else nI 0))) from cU_e))) lVX2_189_6 dX2_couldBegin_113 (sH_pl (k := 18) (by decide) (by decide)) rfl (by decide) (Nat.le_of_ble_eq_true rfl) rfl ?_
      rw [show (cPl pl (cRow pl s vi k (u 5) (u 3)) (20 + k) O (D.2.1 3 k) (nI k) true ((pLeft s (pQ pl s (20 + k))) - (if pQ pl s (20 + k) = pQ pl s vi then pFrom pl s (20 + k) - u 5 else nI 0))).2 8 = cCb pl s O vi k (u 5) (u 3) from rfl]
      exact ax_iretE (pc := 116) G E rfl (nz_bI _) dX2_couldBegin_116 (rfl) (rfl)
    refine ax_icmp_neN (pc := 61) (tgt := 69) G dX2_couldBegin_61 rfl (by omega) (by omega) (fun c61 => ?_) (fun c61 => ?_)
    · refine ax_iconst (pc := 69) (v := nI 0) G dX2_couldBegin_69 ic_0 ?_
      refine ax_top (show (.int (nI 0) : Value) = .int (if pQ pl s (20 + k) = pQ pl s vi then pFrom pl s (20 + k) - u 5 else nI 0) from congrArg Value.int (by first | (simp only [c61, if_true, if_false, Bool.false_eq_true, not_false_eq_true, not_true_eq_false, decide_true, decide_false, Bool.and_true, Bool.true_and, Bool.and_false, Bool.false_and, Bool.or_true, Bool.true_or, Bool.or_false, Bool.false_or, and_self, and_true, true_and, and_false, false_and, or_true, true_or, or_false, false_or, ne_eq]; done) | (simp only [c61, if_true, if_false, Bool.false_eq_true, not_false_eq_true, not_true_eq_false, decide_true, decide_false, Bool.and_true, Bool.true_and, Bool.and_false, Bool.false_and, Bool.or_true, Bool.true_or, Bool.or_false, Bool.false_or, and_self, and_true, true_and, and_false, false_and, or_true, true_or, or_false, false_or, ne_eq]; rfl))) ?_
      exact J70
    · refine ax_iload (pc := 64) G dX2_couldBegin_64 rfl ?_
      refine ax_goto (pc := 66) (tgt := 70) G dX2_couldBegin_66 rfl ?_
      refine ax_top (show (.int ((pFrom pl s (20 + k)) - (u 5)) : Value) = .int (if pQ pl s (20 + k) = pQ pl s vi then pFrom pl s (20 + k) - u 5 else nI 0) from congrArg Value.int (by first | (simp only [c61, if_true, if_false, Bool.false_eq_true, not_false_eq_true, not_true_eq_false, decide_true, decide_false, Bool.and_true, Bool.true_and, Bool.and_false, Bool.false_and, Bool.or_true, Bool.true_or, Bool.or_false, Bool.false_or, and_self, and_true, true_and, and_false, false_and, or_true, true_or, or_false, false_or, ne_eq]; done) | (simp only [c61, if_true, if_false, Bool.false_eq_true, not_false_eq_true, not_true_eq_false, decide_true, decide_false, Bool.and_true, Bool.true_and, Bool.and_false, Bool.false_and, Bool.or_true, Bool.true_or, Bool.or_false, Bool.false_or, and_self, and_true, true_and, and_false, false_and, or_true, true_or, or_false, false_or, ne_eq]; rfl) | (simp only [if_pos c61, decide_eq_true c61, if_true, if_false, Bool.false_eq_true, not_false_eq_true, not_true_eq_false, decide_true, decide_false, Bool.and_true, Bool.true_and, Bool.and_false, Bool.false_and, Bool.or_true, Bool.true_or, Bool.or_false, Bool.false_or, and_self, and_true, true_and, and_false, false_and, or_true, true_or, or_false, false_or, ne_eq]; done) | (simp only [if_pos c61, decide_eq_true c61, if_true, if_false, Bool.false_eq_true, not_false_eq_true, not_true_eq_false, decide_true, decide_false, Bool.and_true, Bool.true_and, Bool.and_false, Bool.false_and, Bool.or_true, Bool.true_or, Bool.or_false, Bool.false_or, and_self, and_true, true_and, and_false, false_and, or_true, true_or, or_false, false_or, ne_eq]; rfl))) ?_
      exact J70
  refine ax_if_le (pc := 15) (tgt := 22) G dX2_couldBegin_15 rfl (fun c15 => ?_) (fun c15 => ?_)
  · refine ax_aload_n (pc := 22) G dX2_couldBegin_22 rfl rfl ?_
    refine sr_get (pc := 23) (v := .int (s 3)) G flX2_139_1 dX2_couldBegin_23 rfl ?_
    refine ax_top (show (.int (s 3) : Value) = .int (if 0 < u 3 then nI 0 else s 3) from congrArg Value.int (by first | (simp only [c15, Int32.not_lt.mpr c15, if_true, if_false, Bool.false_eq_true, not_false_eq_true, not_true_eq_false, decide_true, decide_false, Bool.and_true, Bool.true_and, Bool.and_false, Bool.false_and, Bool.or_true, Bool.true_or, Bool.or_false, Bool.false_or, and_self, and_true, true_and, and_false, false_and, or_true, true_or, or_false, false_or, ne_eq]; done) | (simp only [c15, Int32.not_lt.mpr c15, if_true, if_false, Bool.false_eq_true, not_false_eq_true, not_true_eq_false, decide_true, decide_false, Bool.and_true, Bool.true_and, Bool.and_false, Bool.false_and, Bool.or_true, Bool.true_or, Bool.or_false, Bool.false_or, and_self, and_true, true_and, and_false, false_and, or_true, true_or, or_false, false_or, ne_eq]; rfl))) ?_
    exact J26
  · refine ax_iconst (pc := 18) (v := nI 0) G dX2_couldBegin_18 ic_0 ?_
    refine ax_goto (pc := 19) (tgt := 26) G dX2_couldBegin_19 rfl ?_
    refine ax_top (show (.int (nI 0) : Value) = .int (if 0 < u 3 then nI 0 else s 3) from congrArg Value.int (by first | (simp only [c15, Int32.not_le.mp c15, if_true, if_false, Bool.false_eq_true, not_false_eq_true, not_true_eq_false, decide_true, decide_false, Bool.and_true, Bool.true_and, Bool.and_false, Bool.false_and, Bool.or_true, Bool.true_or, Bool.or_false, Bool.false_or, and_self, and_true, true_and, and_false, false_and, or_true, true_or, or_false, false_or, ne_eq]; done) | (simp only [c15, Int32.not_le.mp c15, if_true, if_false, Bool.false_eq_true, not_false_eq_true, not_true_eq_false, decide_true, decide_false, Bool.and_true, Bool.true_and, Bool.and_false, Bool.false_and, Bool.or_true, Bool.true_or, Bool.or_false, Bool.false_or, and_self, and_true, true_and, and_false, false_and, or_true, true_or, or_false, false_or, ne_eq]; rfl))) ?_
    exact J26

theorem ct_couldBegin_1 {Ω : ax_O} (hA : ax_Amb Ω) {h : ax_H} {a : Nat} {pl s : pR} {π : Nat → cP} {N V O A : Nat} {D : cD} (ha : Ω.2.1.heap.size ≤ a) (hp : pWP pl N V O) (hs : pWS s A) (hE : cEn h a pl s N V O A D) {w vi : Nat} {u : Nat → Int32} (hv20 : vi < 20) (hw : ∀ σ, cWk (sH h a σ) w pl s vi) (hπ : π 1 = (.ref w, u)) (k : Nat) (hk : k < A) : ax_Met Ω yX2_couldBegin 9 0 0 [.ref a, .ref (a + 17), .ref (D.2.1 3 k), .int (nI k)] (sH h a (s, π, (.ref (D.1 0)), (D.1 8))) (.inl (some (.int (bI (decide (cCb pl s O vi k (u 5) (u 3) = 0)))))) (sH h a (s, cU π 2 (cPl pl (cRow pl s vi k (u 5) (u 3)) (20 + k) O (D.2.1 3 k) (nI k) true (cLf pl s vi k (u 5))), .ref (D.1 0), D.1 8)) := by
  refine ax_met q1979 q114 (by decide +kernel) (by decide) hA (Nat.le_of_ble_eq_true rfl) (fun Γ G E => ?_)
  have hV9 := hp.lV
  have hA9 := hs.lA
  have hO9 := hp.lO
  show ax_W Ω Γ 0 0 (sH h a (s, π, (.ref (D.1 0)), (D.1 8))) 0 [some (.ref a), some (.ref (a + 17)), some (.ref (D.2.1 3 k)), some (.int (nI k)), none, none, none] []
  refine ax_aload_n (pc := 0) G dX2_couldBegin_0 rfl rfl ?_
  refine ax_getf (pc := 1) (v := .int (pFrom pl s (20 + k))) G flX2_207_14 dX2_couldBegin_1 (alO (pl := pl) ((hE (s, π, (.ref (D.1 0)), (D.1 8))).2) (k := k) (by omega)) rfl ?_
  refine ax_aload_n (pc := 4) G dX2_couldBegin_4 rfl rfl ?_
  refine ax_getf (pc := 5) (v := .int (u 5)) G flX2_208_6 dX2_couldBegin_5 (sH_pe (k := 17) (by decide) (by decide) (show (π : Nat → cP) 1 = (.ref w, u) from hπ)) rfl ?_
  refine ax_isub (pc := 8) G dX2_couldBegin_8 ?_
  refine ax_istore (pc := 9) G dX2_couldBegin_9 (Nat.le_of_ble_eq_true rfl) rfl ?_
  refine ax_aload_n (pc := 11) G dX2_couldBegin_11 rfl rfl ?_
  refine ax_getf (pc := 12) (v := .int (u 3)) G flX2_218_6 dX2_couldBegin_12 (sH_pe (k := 17) (by decide) (by decide) (show (π : Nat → cP) 1 = (.ref w, u) from hπ)) rfl ?_
  have J26 : ax_W Ω Γ 0 0 (sH h a (s, π, (.ref (D.1 0)), (D.1 8))) 26 [some (.ref a), some (.ref (a + 17)), some (.ref (D.2.1 3 k)), some (.int (nI k)), some (.int ((pFrom pl s (20 + k)) - (u 5))), none, none] [.int (if 0 < u 3 then nI 0 else s 3)] := by
    refine ax_aload_n (pc := 26) G dX2_couldBegin_26 rfl rfl ?_
    refine ax_getf (pc := 27) (v := .ref w) G flX2_221_6 dX2_couldBegin_27 (sH_pe (k := 17) (by decide) (by decide) (show (π : Nat → cP) 1 = (.ref w, u) from hπ)) rfl ?_
    refine ax_iload (pc := 30) G dX2_couldBegin_30 rfl ?_
    refine wk_growth (pc := 32) G (hw _) lJX2_225_13 lJX2_225_14 dX2_couldBegin_32 (by decide) (Nat.le_of_ble_eq_true rfl) ?_
    refine ax_iadd (pc := 37) G dX2_couldBegin_37 ?_
    refine ax_istore (pc := 38) G dX2_couldBegin_38 (Nat.le_of_ble_eq_true rfl) rfl ?_
    refine ax_aload_n (pc := 40) G dX2_couldBegin_40 rfl rfl ?_
    refine ax_aload_n (pc := 41) G dX2_couldBegin_41 rfl rfl ?_
    refine ax_cVU1 (pc := 42) (kb := 0) (nb := 0) G (ct_proposal_14 hA (alO (pl := pl) ((hE (s, π, (.ref (D.1 0)), (D.1 8))).2) (k := k) (by omega))) lVUX2_228_14 dX2_couldBegin_42 (alO (pl := pl) ((hE (s, π, (.ref (D.1 0)), (D.1 8))).2) (k := k) (by omega)) rfl (by decide) (Nat.le_of_ble_eq_true rfl) rfl ?_
    have := pQ_l hp hs (k := (20 + k)) (by omega)
    refine ax_top (show Value.int (pProp pl s (20 + k)) = .int (nI (pQ pl s (20 + k))) from congrArg Value.int (pQ_e hp hs (by omega))) ?_
    refine ax_cV1 (pc := 45) (kb := 0) (nb := 0) G (ct_left hA (a := a) (pQ pl s (20 + k)) (by omega)) lVX2_172_1 dX2_couldBegin_45 sH_obj rfl (by decide) (Nat.le_of_ble_eq_true rfl) rfl ?_
    refine ax_aload_n (pc := 48) G dX2_couldBegin_48 rfl rfl ?_
    refine ax_cVU1 (pc := 49) (kb := 0) (nb := 0) G (ct_proposal_14 hA (alO (pl := pl) ((hE (s, π, (.ref (D.1 0)), (D.1 8))).2) (k := k) (by omega))) lVUX2_228_14 dX2_couldBegin_49 (alO (pl := pl) ((hE (s, π, (.ref (D.1 0)), (D.1 8))).2) (k := k) (by omega)) rfl (by decide) (Nat.le_of_ble_eq_true rfl) rfl ?_
    have := pQ_l hp hs (k := (20 + k)) (by omega)
    refine ax_top (show Value.int (pProp pl s (20 + k)) = .int (nI (pQ pl s (20 + k))) from congrArg Value.int (pQ_e hp hs (by omega))) ?_
    refine ax_aload_n (pc := 52) G dX2_couldBegin_52 rfl rfl ?_
    refine ax_getf (pc := 53) (v := .ref w) G flX2_221_6 dX2_couldBegin_53 (sH_pe (k := 17) (by decide) (by decide) (show (π : Nat → cP) 1 = (.ref w, u) from hπ)) rfl ?_
    refine wk_proposal (pc := 56) G (hw _) lJX2_167_13 lJX2_167_14 dX2_couldBegin_56 (by decide) (Nat.le_of_ble_eq_true rfl) ?_
    have := pQ_l hp hs (k := vi) (by omega)
    refine ax_top (show Value.int (pProp pl s vi) = .int (nI (pQ pl s vi)) from congrArg Value.int (pQ_e hp hs (by omega))) ?_
    have J70 : ax_W Ω Γ 0 0 (sH h a (s, π, (.ref (D.1 0)), (D.1 8))) 70 [some (.ref a), some (.ref (a + 17)), some (.ref (D.2.1 3 k)), some (.int (nI k)), some (.int ((pFrom pl s (20 + k)) - (u 5))), some (.int ((if 0 < u 3 then nI 0 else s 3) + (pGrows pl s vi ((pFrom pl s (20 + k)) - (u 5))))), none] [.int (if pQ pl s (20 + k) = pQ pl s vi then pFrom pl s (20 + k) - u 5 else nI 0), .int (pLeft s (pQ pl s (20 + k)))] := by
      refine ax_isub (pc := 70) G dX2_couldBegin_70 ?_
      refine ax_istore (pc := 71) G dX2_couldBegin_71 (Nat.le_of_ble_eq_true rfl) rfl ?_
      refine ax_aload_n (pc := 73) G dX2_couldBegin_73 rfl rfl ?_
      refine sr_get (pc := 74) (v := .ref (a + 18)) G flX2_77_1 dX2_couldBegin_74 rfl ?_
      refine ax_aload_n (pc := 77) G dX2_couldBegin_77 rfl rfl ?_
      refine sr_get (pc := 78) (v := .ref (D.1 0)) G flX2_80_1 dX2_couldBegin_78 rfl ?_
      refine ax_aload_n (pc := 81) G dX2_couldBegin_81 rfl rfl ?_
      refine ax_iload_n (pc := 82) G dX2_couldBegin_82 rfl rfl ?_
      refine ax_iconst (pc := 83) (v := nI 1) G dX2_couldBegin_83 ic_1 ?_
      refine ax_aload_n (pc := 84) G dX2_couldBegin_84 rfl rfl ?_
      refine ax_getf (pc := 85) (v := .int (pFrom pl s (20 + k))) G flX2_207_14 dX2_couldBegin_85 (alO (pl := pl) ((hE (s, π, (.ref (D.1 0)), (D.1 8))).2) (k := k) (by omega)) rfl ?_
      refine ax_iload (pc := 88) G dX2_couldBegin_88 rfl ?_
      refine ax_aload_n (pc := 90) G dX2_couldBegin_90 rfl rfl ?_
      refine ax_getf (pc := 91) (v := .ref w) G flX2_221_6 dX2_couldBegin_91 (sH_pe (k := 17) (by decide) (by decide) (show (π : Nat → cP) 1 = (.ref w, u) from hπ)) rfl ?_
      refine wk_lon (pc := 94) G (hw _) lJX2_229_13 lJX2_229_14 dX2_couldBegin_94 (by decide) (Nat.le_of_ble_eq_true rfl) ?_
      refine ax_aload_n (pc := 99) G dX2_couldBegin_99 rfl rfl ?_
      refine ax_getf (pc := 100) (v := .ref w) G flX2_221_6 dX2_couldBegin_100 (sH_pe (k := 17) (by decide) (by decide) (show (π : Nat → cP) 1 = (.ref w, u) from hπ)) rfl ?_
      refine wk_lat (pc := 103) G (hw _) lJX2_231_13 lJX2_231_14 dX2_couldBegin_103 (by decide) (Nat.le_of_ble_eq_true rfl) ?_
      refine ax_iload (pc := 108) G dX2_couldBegin_108 rfl ?_
      refine ax_cV1 (pc := 110) (kb := 0) (nb := 0) G (ct_layS hA (w := D.2.1 3 k) (k := 20 + k) (r := cRow pl s vi k (u 5) (u 3)) (σ := (s, π, (.ref (D.1 0)), (D.1 8))) (i := 2) (by decide) hp hE (fun σ => ((hE σ).2.wk (pl := pl) (k := k) (by omega)).im (pIm_row) (by omega)) ha (nI k) true ((pLeft s (pQ pl s (20 + k))) - (if pQ pl s (20 + k) = pQ pl s vi then pFrom pl s (20 + k) - u 5 else nI 0))) lVX2_176_6 dX2_couldBegin_110 (sH_pl (k := 18) (by decide) (by decide)) rfl (by decide) (Nat.le_of_ble_eq_true rfl) rfl ?_
      show ax_W Ω Γ _ _ (sH h a (s, cU π 2 (cPl pl (cRow pl s vi k (u 5) (u 3)) (20 + k) O (D.2.1 3 k) (nI k) true ((pLeft s (pQ pl s (20 + k))) - (if pQ pl s (20 + k) = pQ pl s vi then pFrom pl s (20 + k) - u 5 else nI 0))), (.ref (D.1 0)), (D.1 8))) _ _ _
      refine ax_cV1 (pc := 113) (kb := 0) (nb := 0) G (ct_can hA (P := (cPl pl (cRow pl s vi k (u 5) (u 3)) (20 + k) O (D.2.1 3 k) (nI k) true ((pLeft s (pQ pl s (20 + k))) - (if pQ pl s (20 + k) = pQ pl s vi then pFrom pl s (20 + k) - u 5 else nI 0)))) (sH_pe (k := 18) (by decide) (by decide) (show (cU π 2 (cPl pl (cRow pl s vi k (u 5) (u 3)) (20 + k) O (D.2.1 3 k) (nI k) true ((pLeft s (pQ pl s (20 + k))) - (if pQ pl s (20 + k) = pQ pl s vi then pFrom pl s (20 + k) - u 5 else nI 0)))) 2 = (cPl pl (cRow pl s vi k (u 5) (u 3)) (20 + k) O (D.2.1 3 k) (nI k) true ((pLeft s (pQ pl s (20 + k))) - (if pQ pl s (20 + k) = pQ pl s vi then pFrom pl s (20 + k) - u 5 else nI 0))) from cU_e))) lVX2_189_6 dX2_couldBegin_113 (sH_pl (k := 18) (by decide) (by decide)) rfl (by decide) (Nat.le_of_ble_eq_true rfl) rfl ?_
      rw [show (cPl pl (cRow pl s vi k (u 5) (u 3)) (20 + k) O (D.2.1 3 k) (nI k) true ((pLeft s (pQ pl s (20 + k))) - (if pQ pl s (20 + k) = pQ pl s vi then pFrom pl s (20 + k) - u 5 else nI 0))).2 8 = cCb pl s O vi k (u 5) (u 3) from rfl]
      exact ax_iretE (pc := 116) G E rfl (nz_bI _) dX2_couldBegin_116 (rfl) (rfl)
    refine ax_icmp_neN (pc := 61) (tgt := 69) G dX2_couldBegin_61 rfl (by omega) (by omega) (fun c61 => ?_) (fun c61 => ?_)
    · refine ax_iconst (pc := 69) (v := nI 0) G dX2_couldBegin_69 ic_0 ?_
      refine ax_top (show (.int (nI 0) : Value) = .int (if pQ pl s (20 + k) = pQ pl s vi then pFrom pl s (20 + k) - u 5 else nI 0) from congrArg Value.int (by first | (simp only [c61, if_true, if_false, Bool.false_eq_true, not_false_eq_true, not_true_eq_false, decide_true, decide_false, Bool.and_true, Bool.true_and, Bool.and_false, Bool.false_and, Bool.or_true, Bool.true_or, Bool.or_false, Bool.false_or, and_self, and_true, true_and, and_false, false_and, or_true, true_or, or_false, false_or, ne_eq]; done) | (simp only [c61, if_true, if_false, Bool.false_eq_true, not_false_eq_true, not_true_eq_false, decide_true, decide_false, Bool.and_true, Bool.true_and, Bool.and_false, Bool.false_and, Bool.or_true, Bool.true_or, Bool.or_false, Bool.false_or, and_self, and_true, true_and, and_false, false_and, or_true, true_or, or_false, false_or, ne_eq]; rfl))) ?_
      exact J70
    · refine ax_iload (pc := 64) G dX2_couldBegin_64 rfl ?_
      refine ax_goto (pc := 66) (tgt := 70) G dX2_couldBegin_66 rfl ?_
      refine ax_top (show (.int ((pFrom pl s (20 + k)) - (u 5)) : Value) = .int (if pQ pl s (20 + k) = pQ pl s vi then pFrom pl s (20 + k) - u 5 else nI 0) from congrArg Value.int (by first | (simp only [c61, if_true, if_false, Bool.false_eq_true, not_false_eq_true, not_true_eq_false, decide_true, decide_false, Bool.and_true, Bool.true_and, Bool.and_false, Bool.false_and, Bool.or_true, Bool.true_or, Bool.or_false, Bool.false_or, and_self, and_true, true_and, and_false, false_and, or_true, true_or, or_false, false_or, ne_eq]; done) | (simp only [c61, if_true, if_false, Bool.false_eq_true, not_false_eq_true, not_true_eq_false, decide_true, decide_false, Bool.and_true, Bool.true_and, Bool.and_false, Bool.false_and, Bool.or_true, Bool.true_or, Bool.or_false, Bool.false_or, and_self, and_true, true_and, and_false, false_and, or_true, true_or, or_false, false_or, ne_eq]; rfl) | (simp only [if_pos c61, decide_eq_true c61, if_true, if_false, Bool.false_eq_true, not_false_eq_true, not_true_eq_false, decide_true, decide_false, Bool.and_true, Bool.true_and, Bool.and_false, Bool.false_and, Bool.or_true, Bool.true_or, Bool.or_false, Bool.false_or, and_self, and_true, true_and, and_false, false_and, or_true, true_or, or_false, false_or, ne_eq]; done) | (simp only [if_pos c61, decide_eq_true c61, if_true, if_false, Bool.false_eq_true, not_false_eq_true, not_true_eq_false, decide_true, decide_false, Bool.and_true, Bool.true_and, Bool.and_false, Bool.false_and, Bool.or_true, Bool.true_or, Bool.or_false, Bool.false_or, and_self, and_true, true_and, and_false, false_and, or_true, true_or, or_false, false_or, ne_eq]; rfl))) ?_
      exact J70
  refine ax_if_le (pc := 15) (tgt := 22) G dX2_couldBegin_15 rfl (fun c15 => ?_) (fun c15 => ?_)
  · refine ax_aload_n (pc := 22) G dX2_couldBegin_22 rfl rfl ?_
    refine sr_get (pc := 23) (v := .int (s 3)) G flX2_139_1 dX2_couldBegin_23 rfl ?_
    refine ax_top (show (.int (s 3) : Value) = .int (if 0 < u 3 then nI 0 else s 3) from congrArg Value.int (by first | (simp only [c15, Int32.not_lt.mpr c15, if_true, if_false, Bool.false_eq_true, not_false_eq_true, not_true_eq_false, decide_true, decide_false, Bool.and_true, Bool.true_and, Bool.and_false, Bool.false_and, Bool.or_true, Bool.true_or, Bool.or_false, Bool.false_or, and_self, and_true, true_and, and_false, false_and, or_true, true_or, or_false, false_or, ne_eq]; done) | (simp only [c15, Int32.not_lt.mpr c15, if_true, if_false, Bool.false_eq_true, not_false_eq_true, not_true_eq_false, decide_true, decide_false, Bool.and_true, Bool.true_and, Bool.and_false, Bool.false_and, Bool.or_true, Bool.true_or, Bool.or_false, Bool.false_or, and_self, and_true, true_and, and_false, false_and, or_true, true_or, or_false, false_or, ne_eq]; rfl))) ?_
    exact J26
  · refine ax_iconst (pc := 18) (v := nI 0) G dX2_couldBegin_18 ic_0 ?_
    refine ax_goto (pc := 19) (tgt := 26) G dX2_couldBegin_19 rfl ?_
    refine ax_top (show (.int (nI 0) : Value) = .int (if 0 < u 3 then nI 0 else s 3) from congrArg Value.int (by first | (simp only [c15, Int32.not_le.mp c15, if_true, if_false, Bool.false_eq_true, not_false_eq_true, not_true_eq_false, decide_true, decide_false, Bool.and_true, Bool.true_and, Bool.and_false, Bool.false_and, Bool.or_true, Bool.true_or, Bool.or_false, Bool.false_or, and_self, and_true, true_and, and_false, false_and, or_true, true_or, or_false, false_or, ne_eq]; done) | (simp only [c15, Int32.not_le.mp c15, if_true, if_false, Bool.false_eq_true, not_false_eq_true, not_true_eq_false, decide_true, decide_false, Bool.and_true, Bool.true_and, Bool.and_false, Bool.false_and, Bool.or_true, Bool.true_or, Bool.or_false, Bool.false_or, and_self, and_true, true_and, and_false, false_and, or_true, true_or, or_false, false_or, ne_eq]; rfl))) ?_
    exact J26

theorem ct_interrupting_0 {Ω : ax_O} (hA : ax_Amb Ω) {h : ax_H} {a : Nat} {pl s : pR} {π : Nat → cP} {N V O A : Nat} {D : cD} (ha : Ω.2.1.heap.size ≤ a) (hp : pWP pl N V O) (hs : pWS s A) (hE : cEn h a pl s N V O A D) {w vi : Nat} {u : Nat → Int32} (hv20 : vi < 20) (hw : ∀ σ, cWk (sH h a σ) w pl s vi) {P0 P1 : cP} (e0 : π 0 = P0) (e1 : π 1 = P1) (hπ : P0 = (.ref w, u))  : ax_MetP Ω yX2_interrupting 10 0 0 [.ref a, .ref (a + 16)] (sH h a (s, π, (.ref (D.1 0)), (D.1 8))) (ax_Nm (fun v h' => v = some (.int (oI (cFB pl s O vi (u 5) (u 6) (u 3) A))) ∧ ∃ π', h' = sH h a (s, π', .ref (D.1 0), D.1 8) ∧ π' 0 = P0 ∧ π' 1 = P1)) := by
  refine ax_metP q1975 q114 (by decide +kernel) (by decide) hA (Nat.le_of_ble_eq_true rfl) (fun Γ G E => ?_)
  have hV9 := hp.lV
  have hA9 := hs.lA
  have hO9 := hp.lO
  have L0 : ∀ (n i : Nat) (π : Nat → cP) (l3 : Option Value), i + n = A → (π 0 = P0 ∧ π 1 = P1) → ax_W Ω Γ 0 0 (sH h a (s, π, (.ref (D.1 0)), (D.1 8))) 4 [some (.ref a), some (.ref (a + 16)), some (.int (oI (cFB pl s O vi (u 5) (u 6) (u 3) i))), some (.int (nI i)), l3] [] := by
    intro n
    induction n with
    | zero =>
      intro i π l3 hi hv
      have hi9 : A = i := by omega
      subst hi9
      refine ax_iload_n (pc := 4) G dX2_interrupting_4 rfl rfl ?_
      refine ax_aload_n (pc := 5) G dX2_interrupting_5 rfl rfl ?_
      refine sr_get (pc := 6) (v := .ref (a + 2)) G flX2_26_1 dX2_interrupting_6 rfl ?_
      refine ax_cJ1 (pc := 9) (kb := 0) (nb := 0) G (ct_lsize hA ((hE (s, π, (.ref (D.1 0)), (D.1 8))).2.1).1) lJX2_89_16 dX2_interrupting_9 (((hE (s, π, (.ref (D.1 0)), (D.1 8))).2.1).1) rfl (by decide) (Nat.le_of_ble_eq_true rfl) rfl ?_
      refine ax_icmp_geN (pc := 14) (tgt := 119) G dX2_interrupting_14 rfl (by omega) (by omega) (fun c14 => ?_) (fun c14 => ?_)
      · refine ax_iload_n (pc := 119) G dX2_interrupting_119 rfl rfl ?_
        exact ax_iretP (pc := 120) G E rfl (rfl) dX2_interrupting_120 (⟨_, rfl, rfl, π, rfl, hv⟩)
      · omega
    | succ n ih =>
      intro i π l3 hi hv
      rcases e : cFB pl s O vi (u 5) (u 6) (u 3) i with _ | o
      · show ax_W Ω Γ _ _ _ _ [some (.ref a), some (.ref (a + 16)), some (.int (-1)), some (.int (nI i)), l3] _
        refine ax_iload_n (pc := 4) G dX2_interrupting_4 rfl rfl ?_
        refine ax_aload_n (pc := 5) G dX2_interrupting_5 rfl rfl ?_
        refine sr_get (pc := 6) (v := .ref (a + 2)) G flX2_26_1 dX2_interrupting_6 rfl ?_
        refine ax_cJ1 (pc := 9) (kb := 0) (nb := 0) G (ct_lsize hA ((hE (s, π, (.ref (D.1 0)), (D.1 8))).2.1).1) lJX2_89_16 dX2_interrupting_9 (((hE (s, π, (.ref (D.1 0)), (D.1 8))).2.1).1) rfl (by decide) (Nat.le_of_ble_eq_true rfl) rfl ?_
        refine ax_icmp_geN (pc := 14) (tgt := 119) G dX2_interrupting_14 rfl (by omega) (by omega) (fun c14 => ?_) (fun c14 => ?_)
        · omega
        · refine ax_aload_n (pc := 17) G dX2_interrupting_17 rfl rfl ?_
          refine sr_get (pc := 18) (v := .ref (a + 2)) G flX2_26_1 dX2_interrupting_18 rfl ?_
          refine ax_iload_n (pc := 21) G dX2_interrupting_21 rfl rfl ?_
          refine ax_cJ1 (pc := 22) (kb := 0) (nb := 0) G (ct_lget hA ((hE (s, π, (.ref (D.1 0)), (D.1 8))).2.1).1 ((hE (s, π, (.ref (D.1 0)), (D.1 8))).2.1).2.1 (q := D.2.1 3 i) i (by omega) ((hE (s, π, (.ref (D.1 0)), (D.1 8))).2.1).2.2.1 ((hE (s, π, (.ref (D.1 0)), (D.1 8))).2.1).2.2.2.1 (((hE (s, π, (.ref (D.1 0)), (D.1 8))).2.1).2.2.2.2 i (by omega))) lJX2_95_16 dX2_interrupting_22 (((hE (s, π, (.ref (D.1 0)), (D.1 8))).2.1).1) rfl (by decide) (Nat.le_of_ble_eq_true rfl) rfl ?_
          refine ax_checkcast (pc := 27) G q1961 ⟨_, rfl, Or.inl rfl⟩ dX2_interrupting_27 (alO (pl := pl) ((hE (s, π, (.ref (D.1 0)), (D.1 8))).2) (k := i) (by omega)) ?_
          refine ax_astore (pc := 30) G dX2_interrupting_30 (Nat.le_of_ble_eq_true rfl) rfl ?_
          refine ax_aload_n (pc := 32) G dX2_interrupting_32 rfl rfl ?_
          refine sr_get (pc := 33) (v := .ref (a + 12)) G flX2_55_1 dX2_interrupting_33 rfl ?_
          refine ax_iload_n (pc := 36) G dX2_interrupting_36 rfl rfl ?_
          refine sr_ld (pc := 37) (k := 12) (j := i) (r := 127 + 10 * i + 7) G dX2_interrupting_37 (by decide) (by decide) rfl rfl (show i < 10 by omega) ?_
          show ax_W Ω Γ _ _ _ _ _ (.int (s (127 + 10 * i + 7)) :: _)
          refine ax_if_ne (pc := 38) (tgt := 113) G dX2_interrupting_38 rfl (fun c38 => ?_) (fun c38 => ?_)
          · refine ax_iincN (pc := 113) (n := 1) G dX2_interrupting_113 rfl rfl ic_1 ?_
            refine ax_goto (pc := 116) (tgt := 4) G dX2_interrupting_116 rfl ?_
            have eX : cFB pl s O vi (u 5) (u 6) (u 3) (i + 1) = none := by first | (simp only [cFB, cFBS, e, c14, c38, if_true, if_false, Bool.false_eq_true, not_false_eq_true, not_true_eq_false, decide_true, decide_false, Bool.and_true, Bool.true_and, Bool.and_false, Bool.false_and, Bool.or_true, Bool.true_or, Bool.or_false, Bool.false_or, and_self, and_true, true_and, and_false, false_and, or_true, true_or, or_false, false_or, ne_eq]; done) | (simp only [cFB, cFBS, e, c14, c38, if_true, if_false, Bool.false_eq_true, not_false_eq_true, not_true_eq_false, decide_true, decide_false, Bool.and_true, Bool.true_and, Bool.and_false, Bool.false_and, Bool.or_true, Bool.true_or, Bool.or_false, Bool.false_or, and_self, and_true, true_and, and_false, false_and, or_true, true_or, or_false, false_or, ne_eq]; rfl)
            have q := ih (i + 1) (π) (some (.ref (D.2.1 3 i))) (by omega) (by exact hv)
            rw [eX] at q
            exact q
          · refine ax_aload (pc := 41) G dX2_interrupting_41 rfl ?_
            refine ax_getf (pc := 43) (v := .int (pFrom pl s (20 + i))) G flX2_207_14 dX2_interrupting_43 (alO (pl := pl) ((hE (s, π, (.ref (D.1 0)), (D.1 8))).2) (k := i) (by omega)) rfl ?_
            refine ax_aload_n (pc := 46) G dX2_interrupting_46 rfl rfl ?_
            refine ax_getf (pc := 47) (v := .int (u 5)) G flX2_208_6 dX2_interrupting_47 (sH_pe (k := 16) (by decide) (by decide) (show (π : Nat → cP) 0 = (.ref w, u) from hv.1.trans hπ)) rfl ?_
            refine ax_icmp_le (pc := 50) (tgt := 113) G dX2_interrupting_50 rfl (fun c50 => ?_) (fun c50 => ?_)
            · refine ax_iincN (pc := 113) (n := 1) G dX2_interrupting_113 rfl rfl ic_1 ?_
              refine ax_goto (pc := 116) (tgt := 4) G dX2_interrupting_116 rfl ?_
              have eX : cFB pl s O vi (u 5) (u 6) (u 3) (i + 1) = none := by first | (simp only [cFB, cFBS, e, c14, c38, c50, Int32.not_lt.mpr c50, if_true, if_false, Bool.false_eq_true, not_false_eq_true, not_true_eq_false, decide_true, decide_false, Bool.and_true, Bool.true_and, Bool.and_false, Bool.false_and, Bool.or_true, Bool.true_or, Bool.or_false, Bool.false_or, and_self, and_true, true_and, and_false, false_and, or_true, true_or, or_false, false_or, ne_eq]; done) | (simp only [cFB, cFBS, e, c14, c38, c50, Int32.not_lt.mpr c50, if_true, if_false, Bool.false_eq_true, not_false_eq_true, not_true_eq_false, decide_true, decide_false, Bool.and_true, Bool.true_and, Bool.and_false, Bool.false_and, Bool.or_true, Bool.true_or, Bool.or_false, Bool.false_or, and_self, and_true, true_and, and_false, false_and, or_true, true_or, or_false, false_or, ne_eq]; rfl) | (simp only [cFB, cFBS, e, c14, if_pos c38, decide_eq_true c38, c50, Int32.not_lt.mpr c50, if_true, if_false, Bool.false_eq_true, not_false_eq_true, not_true_eq_false, decide_true, decide_false, Bool.and_true, Bool.true_and, Bool.and_false, Bool.false_and, Bool.or_true, Bool.true_or, Bool.or_false, Bool.false_or, and_self, and_true, true_and, and_false, false_and, or_true, true_or, or_false, false_or, ne_eq]; done) | (simp only [cFB, cFBS, e, c14, if_pos c38, decide_eq_true c38, c50, Int32.not_lt.mpr c50, if_true, if_false, Bool.false_eq_true, not_false_eq_true, not_true_eq_false, decide_true, decide_false, Bool.and_true, Bool.true_and, Bool.and_false, Bool.false_and, Bool.or_true, Bool.true_or, Bool.or_false, Bool.false_or, and_self, and_true, true_and, and_false, false_and, or_true, true_or, or_false, false_or, ne_eq]; rfl)
              have q := ih (i + 1) (π) (some (.ref (D.2.1 3 i))) (by omega) (by exact hv)
              rw [eX] at q
              exact q
            · refine ax_aload (pc := 53) G dX2_interrupting_53 rfl ?_
              refine ax_getf (pc := 55) (v := .int (pFrom pl s (20 + i))) G flX2_207_14 dX2_interrupting_55 (alO (pl := pl) ((hE (s, π, (.ref (D.1 0)), (D.1 8))).2) (k := i) (by omega)) rfl ?_
              refine ax_aload_n (pc := 58) G dX2_interrupting_58 rfl rfl ?_
              refine ax_getf (pc := 59) (v := .int (u 6)) G flX2_211_6 dX2_interrupting_59 (sH_pe (k := 16) (by decide) (by decide) (show (π : Nat → cP) 0 = (.ref w, u) from hv.1.trans hπ)) rfl ?_
              refine ax_icmp_lt (pc := 62) (tgt := 68) G dX2_interrupting_62 rfl (fun c62 => ?_) (fun c62 => ?_)
              · refine ax_iload_n (pc := 68) G dX2_interrupting_68 rfl rfl ?_
                refine ax_iconst (pc := 69) (v := (-1)) G dX2_interrupting_69 (by decide) ?_
                refine ax_icmp_eq (pc := 70) (tgt := 100) G dX2_interrupting_70 rfl (fun _ => ?_) (fun c9 => absurd rfl c9)
                refine ax_aload_n (pc := 100) G dX2_interrupting_100 rfl rfl ?_
                refine ax_aload_n (pc := 101) G dX2_interrupting_101 rfl rfl ?_
                refine ax_aload (pc := 102) G dX2_interrupting_102 rfl ?_
                refine ax_iload_n (pc := 104) G dX2_interrupting_104 rfl rfl ?_
                refine ax_cV1 (pc := 105) (kb := 0) (nb := 0) G (ct_couldBegin_0 hA (π := π) ha hp hs hE hv20 hw (hv.1.trans hπ) i (by omega)) lVX2_214_1 dX2_interrupting_105 sH_obj rfl (by decide) (Nat.le_of_ble_eq_true rfl) rfl ?_
                show ax_W Ω Γ _ _ (sH h a (s, cU π 2 (cPl pl (cRow pl s vi i (u 5) (u 3)) (20 + i) O (D.2.1 3 i) (nI i) true (cLf pl s vi i (u 5))), (.ref (D.1 0)), (D.1 8))) _ _ _
                refine ax_if_eq (pc := 108) (tgt := 113) G dX2_interrupting_108 rfl (fun c108 => ?_) (fun c108 => ?_)
                · have c108b := bI_f c108
                  refine ax_iincN (pc := 113) (n := 1) G dX2_interrupting_113 rfl rfl ic_1 ?_
                  refine ax_goto (pc := 116) (tgt := 4) G dX2_interrupting_116 rfl ?_
                  have eX : cFB pl s O vi (u 5) (u 6) (u 3) (i + 1) = none := by first | (simp only [cFB, cFBS, e, c14, c38, c50, Int32.not_le.mp c50, c62, Int32.not_le.mpr c62, c108b, (of_decide_eq_false c108b), if_true, if_false, Bool.false_eq_true, not_false_eq_true, not_true_eq_false, decide_true, decide_false, Bool.and_true, Bool.true_and, Bool.and_false, Bool.false_and, Bool.or_true, Bool.true_or, Bool.or_false, Bool.false_or, and_self, and_true, true_and, and_false, false_and, or_true, true_or, or_false, false_or, ne_eq]; done) | (simp only [cFB, cFBS, e, c14, c38, c50, Int32.not_le.mp c50, c62, Int32.not_le.mpr c62, c108b, (of_decide_eq_false c108b), if_true, if_false, Bool.false_eq_true, not_false_eq_true, not_true_eq_false, decide_true, decide_false, Bool.and_true, Bool.true_and, Bool.and_false, Bool.false_and, Bool.or_true, Bool.true_or, Bool.or_false, Bool.false_or, and_self, and_true, true_and, and_false, false_and, or_true, true_or, or_false, false_or, ne_eq]; rfl) | (simp only [cFB, cFBS, e, c14, if_pos c38, decide_eq_true c38, c50, Int32.not_le.mp c50, c62, Int32.not_le.mpr c62, c108b, (of_decide_eq_false c108b), if_true, if_false, Bool.false_eq_true, not_false_eq_true, not_true_eq_false, decide_true, decide_false, Bool.and_true, Bool.true_and, Bool.and_false, Bool.false_and, Bool.or_true, Bool.true_or, Bool.or_false, Bool.false_or, and_self, and_true, true_and, and_false, false_and, or_true, true_or, or_false, false_or, ne_eq]; done) | (simp only [cFB, cFBS, e, c14, if_pos c38, decide_eq_true c38, c50, Int32.not_le.mp c50, c62, Int32.not_le.mpr c62, c108b, (of_decide_eq_false c108b), if_true, if_false, Bool.false_eq_true, not_false_eq_true, not_true_eq_false, decide_true, decide_false, Bool.and_true, Bool.true_and, Bool.and_false, Bool.false_and, Bool.or_true, Bool.true_or, Bool.or_false, Bool.false_or, and_self, and_true, true_and, and_false, false_and, or_true, true_or, or_false, false_or, ne_eq]; rfl)
                  have q := ih (i + 1) (cU π 2 (cPl pl (cRow pl s vi i (u 5) (u 3)) (20 + i) O (D.2.1 3 i) (nI i) true (cLf pl s vi i (u 5)))) (some (.ref (D.2.1 3 i))) (by omega) (by exact ⟨(cU_n (by decide)).trans hv.1, (cU_n (by decide)).trans hv.2⟩)
                  rw [eX] at q
                  exact q
                · have c108b := bI_t c108
                  refine ax_iload_n (pc := 111) G dX2_interrupting_111 rfl rfl ?_
                  refine ax_istore_n (pc := 112) G dX2_interrupting_112 rfl (Nat.le_of_ble_eq_true rfl) rfl ?_
                  refine ax_iincN (pc := 113) (n := 1) G dX2_interrupting_113 rfl rfl ic_1 ?_
                  refine ax_goto (pc := 116) (tgt := 4) G dX2_interrupting_116 rfl ?_
                  have eX : cFB pl s O vi (u 5) (u 6) (u 3) (i + 1) = some (i) := by first | (simp only [cFB, cFBS, e, c14, c38, c50, Int32.not_le.mp c50, c62, Int32.not_le.mpr c62, c108b, (of_decide_eq_true c108b), if_true, if_false, Bool.false_eq_true, not_false_eq_true, not_true_eq_false, decide_true, decide_false, Bool.and_true, Bool.true_and, Bool.and_false, Bool.false_and, Bool.or_true, Bool.true_or, Bool.or_false, Bool.false_or, and_self, and_true, true_and, and_false, false_and, or_true, true_or, or_false, false_or, ne_eq]; done) | (simp only [cFB, cFBS, e, c14, c38, c50, Int32.not_le.mp c50, c62, Int32.not_le.mpr c62, c108b, (of_decide_eq_true c108b), if_true, if_false, Bool.false_eq_true, not_false_eq_true, not_true_eq_false, decide_true, decide_false, Bool.and_true, Bool.true_and, Bool.and_false, Bool.false_and, Bool.or_true, Bool.true_or, Bool.or_false, Bool.false_or, and_self, and_true, true_and, and_false, false_and, or_true, true_or, or_false, false_or, ne_eq]; rfl) | (simp only [cFB, cFBS, e, c14, if_pos c38, decide_eq_true c38, c50, Int32.not_le.mp c50, c62, Int32.not_le.mpr c62, c108b, if_pos (of_decide_eq_true c108b), decide_eq_true (of_decide_eq_true c108b), if_true, if_false, Bool.false_eq_true, not_false_eq_true, not_true_eq_false, decide_true, decide_false, Bool.and_true, Bool.true_and, Bool.and_false, Bool.false_and, Bool.or_true, Bool.true_or, Bool.or_false, Bool.false_or, and_self, and_true, true_and, and_false, false_and, or_true, true_or, or_false, false_or, ne_eq]; done) | (simp only [cFB, cFBS, e, c14, if_pos c38, decide_eq_true c38, c50, Int32.not_le.mp c50, c62, Int32.not_le.mpr c62, c108b, if_pos (of_decide_eq_true c108b), decide_eq_true (of_decide_eq_true c108b), if_true, if_false, Bool.false_eq_true, not_false_eq_true, not_true_eq_false, decide_true, decide_false, Bool.and_true, Bool.true_and, Bool.and_false, Bool.false_and, Bool.or_true, Bool.true_or, Bool.or_false, Bool.false_or, and_self, and_true, true_and, and_false, false_and, or_true, true_or, or_false, false_or, ne_eq]; rfl)
                  have q := ih (i + 1) (cU π 2 (cPl pl (cRow pl s vi i (u 5) (u 3)) (20 + i) O (D.2.1 3 i) (nI i) true (cLf pl s vi i (u 5)))) (some (.ref (D.2.1 3 i))) (by omega) (by exact ⟨(cU_n (by decide)).trans hv.1, (cU_n (by decide)).trans hv.2⟩)
                  rw [eX] at q
                  exact q
              · refine ax_goto (pc := 65) (tgt := 113) G dX2_interrupting_65 rfl ?_
                refine ax_iincN (pc := 113) (n := 1) G dX2_interrupting_113 rfl rfl ic_1 ?_
                refine ax_goto (pc := 116) (tgt := 4) G dX2_interrupting_116 rfl ?_
                have eX : cFB pl s O vi (u 5) (u 6) (u 3) (i + 1) = none := by first | (simp only [cFB, cFBS, e, c14, c38, c50, Int32.not_le.mp c50, c62, Int32.not_lt.mp c62, if_true, if_false, Bool.false_eq_true, not_false_eq_true, not_true_eq_false, decide_true, decide_false, Bool.and_true, Bool.true_and, Bool.and_false, Bool.false_and, Bool.or_true, Bool.true_or, Bool.or_false, Bool.false_or, and_self, and_true, true_and, and_false, false_and, or_true, true_or, or_false, false_or, ne_eq]; done) | (simp only [cFB, cFBS, e, c14, c38, c50, Int32.not_le.mp c50, c62, Int32.not_lt.mp c62, if_true, if_false, Bool.false_eq_true, not_false_eq_true, not_true_eq_false, decide_true, decide_false, Bool.and_true, Bool.true_and, Bool.and_false, Bool.false_and, Bool.or_true, Bool.true_or, Bool.or_false, Bool.false_or, and_self, and_true, true_and, and_false, false_and, or_true, true_or, or_false, false_or, ne_eq]; rfl) | (simp only [cFB, cFBS, e, c14, if_pos c38, decide_eq_true c38, c50, Int32.not_le.mp c50, c62, Int32.not_lt.mp c62, if_true, if_false, Bool.false_eq_true, not_false_eq_true, not_true_eq_false, decide_true, decide_false, Bool.and_true, Bool.true_and, Bool.and_false, Bool.false_and, Bool.or_true, Bool.true_or, Bool.or_false, Bool.false_or, and_self, and_true, true_and, and_false, false_and, or_true, true_or, or_false, false_or, ne_eq]; done) | (simp only [cFB, cFBS, e, c14, if_pos c38, decide_eq_true c38, c50, Int32.not_le.mp c50, c62, Int32.not_lt.mp c62, if_true, if_false, Bool.false_eq_true, not_false_eq_true, not_true_eq_false, decide_true, decide_false, Bool.and_true, Bool.true_and, Bool.and_false, Bool.false_and, Bool.or_true, Bool.true_or, Bool.or_false, Bool.false_or, and_self, and_true, true_and, and_false, false_and, or_true, true_or, or_false, false_or, ne_eq]; rfl)
                have q := ih (i + 1) (π) (some (.ref (D.2.1 3 i))) (by omega) (by exact hv)
                rw [eX] at q
                exact q
      · have ho := cFB_l e
        show ax_W Ω Γ _ _ _ _ [some (.ref a), some (.ref (a + 16)), some (.int (nI o)), some (.int (nI i)), l3] _
        refine ax_iload_n (pc := 4) G dX2_interrupting_4 rfl rfl ?_
        refine ax_aload_n (pc := 5) G dX2_interrupting_5 rfl rfl ?_
        refine sr_get (pc := 6) (v := .ref (a + 2)) G flX2_26_1 dX2_interrupting_6 rfl ?_
        refine ax_cJ1 (pc := 9) (kb := 0) (nb := 0) G (ct_lsize hA ((hE (s, π, (.ref (D.1 0)), (D.1 8))).2.1).1) lJX2_89_16 dX2_interrupting_9 (((hE (s, π, (.ref (D.1 0)), (D.1 8))).2.1).1) rfl (by decide) (Nat.le_of_ble_eq_true rfl) rfl ?_
        refine ax_icmp_geN (pc := 14) (tgt := 119) G dX2_interrupting_14 rfl (by omega) (by omega) (fun c14 => ?_) (fun c14 => ?_)
        · omega
        · refine ax_aload_n (pc := 17) G dX2_interrupting_17 rfl rfl ?_
          refine sr_get (pc := 18) (v := .ref (a + 2)) G flX2_26_1 dX2_interrupting_18 rfl ?_
          refine ax_iload_n (pc := 21) G dX2_interrupting_21 rfl rfl ?_
          refine ax_cJ1 (pc := 22) (kb := 0) (nb := 0) G (ct_lget hA ((hE (s, π, (.ref (D.1 0)), (D.1 8))).2.1).1 ((hE (s, π, (.ref (D.1 0)), (D.1 8))).2.1).2.1 (q := D.2.1 3 i) i (by omega) ((hE (s, π, (.ref (D.1 0)), (D.1 8))).2.1).2.2.1 ((hE (s, π, (.ref (D.1 0)), (D.1 8))).2.1).2.2.2.1 (((hE (s, π, (.ref (D.1 0)), (D.1 8))).2.1).2.2.2.2 i (by omega))) lJX2_95_16 dX2_interrupting_22 (((hE (s, π, (.ref (D.1 0)), (D.1 8))).2.1).1) rfl (by decide) (Nat.le_of_ble_eq_true rfl) rfl ?_
          refine ax_checkcast (pc := 27) G q1961 ⟨_, rfl, Or.inl rfl⟩ dX2_interrupting_27 (alO (pl := pl) ((hE (s, π, (.ref (D.1 0)), (D.1 8))).2) (k := i) (by omega)) ?_
          refine ax_astore (pc := 30) G dX2_interrupting_30 (Nat.le_of_ble_eq_true rfl) rfl ?_
          refine ax_aload_n (pc := 32) G dX2_interrupting_32 rfl rfl ?_
          refine sr_get (pc := 33) (v := .ref (a + 12)) G flX2_55_1 dX2_interrupting_33 rfl ?_
          refine ax_iload_n (pc := 36) G dX2_interrupting_36 rfl rfl ?_
          refine sr_ld (pc := 37) (k := 12) (j := i) (r := 127 + 10 * i + 7) G dX2_interrupting_37 (by decide) (by decide) rfl rfl (show i < 10 by omega) ?_
          show ax_W Ω Γ _ _ _ _ _ (.int (s (127 + 10 * i + 7)) :: _)
          refine ax_if_ne (pc := 38) (tgt := 113) G dX2_interrupting_38 rfl (fun c38 => ?_) (fun c38 => ?_)
          · refine ax_iincN (pc := 113) (n := 1) G dX2_interrupting_113 rfl rfl ic_1 ?_
            refine ax_goto (pc := 116) (tgt := 4) G dX2_interrupting_116 rfl ?_
            have eX : cFB pl s O vi (u 5) (u 6) (u 3) (i + 1) = some (o) := by first | (simp only [cFB, cFBS, e, c14, c38, if_true, if_false, Bool.false_eq_true, not_false_eq_true, not_true_eq_false, decide_true, decide_false, Bool.and_true, Bool.true_and, Bool.and_false, Bool.false_and, Bool.or_true, Bool.true_or, Bool.or_false, Bool.false_or, and_self, and_true, true_and, and_false, false_and, or_true, true_or, or_false, false_or, ne_eq]; done) | (simp only [cFB, cFBS, e, c14, c38, if_true, if_false, Bool.false_eq_true, not_false_eq_true, not_true_eq_false, decide_true, decide_false, Bool.and_true, Bool.true_and, Bool.and_false, Bool.false_and, Bool.or_true, Bool.true_or, Bool.or_false, Bool.false_or, and_self, and_true, true_and, and_false, false_and, or_true, true_or, or_false, false_or, ne_eq]; rfl)
            have q := ih (i + 1) (π) (some (.ref (D.2.1 3 i))) (by omega) (by exact hv)
            rw [eX] at q
            exact q
          · refine ax_aload (pc := 41) G dX2_interrupting_41 rfl ?_
            refine ax_getf (pc := 43) (v := .int (pFrom pl s (20 + i))) G flX2_207_14 dX2_interrupting_43 (alO (pl := pl) ((hE (s, π, (.ref (D.1 0)), (D.1 8))).2) (k := i) (by omega)) rfl ?_
            refine ax_aload_n (pc := 46) G dX2_interrupting_46 rfl rfl ?_
            refine ax_getf (pc := 47) (v := .int (u 5)) G flX2_208_6 dX2_interrupting_47 (sH_pe (k := 16) (by decide) (by decide) (show (π : Nat → cP) 0 = (.ref w, u) from hv.1.trans hπ)) rfl ?_
            refine ax_icmp_le (pc := 50) (tgt := 113) G dX2_interrupting_50 rfl (fun c50 => ?_) (fun c50 => ?_)
            · refine ax_iincN (pc := 113) (n := 1) G dX2_interrupting_113 rfl rfl ic_1 ?_
              refine ax_goto (pc := 116) (tgt := 4) G dX2_interrupting_116 rfl ?_
              have eX : cFB pl s O vi (u 5) (u 6) (u 3) (i + 1) = some (o) := by first | (simp only [cFB, cFBS, e, c14, c38, c50, Int32.not_lt.mpr c50, if_true, if_false, Bool.false_eq_true, not_false_eq_true, not_true_eq_false, decide_true, decide_false, Bool.and_true, Bool.true_and, Bool.and_false, Bool.false_and, Bool.or_true, Bool.true_or, Bool.or_false, Bool.false_or, and_self, and_true, true_and, and_false, false_and, or_true, true_or, or_false, false_or, ne_eq]; done) | (simp only [cFB, cFBS, e, c14, c38, c50, Int32.not_lt.mpr c50, if_true, if_false, Bool.false_eq_true, not_false_eq_true, not_true_eq_false, decide_true, decide_false, Bool.and_true, Bool.true_and, Bool.and_false, Bool.false_and, Bool.or_true, Bool.true_or, Bool.or_false, Bool.false_or, and_self, and_true, true_and, and_false, false_and, or_true, true_or, or_false, false_or, ne_eq]; rfl) | (simp only [cFB, cFBS, e, c14, if_pos c38, decide_eq_true c38, c50, Int32.not_lt.mpr c50, if_true, if_false, Bool.false_eq_true, not_false_eq_true, not_true_eq_false, decide_true, decide_false, Bool.and_true, Bool.true_and, Bool.and_false, Bool.false_and, Bool.or_true, Bool.true_or, Bool.or_false, Bool.false_or, and_self, and_true, true_and, and_false, false_and, or_true, true_or, or_false, false_or, ne_eq]; done) | (simp only [cFB, cFBS, e, c14, if_pos c38, decide_eq_true c38, c50, Int32.not_lt.mpr c50, if_true, if_false, Bool.false_eq_true, not_false_eq_true, not_true_eq_false, decide_true, decide_false, Bool.and_true, Bool.true_and, Bool.and_false, Bool.false_and, Bool.or_true, Bool.true_or, Bool.or_false, Bool.false_or, and_self, and_true, true_and, and_false, false_and, or_true, true_or, or_false, false_or, ne_eq]; rfl)
              have q := ih (i + 1) (π) (some (.ref (D.2.1 3 i))) (by omega) (by exact hv)
              rw [eX] at q
              exact q
            · refine ax_aload (pc := 53) G dX2_interrupting_53 rfl ?_
              refine ax_getf (pc := 55) (v := .int (pFrom pl s (20 + i))) G flX2_207_14 dX2_interrupting_55 (alO (pl := pl) ((hE (s, π, (.ref (D.1 0)), (D.1 8))).2) (k := i) (by omega)) rfl ?_
              refine ax_aload_n (pc := 58) G dX2_interrupting_58 rfl rfl ?_
              refine ax_getf (pc := 59) (v := .int (u 6)) G flX2_211_6 dX2_interrupting_59 (sH_pe (k := 16) (by decide) (by decide) (show (π : Nat → cP) 0 = (.ref w, u) from hv.1.trans hπ)) rfl ?_
              refine ax_icmp_lt (pc := 62) (tgt := 68) G dX2_interrupting_62 rfl (fun c62 => ?_) (fun c62 => ?_)
              · refine ax_iload_n (pc := 68) G dX2_interrupting_68 rfl rfl ?_
                refine ax_iconst (pc := 69) (v := (-1)) G dX2_interrupting_69 (by decide) ?_
                refine ax_icmp_eq (pc := 70) (tgt := 100) G dX2_interrupting_70 rfl (fun c9 => absurd c9 (nI_nm (by omega))) (fun _ => ?_)
                refine ax_aload (pc := 73) G dX2_interrupting_73 rfl ?_
                refine ax_getf (pc := 75) (v := .int (pFrom pl s (20 + i))) G flX2_207_14 dX2_interrupting_75 (alO (pl := pl) ((hE (s, π, (.ref (D.1 0)), (D.1 8))).2) (k := i) (by omega)) rfl ?_
                refine ax_aload_n (pc := 78) G dX2_interrupting_78 rfl rfl ?_
                refine sr_get (pc := 79) (v := .ref (a + 2)) G flX2_26_1 dX2_interrupting_79 rfl ?_
                refine ax_iload_n (pc := 82) G dX2_interrupting_82 rfl rfl ?_
                refine ax_cJ1 (pc := 83) (kb := 0) (nb := 0) G (ct_lget hA ((hE (s, π, (.ref (D.1 0)), (D.1 8))).2.1).1 ((hE (s, π, (.ref (D.1 0)), (D.1 8))).2.1).2.1 (q := D.2.1 3 o) o (by omega) ((hE (s, π, (.ref (D.1 0)), (D.1 8))).2.1).2.2.1 ((hE (s, π, (.ref (D.1 0)), (D.1 8))).2.1).2.2.2.1 (((hE (s, π, (.ref (D.1 0)), (D.1 8))).2.1).2.2.2.2 o (by omega))) lJX2_95_16 dX2_interrupting_83 (((hE (s, π, (.ref (D.1 0)), (D.1 8))).2.1).1) rfl (by decide) (Nat.le_of_ble_eq_true rfl) rfl ?_
                refine ax_checkcast (pc := 88) G q1961 ⟨_, rfl, Or.inl rfl⟩ dX2_interrupting_88 (alO (pl := pl) ((hE (s, π, (.ref (D.1 0)), (D.1 8))).2) (k := o) (by omega)) ?_
                refine ax_getf (pc := 91) (v := .int (pFrom pl s (20 + o))) G flX2_207_14 dX2_interrupting_91 (alO (pl := pl) ((hE (s, π, (.ref (D.1 0)), (D.1 8))).2) (k := o) (by omega)) rfl ?_
                refine ax_icmp_lt (pc := 94) (tgt := 100) G dX2_interrupting_94 rfl (fun c94 => ?_) (fun c94 => ?_)
                · refine ax_aload_n (pc := 100) G dX2_interrupting_100 rfl rfl ?_
                  refine ax_aload_n (pc := 101) G dX2_interrupting_101 rfl rfl ?_
                  refine ax_aload (pc := 102) G dX2_interrupting_102 rfl ?_
                  refine ax_iload_n (pc := 104) G dX2_interrupting_104 rfl rfl ?_
                  refine ax_cV1 (pc := 105) (kb := 0) (nb := 0) G (ct_couldBegin_0 hA (π := π) ha hp hs hE hv20 hw (hv.1.trans hπ) i (by omega)) lVX2_214_1 dX2_interrupting_105 sH_obj rfl (by decide) (Nat.le_of_ble_eq_true rfl) rfl ?_
                  show ax_W Ω Γ _ _ (sH h a (s, cU π 2 (cPl pl (cRow pl s vi i (u 5) (u 3)) (20 + i) O (D.2.1 3 i) (nI i) true (cLf pl s vi i (u 5))), (.ref (D.1 0)), (D.1 8))) _ _ _
                  refine ax_if_eq (pc := 108) (tgt := 113) G dX2_interrupting_108 rfl (fun c108 => ?_) (fun c108 => ?_)
                  · have c108b := bI_f c108
                    refine ax_iincN (pc := 113) (n := 1) G dX2_interrupting_113 rfl rfl ic_1 ?_
                    refine ax_goto (pc := 116) (tgt := 4) G dX2_interrupting_116 rfl ?_
                    have eX : cFB pl s O vi (u 5) (u 6) (u 3) (i + 1) = some (o) := by first | (simp only [cFB, cFBS, e, c14, c38, c50, Int32.not_le.mp c50, c62, Int32.not_le.mpr c62, c94, Int32.not_le.mpr c94, c108b, (of_decide_eq_false c108b), if_true, if_false, Bool.false_eq_true, not_false_eq_true, not_true_eq_false, decide_true, decide_false, Bool.and_true, Bool.true_and, Bool.and_false, Bool.false_and, Bool.or_true, Bool.true_or, Bool.or_false, Bool.false_or, and_self, and_true, true_and, and_false, false_and, or_true, true_or, or_false, false_or, ne_eq]; done) | (simp only [cFB, cFBS, e, c14, c38, c50, Int32.not_le.mp c50, c62, Int32.not_le.mpr c62, c94, Int32.not_le.mpr c94, c108b, (of_decide_eq_false c108b), if_true, if_false, Bool.false_eq_true, not_false_eq_true, not_true_eq_false, decide_true, decide_false, Bool.and_true, Bool.true_and, Bool.and_false, Bool.false_and, Bool.or_true, Bool.true_or, Bool.or_false, Bool.false_or, and_self, and_true, true_and, and_false, false_and, or_true, true_or, or_false, false_or, ne_eq]; rfl) | (simp only [cFB, cFBS, e, c14, if_pos c38, decide_eq_true c38, c50, Int32.not_le.mp c50, c62, Int32.not_le.mpr c62, c94, Int32.not_le.mpr c94, c108b, (of_decide_eq_false c108b), if_true, if_false, Bool.false_eq_true, not_false_eq_true, not_true_eq_false, decide_true, decide_false, Bool.and_true, Bool.true_and, Bool.and_false, Bool.false_and, Bool.or_true, Bool.true_or, Bool.or_false, Bool.false_or, and_self, and_true, true_and, and_false, false_and, or_true, true_or, or_false, false_or, ne_eq]; done) | (simp only [cFB, cFBS, e, c14, if_pos c38, decide_eq_true c38, c50, Int32.not_le.mp c50, c62, Int32.not_le.mpr c62, c94, Int32.not_le.mpr c94, c108b, (of_decide_eq_false c108b), if_true, if_false, Bool.false_eq_true, not_false_eq_true, not_true_eq_false, decide_true, decide_false, Bool.and_true, Bool.true_and, Bool.and_false, Bool.false_and, Bool.or_true, Bool.true_or, Bool.or_false, Bool.false_or, and_self, and_true, true_and, and_false, false_and, or_true, true_or, or_false, false_or, ne_eq]; rfl)
                    have q := ih (i + 1) (cU π 2 (cPl pl (cRow pl s vi i (u 5) (u 3)) (20 + i) O (D.2.1 3 i) (nI i) true (cLf pl s vi i (u 5)))) (some (.ref (D.2.1 3 i))) (by omega) (by exact ⟨(cU_n (by decide)).trans hv.1, (cU_n (by decide)).trans hv.2⟩)
                    rw [eX] at q
                    exact q
                  · have c108b := bI_t c108
                    refine ax_iload_n (pc := 111) G dX2_interrupting_111 rfl rfl ?_
                    refine ax_istore_n (pc := 112) G dX2_interrupting_112 rfl (Nat.le_of_ble_eq_true rfl) rfl ?_
                    refine ax_iincN (pc := 113) (n := 1) G dX2_interrupting_113 rfl rfl ic_1 ?_
                    refine ax_goto (pc := 116) (tgt := 4) G dX2_interrupting_116 rfl ?_
                    have eX : cFB pl s O vi (u 5) (u 6) (u 3) (i + 1) = some (i) := by first | (simp only [cFB, cFBS, e, c14, c38, c50, Int32.not_le.mp c50, c62, Int32.not_le.mpr c62, c94, Int32.not_le.mpr c94, c108b, (of_decide_eq_true c108b), if_true, if_false, Bool.false_eq_true, not_false_eq_true, not_true_eq_false, decide_true, decide_false, Bool.and_true, Bool.true_and, Bool.and_false, Bool.false_and, Bool.or_true, Bool.true_or, Bool.or_false, Bool.false_or, and_self, and_true, true_and, and_false, false_and, or_true, true_or, or_false, false_or, ne_eq]; done) | (simp only [cFB, cFBS, e, c14, c38, c50, Int32.not_le.mp c50, c62, Int32.not_le.mpr c62, c94, Int32.not_le.mpr c94, c108b, (of_decide_eq_true c108b), if_true, if_false, Bool.false_eq_true, not_false_eq_true, not_true_eq_false, decide_true, decide_false, Bool.and_true, Bool.true_and, Bool.and_false, Bool.false_and, Bool.or_true, Bool.true_or, Bool.or_false, Bool.false_or, and_self, and_true, true_and, and_false, false_and, or_true, true_or, or_false, false_or, ne_eq]; rfl) | (simp only [cFB, cFBS, e, c14, if_pos c38, decide_eq_true c38, c50, Int32.not_le.mp c50, c62, Int32.not_le.mpr c62, c94, Int32.not_le.mpr c94, c108b, if_pos (of_decide_eq_true c108b), decide_eq_true (of_decide_eq_true c108b), if_true, if_false, Bool.false_eq_true, not_false_eq_true, not_true_eq_false, decide_true, decide_false, Bool.and_true, Bool.true_and, Bool.and_false, Bool.false_and, Bool.or_true, Bool.true_or, Bool.or_false, Bool.false_or, and_self, and_true, true_and, and_false, false_and, or_true, true_or, or_false, false_or, ne_eq]; done) | (simp only [cFB, cFBS, e, c14, if_pos c38, decide_eq_true c38, c50, Int32.not_le.mp c50, c62, Int32.not_le.mpr c62, c94, Int32.not_le.mpr c94, c108b, if_pos (of_decide_eq_true c108b), decide_eq_true (of_decide_eq_true c108b), if_true, if_false, Bool.false_eq_true, not_false_eq_true, not_true_eq_false, decide_true, decide_false, Bool.and_true, Bool.true_and, Bool.and_false, Bool.false_and, Bool.or_true, Bool.true_or, Bool.or_false, Bool.false_or, and_self, and_true, true_and, and_false, false_and, or_true, true_or, or_false, false_or, ne_eq]; rfl)
                    have q := ih (i + 1) (cU π 2 (cPl pl (cRow pl s vi i (u 5) (u 3)) (20 + i) O (D.2.1 3 i) (nI i) true (cLf pl s vi i (u 5)))) (some (.ref (D.2.1 3 i))) (by omega) (by exact ⟨(cU_n (by decide)).trans hv.1, (cU_n (by decide)).trans hv.2⟩)
                    rw [eX] at q
                    exact q
                · refine ax_goto (pc := 97) (tgt := 113) G dX2_interrupting_97 rfl ?_
                  refine ax_iincN (pc := 113) (n := 1) G dX2_interrupting_113 rfl rfl ic_1 ?_
                  refine ax_goto (pc := 116) (tgt := 4) G dX2_interrupting_116 rfl ?_
                  have eX : cFB pl s O vi (u 5) (u 6) (u 3) (i + 1) = some (o) := by first | (simp only [cFB, cFBS, e, c14, c38, c50, Int32.not_le.mp c50, c62, Int32.not_le.mpr c62, c94, Int32.not_lt.mp c94, if_true, if_false, Bool.false_eq_true, not_false_eq_true, not_true_eq_false, decide_true, decide_false, Bool.and_true, Bool.true_and, Bool.and_false, Bool.false_and, Bool.or_true, Bool.true_or, Bool.or_false, Bool.false_or, and_self, and_true, true_and, and_false, false_and, or_true, true_or, or_false, false_or, ne_eq]; done) | (simp only [cFB, cFBS, e, c14, c38, c50, Int32.not_le.mp c50, c62, Int32.not_le.mpr c62, c94, Int32.not_lt.mp c94, if_true, if_false, Bool.false_eq_true, not_false_eq_true, not_true_eq_false, decide_true, decide_false, Bool.and_true, Bool.true_and, Bool.and_false, Bool.false_and, Bool.or_true, Bool.true_or, Bool.or_false, Bool.false_or, and_self, and_true, true_and, and_false, false_and, or_true, true_or, or_false, false_or, ne_eq]; rfl) | (simp only [cFB, cFBS, e, c14, if_pos c38, decide_eq_true c38, c50, Int32.not_le.mp c50, c62, Int32.not_le.mpr c62, c94, Int32.not_lt.mp c94, if_true, if_false, Bool.false_eq_true, not_false_eq_true, not_true_eq_false, decide_true, decide_false, Bool.and_true, Bool.true_and, Bool.and_false, Bool.false_and, Bool.or_true, Bool.true_or, Bool.or_false, Bool.false_or, and_self, and_true, true_and, and_false, false_and, or_true, true_or, or_false, false_or, ne_eq]; done) | (simp only [cFB, cFBS, e, c14, if_pos c38, decide_eq_true c38, c50, Int32.not_le.mp c50, c62, Int32.not_le.mpr c62, c94, Int32.not_lt.mp c94, if_true, if_false, Bool.false_eq_true, not_false_eq_true, not_true_eq_false, decide_true, decide_false, Bool.and_true, Bool.true_and, Bool.and_false, Bool.false_and, Bool.or_true, Bool.true_or, Bool.or_false, Bool.false_or, and_self, and_true, true_and, and_false, false_and, or_true, true_or, or_false, false_or, ne_eq]; rfl)
                  have q := ih (i + 1) (π) (some (.ref (D.2.1 3 i))) (by omega) (by exact hv)
                  rw [eX] at q
                  exact q
              · refine ax_goto (pc := 65) (tgt := 113) G dX2_interrupting_65 rfl ?_
                refine ax_iincN (pc := 113) (n := 1) G dX2_interrupting_113 rfl rfl ic_1 ?_
                refine ax_goto (pc := 116) (tgt := 4) G dX2_interrupting_116 rfl ?_
                have eX : cFB pl s O vi (u 5) (u 6) (u 3) (i + 1) = some (o) := by first | (simp only [cFB, cFBS, e, c14, c38, c50, Int32.not_le.mp c50, c62, Int32.not_lt.mp c62, if_true, if_false, Bool.false_eq_true, not_false_eq_true, not_true_eq_false, decide_true, decide_false, Bool.and_true, Bool.true_and, Bool.and_false, Bool.false_and, Bool.or_true, Bool.true_or, Bool.or_false, Bool.false_or, and_self, and_true, true_and, and_false, false_and, or_true, true_or, or_false, false_or, ne_eq]; done) | (simp only [cFB, cFBS, e, c14, c38, c50, Int32.not_le.mp c50, c62, Int32.not_lt.mp c62, if_true, if_false, Bool.false_eq_true, not_false_eq_true, not_true_eq_false, decide_true, decide_false, Bool.and_true, Bool.true_and, Bool.and_false, Bool.false_and, Bool.or_true, Bool.true_or, Bool.or_false, Bool.false_or, and_self, and_true, true_and, and_false, false_and, or_true, true_or, or_false, false_or, ne_eq]; rfl) | (simp only [cFB, cFBS, e, c14, if_pos c38, decide_eq_true c38, c50, Int32.not_le.mp c50, c62, Int32.not_lt.mp c62, if_true, if_false, Bool.false_eq_true, not_false_eq_true, not_true_eq_false, decide_true, decide_false, Bool.and_true, Bool.true_and, Bool.and_false, Bool.false_and, Bool.or_true, Bool.true_or, Bool.or_false, Bool.false_or, and_self, and_true, true_and, and_false, false_and, or_true, true_or, or_false, false_or, ne_eq]; done) | (simp only [cFB, cFBS, e, c14, if_pos c38, decide_eq_true c38, c50, Int32.not_le.mp c50, c62, Int32.not_lt.mp c62, if_true, if_false, Bool.false_eq_true, not_false_eq_true, not_true_eq_false, decide_true, decide_false, Bool.and_true, Bool.true_and, Bool.and_false, Bool.false_and, Bool.or_true, Bool.true_or, Bool.or_false, Bool.false_or, and_self, and_true, true_and, and_false, false_and, or_true, true_or, or_false, false_or, ne_eq]; rfl)
                have q := ih (i + 1) (π) (some (.ref (D.2.1 3 i))) (by omega) (by exact hv)
                rw [eX] at q
                exact q
  show ax_W Ω Γ 0 0 (sH h a (s, π, (.ref (D.1 0)), (D.1 8))) 0 [some (.ref a), some (.ref (a + 16)), none, none, none] []
  refine ax_iconst (pc := 0) (v := (-1)) G dX2_interrupting_0 (by decide) ?_
  refine ax_istore_n (pc := 1) G dX2_interrupting_1 rfl (Nat.le_of_ble_eq_true rfl) rfl ?_
  refine ax_iconst (pc := 2) (v := nI 0) G dX2_interrupting_2 ic_0 ?_
  refine ax_istore_n (pc := 3) G dX2_interrupting_3 rfl (Nat.le_of_ble_eq_true rfl) rfl ?_
  exact L0 A 0 π none (by omega) (by exact ⟨e0, e1⟩)

theorem ct_interrupting_1 {Ω : ax_O} (hA : ax_Amb Ω) {h : ax_H} {a : Nat} {pl s : pR} {π : Nat → cP} {N V O A : Nat} {D : cD} (ha : Ω.2.1.heap.size ≤ a) (hp : pWP pl N V O) (hs : pWS s A) (hE : cEn h a pl s N V O A D) {w vi : Nat} {u : Nat → Int32} (hv20 : vi < 20) (hw : ∀ σ, cWk (sH h a σ) w pl s vi) {P0 P1 : cP} (e0 : π 0 = P0) (e1 : π 1 = P1) (hπ : P1 = (.ref w, u))  : ax_MetP Ω yX2_interrupting 10 0 0 [.ref a, .ref (a + 17)] (sH h a (s, π, (.ref (D.1 0)), (D.1 8))) (ax_Nm (fun v h' => v = some (.int (oI (cFB pl s O vi (u 5) (u 6) (u 3) A))) ∧ ∃ π', h' = sH h a (s, π', .ref (D.1 0), D.1 8) ∧ π' 0 = P0 ∧ π' 1 = P1)) := by
  refine ax_metP q1975 q114 (by decide +kernel) (by decide) hA (Nat.le_of_ble_eq_true rfl) (fun Γ G E => ?_)
  have hV9 := hp.lV
  have hA9 := hs.lA
  have hO9 := hp.lO
  have L0 : ∀ (n i : Nat) (π : Nat → cP) (l3 : Option Value), i + n = A → (π 0 = P0 ∧ π 1 = P1) → ax_W Ω Γ 0 0 (sH h a (s, π, (.ref (D.1 0)), (D.1 8))) 4 [some (.ref a), some (.ref (a + 17)), some (.int (oI (cFB pl s O vi (u 5) (u 6) (u 3) i))), some (.int (nI i)), l3] [] := by
    intro n
    induction n with
    | zero =>
      intro i π l3 hi hv
      have hi9 : A = i := by omega
      subst hi9
      refine ax_iload_n (pc := 4) G dX2_interrupting_4 rfl rfl ?_
      refine ax_aload_n (pc := 5) G dX2_interrupting_5 rfl rfl ?_
      refine sr_get (pc := 6) (v := .ref (a + 2)) G flX2_26_1 dX2_interrupting_6 rfl ?_
      refine ax_cJ1 (pc := 9) (kb := 0) (nb := 0) G (ct_lsize hA ((hE (s, π, (.ref (D.1 0)), (D.1 8))).2.1).1) lJX2_89_16 dX2_interrupting_9 (((hE (s, π, (.ref (D.1 0)), (D.1 8))).2.1).1) rfl (by decide) (Nat.le_of_ble_eq_true rfl) rfl ?_
      refine ax_icmp_geN (pc := 14) (tgt := 119) G dX2_interrupting_14 rfl (by omega) (by omega) (fun c14 => ?_) (fun c14 => ?_)
      · refine ax_iload_n (pc := 119) G dX2_interrupting_119 rfl rfl ?_
        exact ax_iretP (pc := 120) G E rfl (rfl) dX2_interrupting_120 (⟨_, rfl, rfl, π, rfl, hv⟩)
      · omega
    | succ n ih =>
      intro i π l3 hi hv
      rcases e : cFB pl s O vi (u 5) (u 6) (u 3) i with _ | o
      · show ax_W Ω Γ _ _ _ _ [some (.ref a), some (.ref (a + 17)), some (.int (-1)), some (.int (nI i)), l3] _
        refine ax_iload_n (pc := 4) G dX2_interrupting_4 rfl rfl ?_
        refine ax_aload_n (pc := 5) G dX2_interrupting_5 rfl rfl ?_
        refine sr_get (pc := 6) (v := .ref (a + 2)) G flX2_26_1 dX2_interrupting_6 rfl ?_
        refine ax_cJ1 (pc := 9) (kb := 0) (nb := 0) G (ct_lsize hA ((hE (s, π, (.ref (D.1 0)), (D.1 8))).2.1).1) lJX2_89_16 dX2_interrupting_9 (((hE (s, π, (.ref (D.1 0)), (D.1 8))).2.1).1) rfl (by decide) (Nat.le_of_ble_eq_true rfl) rfl ?_
        refine ax_icmp_geN (pc := 14) (tgt := 119) G dX2_interrupting_14 rfl (by omega) (by omega) (fun c14 => ?_) (fun c14 => ?_)
        · omega
        · refine ax_aload_n (pc := 17) G dX2_interrupting_17 rfl rfl ?_
          refine sr_get (pc := 18) (v := .ref (a + 2)) G flX2_26_1 dX2_interrupting_18 rfl ?_
          refine ax_iload_n (pc := 21) G dX2_interrupting_21 rfl rfl ?_
          refine ax_cJ1 (pc := 22) (kb := 0) (nb := 0) G (ct_lget hA ((hE (s, π, (.ref (D.1 0)), (D.1 8))).2.1).1 ((hE (s, π, (.ref (D.1 0)), (D.1 8))).2.1).2.1 (q := D.2.1 3 i) i (by omega) ((hE (s, π, (.ref (D.1 0)), (D.1 8))).2.1).2.2.1 ((hE (s, π, (.ref (D.1 0)), (D.1 8))).2.1).2.2.2.1 (((hE (s, π, (.ref (D.1 0)), (D.1 8))).2.1).2.2.2.2 i (by omega))) lJX2_95_16 dX2_interrupting_22 (((hE (s, π, (.ref (D.1 0)), (D.1 8))).2.1).1) rfl (by decide) (Nat.le_of_ble_eq_true rfl) rfl ?_
          refine ax_checkcast (pc := 27) G q1961 ⟨_, rfl, Or.inl rfl⟩ dX2_interrupting_27 (alO (pl := pl) ((hE (s, π, (.ref (D.1 0)), (D.1 8))).2) (k := i) (by omega)) ?_
          refine ax_astore (pc := 30) G dX2_interrupting_30 (Nat.le_of_ble_eq_true rfl) rfl ?_
          refine ax_aload_n (pc := 32) G dX2_interrupting_32 rfl rfl ?_
          refine sr_get (pc := 33) (v := .ref (a + 12)) G flX2_55_1 dX2_interrupting_33 rfl ?_
          refine ax_iload_n (pc := 36) G dX2_interrupting_36 rfl rfl ?_
          refine sr_ld (pc := 37) (k := 12) (j := i) (r := 127 + 10 * i + 7) G dX2_interrupting_37 (by decide) (by decide) rfl rfl (show i < 10 by omega) ?_
          show ax_W Ω Γ _ _ _ _ _ (.int (s (127 + 10 * i + 7)) :: _)
          refine ax_if_ne (pc := 38) (tgt := 113) G dX2_interrupting_38 rfl (fun c38 => ?_) (fun c38 => ?_)
          · refine ax_iincN (pc := 113) (n := 1) G dX2_interrupting_113 rfl rfl ic_1 ?_
            refine ax_goto (pc := 116) (tgt := 4) G dX2_interrupting_116 rfl ?_
            have eX : cFB pl s O vi (u 5) (u 6) (u 3) (i + 1) = none := by first | (simp only [cFB, cFBS, e, c14, c38, if_true, if_false, Bool.false_eq_true, not_false_eq_true, not_true_eq_false, decide_true, decide_false, Bool.and_true, Bool.true_and, Bool.and_false, Bool.false_and, Bool.or_true, Bool.true_or, Bool.or_false, Bool.false_or, and_self, and_true, true_and, and_false, false_and, or_true, true_or, or_false, false_or, ne_eq]; done) | (simp only [cFB, cFBS, e, c14, c38, if_true, if_false, Bool.false_eq_true, not_false_eq_true, not_true_eq_false, decide_true, decide_false, Bool.and_true, Bool.true_and, Bool.and_false, Bool.false_and, Bool.or_true, Bool.true_or, Bool.or_false, Bool.false_or, and_self, and_true, true_and, and_false, false_and, or_true, true_or, or_false, false_or, ne_eq]; rfl)
            have q := ih (i + 1) (π) (some (.ref (D.2.1 3 i))) (by omega) (by exact hv)
            rw [eX] at q
            exact q
          · refine ax_aload (pc := 41) G dX2_interrupting_41 rfl ?_
            refine ax_getf (pc := 43) (v := .int (pFrom pl s (20 + i))) G flX2_207_14 dX2_interrupting_43 (alO (pl := pl) ((hE (s, π, (.ref (D.1 0)), (D.1 8))).2) (k := i) (by omega)) rfl ?_
            refine ax_aload_n (pc := 46) G dX2_interrupting_46 rfl rfl ?_
            refine ax_getf (pc := 47) (v := .int (u 5)) G flX2_208_6 dX2_interrupting_47 (sH_pe (k := 17) (by decide) (by decide) (show (π : Nat → cP) 1 = (.ref w, u) from hv.2.trans hπ)) rfl ?_
            refine ax_icmp_le (pc := 50) (tgt := 113) G dX2_interrupting_50 rfl (fun c50 => ?_) (fun c50 => ?_)
            · refine ax_iincN (pc := 113) (n := 1) G dX2_interrupting_113 rfl rfl ic_1 ?_
              refine ax_goto (pc := 116) (tgt := 4) G dX2_interrupting_116 rfl ?_
              have eX : cFB pl s O vi (u 5) (u 6) (u 3) (i + 1) = none := by first | (simp only [cFB, cFBS, e, c14, c38, c50, Int32.not_lt.mpr c50, if_true, if_false, Bool.false_eq_true, not_false_eq_true, not_true_eq_false, decide_true, decide_false, Bool.and_true, Bool.true_and, Bool.and_false, Bool.false_and, Bool.or_true, Bool.true_or, Bool.or_false, Bool.false_or, and_self, and_true, true_and, and_false, false_and, or_true, true_or, or_false, false_or, ne_eq]; done) | (simp only [cFB, cFBS, e, c14, c38, c50, Int32.not_lt.mpr c50, if_true, if_false, Bool.false_eq_true, not_false_eq_true, not_true_eq_false, decide_true, decide_false, Bool.and_true, Bool.true_and, Bool.and_false, Bool.false_and, Bool.or_true, Bool.true_or, Bool.or_false, Bool.false_or, and_self, and_true, true_and, and_false, false_and, or_true, true_or, or_false, false_or, ne_eq]; rfl) | (simp only [cFB, cFBS, e, c14, if_pos c38, decide_eq_true c38, c50, Int32.not_lt.mpr c50, if_true, if_false, Bool.false_eq_true, not_false_eq_true, not_true_eq_false, decide_true, decide_false, Bool.and_true, Bool.true_and, Bool.and_false, Bool.false_and, Bool.or_true, Bool.true_or, Bool.or_false, Bool.false_or, and_self, and_true, true_and, and_false, false_and, or_true, true_or, or_false, false_or, ne_eq]; done) | (simp only [cFB, cFBS, e, c14, if_pos c38, decide_eq_true c38, c50, Int32.not_lt.mpr c50, if_true, if_false, Bool.false_eq_true, not_false_eq_true, not_true_eq_false, decide_true, decide_false, Bool.and_true, Bool.true_and, Bool.and_false, Bool.false_and, Bool.or_true, Bool.true_or, Bool.or_false, Bool.false_or, and_self, and_true, true_and, and_false, false_and, or_true, true_or, or_false, false_or, ne_eq]; rfl)
              have q := ih (i + 1) (π) (some (.ref (D.2.1 3 i))) (by omega) (by exact hv)
              rw [eX] at q
              exact q
            · refine ax_aload (pc := 53) G dX2_interrupting_53 rfl ?_
              refine ax_getf (pc := 55) (v := .int (pFrom pl s (20 + i))) G flX2_207_14 dX2_interrupting_55 (alO (pl := pl) ((hE (s, π, (.ref (D.1 0)), (D.1 8))).2) (k := i) (by omega)) rfl ?_
              refine ax_aload_n (pc := 58) G dX2_interrupting_58 rfl rfl ?_
              refine ax_getf (pc := 59) (v := .int (u 6)) G flX2_211_6 dX2_interrupting_59 (sH_pe (k := 17) (by decide) (by decide) (show (π : Nat → cP) 1 = (.ref w, u) from hv.2.trans hπ)) rfl ?_
              refine ax_icmp_lt (pc := 62) (tgt := 68) G dX2_interrupting_62 rfl (fun c62 => ?_) (fun c62 => ?_)
              · refine ax_iload_n (pc := 68) G dX2_interrupting_68 rfl rfl ?_
                refine ax_iconst (pc := 69) (v := (-1)) G dX2_interrupting_69 (by decide) ?_
                refine ax_icmp_eq (pc := 70) (tgt := 100) G dX2_interrupting_70 rfl (fun _ => ?_) (fun c9 => absurd rfl c9)
                refine ax_aload_n (pc := 100) G dX2_interrupting_100 rfl rfl ?_
                refine ax_aload_n (pc := 101) G dX2_interrupting_101 rfl rfl ?_
                refine ax_aload (pc := 102) G dX2_interrupting_102 rfl ?_
                refine ax_iload_n (pc := 104) G dX2_interrupting_104 rfl rfl ?_
                refine ax_cV1 (pc := 105) (kb := 0) (nb := 0) G (ct_couldBegin_1 hA (π := π) ha hp hs hE hv20 hw (hv.2.trans hπ) i (by omega)) lVX2_214_1 dX2_interrupting_105 sH_obj rfl (by decide) (Nat.le_of_ble_eq_true rfl) rfl ?_
                show ax_W Ω Γ _ _ (sH h a (s, cU π 2 (cPl pl (cRow pl s vi i (u 5) (u 3)) (20 + i) O (D.2.1 3 i) (nI i) true (cLf pl s vi i (u 5))), (.ref (D.1 0)), (D.1 8))) _ _ _
                refine ax_if_eq (pc := 108) (tgt := 113) G dX2_interrupting_108 rfl (fun c108 => ?_) (fun c108 => ?_)
                · have c108b := bI_f c108
                  refine ax_iincN (pc := 113) (n := 1) G dX2_interrupting_113 rfl rfl ic_1 ?_
                  refine ax_goto (pc := 116) (tgt := 4) G dX2_interrupting_116 rfl ?_
                  have eX : cFB pl s O vi (u 5) (u 6) (u 3) (i + 1) = none := by first | (simp only [cFB, cFBS, e, c14, c38, c50, Int32.not_le.mp c50, c62, Int32.not_le.mpr c62, c108b, (of_decide_eq_false c108b), if_true, if_false, Bool.false_eq_true, not_false_eq_true, not_true_eq_false, decide_true, decide_false, Bool.and_true, Bool.true_and, Bool.and_false, Bool.false_and, Bool.or_true, Bool.true_or, Bool.or_false, Bool.false_or, and_self, and_true, true_and, and_false, false_and, or_true, true_or, or_false, false_or, ne_eq]; done) | (simp only [cFB, cFBS, e, c14, c38, c50, Int32.not_le.mp c50, c62, Int32.not_le.mpr c62, c108b, (of_decide_eq_false c108b), if_true, if_false, Bool.false_eq_true, not_false_eq_true, not_true_eq_false, decide_true, decide_false, Bool.and_true, Bool.true_and, Bool.and_false, Bool.false_and, Bool.or_true, Bool.true_or, Bool.or_false, Bool.false_or, and_self, and_true, true_and, and_false, false_and, or_true, true_or, or_false, false_or, ne_eq]; rfl) | (simp only [cFB, cFBS, e, c14, if_pos c38, decide_eq_true c38, c50, Int32.not_le.mp c50, c62, Int32.not_le.mpr c62, c108b, (of_decide_eq_false c108b), if_true, if_false, Bool.false_eq_true, not_false_eq_true, not_true_eq_false, decide_true, decide_false, Bool.and_true, Bool.true_and, Bool.and_false, Bool.false_and, Bool.or_true, Bool.true_or, Bool.or_false, Bool.false_or, and_self, and_true, true_and, and_false, false_and, or_true, true_or, or_false, false_or, ne_eq]; done) | (simp only [cFB, cFBS, e, c14, if_pos c38, decide_eq_true c38, c50, Int32.not_le.mp c50, c62, Int32.not_le.mpr c62, c108b, (of_decide_eq_false c108b), if_true, if_false, Bool.false_eq_true, not_false_eq_true, not_true_eq_false, decide_true, decide_false, Bool.and_true, Bool.true_and, Bool.and_false, Bool.false_and, Bool.or_true, Bool.true_or, Bool.or_false, Bool.false_or, and_self, and_true, true_and, and_false, false_and, or_true, true_or, or_false, false_or, ne_eq]; rfl)
                  have q := ih (i + 1) (cU π 2 (cPl pl (cRow pl s vi i (u 5) (u 3)) (20 + i) O (D.2.1 3 i) (nI i) true (cLf pl s vi i (u 5)))) (some (.ref (D.2.1 3 i))) (by omega) (by exact ⟨(cU_n (by decide)).trans hv.1, (cU_n (by decide)).trans hv.2⟩)
                  rw [eX] at q
                  exact q
                · have c108b := bI_t c108
                  refine ax_iload_n (pc := 111) G dX2_interrupting_111 rfl rfl ?_
                  refine ax_istore_n (pc := 112) G dX2_interrupting_112 rfl (Nat.le_of_ble_eq_true rfl) rfl ?_
                  refine ax_iincN (pc := 113) (n := 1) G dX2_interrupting_113 rfl rfl ic_1 ?_
                  refine ax_goto (pc := 116) (tgt := 4) G dX2_interrupting_116 rfl ?_
                  have eX : cFB pl s O vi (u 5) (u 6) (u 3) (i + 1) = some (i) := by first | (simp only [cFB, cFBS, e, c14, c38, c50, Int32.not_le.mp c50, c62, Int32.not_le.mpr c62, c108b, (of_decide_eq_true c108b), if_true, if_false, Bool.false_eq_true, not_false_eq_true, not_true_eq_false, decide_true, decide_false, Bool.and_true, Bool.true_and, Bool.and_false, Bool.false_and, Bool.or_true, Bool.true_or, Bool.or_false, Bool.false_or, and_self, and_true, true_and, and_false, false_and, or_true, true_or, or_false, false_or, ne_eq]; done) | (simp only [cFB, cFBS, e, c14, c38, c50, Int32.not_le.mp c50, c62, Int32.not_le.mpr c62, c108b, (of_decide_eq_true c108b), if_true, if_false, Bool.false_eq_true, not_false_eq_true, not_true_eq_false, decide_true, decide_false, Bool.and_true, Bool.true_and, Bool.and_false, Bool.false_and, Bool.or_true, Bool.true_or, Bool.or_false, Bool.false_or, and_self, and_true, true_and, and_false, false_and, or_true, true_or, or_false, false_or, ne_eq]; rfl) | (simp only [cFB, cFBS, e, c14, if_pos c38, decide_eq_true c38, c50, Int32.not_le.mp c50, c62, Int32.not_le.mpr c62, c108b, if_pos (of_decide_eq_true c108b), decide_eq_true (of_decide_eq_true c108b), if_true, if_false, Bool.false_eq_true, not_false_eq_true, not_true_eq_false, decide_true, decide_false, Bool.and_true, Bool.true_and, Bool.and_false, Bool.false_and, Bool.or_true, Bool.true_or, Bool.or_false, Bool.false_or, and_self, and_true, true_and, and_false, false_and, or_true, true_or, or_false, false_or, ne_eq]; done) | (simp only [cFB, cFBS, e, c14, if_pos c38, decide_eq_true c38, c50, Int32.not_le.mp c50, c62, Int32.not_le.mpr c62, c108b, if_pos (of_decide_eq_true c108b), decide_eq_true (of_decide_eq_true c108b), if_true, if_false, Bool.false_eq_true, not_false_eq_true, not_true_eq_false, decide_true, decide_false, Bool.and_true, Bool.true_and, Bool.and_false, Bool.false_and, Bool.or_true, Bool.true_or, Bool.or_false, Bool.false_or, and_self, and_true, true_and, and_false, false_and, or_true, true_or, or_false, false_or, ne_eq]; rfl)
                  have q := ih (i + 1) (cU π 2 (cPl pl (cRow pl s vi i (u 5) (u 3)) (20 + i) O (D.2.1 3 i) (nI i) true (cLf pl s vi i (u 5)))) (some (.ref (D.2.1 3 i))) (by omega) (by exact ⟨(cU_n (by decide)).trans hv.1, (cU_n (by decide)).trans hv.2⟩)
                  rw [eX] at q
                  exact q
              · refine ax_goto (pc := 65) (tgt := 113) G dX2_interrupting_65 rfl ?_
                refine ax_iincN (pc := 113) (n := 1) G dX2_interrupting_113 rfl rfl ic_1 ?_
                refine ax_goto (pc := 116) (tgt := 4) G dX2_interrupting_116 rfl ?_
                have eX : cFB pl s O vi (u 5) (u 6) (u 3) (i + 1) = none := by first | (simp only [cFB, cFBS, e, c14, c38, c50, Int32.not_le.mp c50, c62, Int32.not_lt.mp c62, if_true, if_false, Bool.false_eq_true, not_false_eq_true, not_true_eq_false, decide_true, decide_false, Bool.and_true, Bool.true_and, Bool.and_false, Bool.false_and, Bool.or_true, Bool.true_or, Bool.or_false, Bool.false_or, and_self, and_true, true_and, and_false, false_and, or_true, true_or, or_false, false_or, ne_eq]; done) | (simp only [cFB, cFBS, e, c14, c38, c50, Int32.not_le.mp c50, c62, Int32.not_lt.mp c62, if_true, if_false, Bool.false_eq_true, not_false_eq_true, not_true_eq_false, decide_true, decide_false, Bool.and_true, Bool.true_and, Bool.and_false, Bool.false_and, Bool.or_true, Bool.true_or, Bool.or_false, Bool.false_or, and_self, and_true, true_and, and_false, false_and, or_true, true_or, or_false, false_or, ne_eq]; rfl) | (simp only [cFB, cFBS, e, c14, if_pos c38, decide_eq_true c38, c50, Int32.not_le.mp c50, c62, Int32.not_lt.mp c62, if_true, if_false, Bool.false_eq_true, not_false_eq_true, not_true_eq_false, decide_true, decide_false, Bool.and_true, Bool.true_and, Bool.and_false, Bool.false_and, Bool.or_true, Bool.true_or, Bool.or_false, Bool.false_or, and_self, and_true, true_and, and_false, false_and, or_true, true_or, or_false, false_or, ne_eq]; done) | (simp only [cFB, cFBS, e, c14, if_pos c38, decide_eq_true c38, c50, Int32.not_le.mp c50, c62, Int32.not_lt.mp c62, if_true, if_false, Bool.false_eq_true, not_false_eq_true, not_true_eq_false, decide_true, decide_false, Bool.and_true, Bool.true_and, Bool.and_false, Bool.false_and, Bool.or_true, Bool.true_or, Bool.or_false, Bool.false_or, and_self, and_true, true_and, and_false, false_and, or_true, true_or, or_false, false_or, ne_eq]; rfl)
                have q := ih (i + 1) (π) (some (.ref (D.2.1 3 i))) (by omega) (by exact hv)
                rw [eX] at q
                exact q
      · have ho := cFB_l e
        show ax_W Ω Γ _ _ _ _ [some (.ref a), some (.ref (a + 17)), some (.int (nI o)), some (.int (nI i)), l3] _
        refine ax_iload_n (pc := 4) G dX2_interrupting_4 rfl rfl ?_
        refine ax_aload_n (pc := 5) G dX2_interrupting_5 rfl rfl ?_
        refine sr_get (pc := 6) (v := .ref (a + 2)) G flX2_26_1 dX2_interrupting_6 rfl ?_
        refine ax_cJ1 (pc := 9) (kb := 0) (nb := 0) G (ct_lsize hA ((hE (s, π, (.ref (D.1 0)), (D.1 8))).2.1).1) lJX2_89_16 dX2_interrupting_9 (((hE (s, π, (.ref (D.1 0)), (D.1 8))).2.1).1) rfl (by decide) (Nat.le_of_ble_eq_true rfl) rfl ?_
        refine ax_icmp_geN (pc := 14) (tgt := 119) G dX2_interrupting_14 rfl (by omega) (by omega) (fun c14 => ?_) (fun c14 => ?_)
        · omega
        · refine ax_aload_n (pc := 17) G dX2_interrupting_17 rfl rfl ?_
          refine sr_get (pc := 18) (v := .ref (a + 2)) G flX2_26_1 dX2_interrupting_18 rfl ?_
          refine ax_iload_n (pc := 21) G dX2_interrupting_21 rfl rfl ?_
          refine ax_cJ1 (pc := 22) (kb := 0) (nb := 0) G (ct_lget hA ((hE (s, π, (.ref (D.1 0)), (D.1 8))).2.1).1 ((hE (s, π, (.ref (D.1 0)), (D.1 8))).2.1).2.1 (q := D.2.1 3 i) i (by omega) ((hE (s, π, (.ref (D.1 0)), (D.1 8))).2.1).2.2.1 ((hE (s, π, (.ref (D.1 0)), (D.1 8))).2.1).2.2.2.1 (((hE (s, π, (.ref (D.1 0)), (D.1 8))).2.1).2.2.2.2 i (by omega))) lJX2_95_16 dX2_interrupting_22 (((hE (s, π, (.ref (D.1 0)), (D.1 8))).2.1).1) rfl (by decide) (Nat.le_of_ble_eq_true rfl) rfl ?_
          refine ax_checkcast (pc := 27) G q1961 ⟨_, rfl, Or.inl rfl⟩ dX2_interrupting_27 (alO (pl := pl) ((hE (s, π, (.ref (D.1 0)), (D.1 8))).2) (k := i) (by omega)) ?_
          refine ax_astore (pc := 30) G dX2_interrupting_30 (Nat.le_of_ble_eq_true rfl) rfl ?_
          refine ax_aload_n (pc := 32) G dX2_interrupting_32 rfl rfl ?_
          refine sr_get (pc := 33) (v := .ref (a + 12)) G flX2_55_1 dX2_interrupting_33 rfl ?_
          refine ax_iload_n (pc := 36) G dX2_interrupting_36 rfl rfl ?_
          refine sr_ld (pc := 37) (k := 12) (j := i) (r := 127 + 10 * i + 7) G dX2_interrupting_37 (by decide) (by decide) rfl rfl (show i < 10 by omega) ?_
          show ax_W Ω Γ _ _ _ _ _ (.int (s (127 + 10 * i + 7)) :: _)
          refine ax_if_ne (pc := 38) (tgt := 113) G dX2_interrupting_38 rfl (fun c38 => ?_) (fun c38 => ?_)
          · refine ax_iincN (pc := 113) (n := 1) G dX2_interrupting_113 rfl rfl ic_1 ?_
            refine ax_goto (pc := 116) (tgt := 4) G dX2_interrupting_116 rfl ?_
            have eX : cFB pl s O vi (u 5) (u 6) (u 3) (i + 1) = some (o) := by first | (simp only [cFB, cFBS, e, c14, c38, if_true, if_false, Bool.false_eq_true, not_false_eq_true, not_true_eq_false, decide_true, decide_false, Bool.and_true, Bool.true_and, Bool.and_false, Bool.false_and, Bool.or_true, Bool.true_or, Bool.or_false, Bool.false_or, and_self, and_true, true_and, and_false, false_and, or_true, true_or, or_false, false_or, ne_eq]; done) | (simp only [cFB, cFBS, e, c14, c38, if_true, if_false, Bool.false_eq_true, not_false_eq_true, not_true_eq_false, decide_true, decide_false, Bool.and_true, Bool.true_and, Bool.and_false, Bool.false_and, Bool.or_true, Bool.true_or, Bool.or_false, Bool.false_or, and_self, and_true, true_and, and_false, false_and, or_true, true_or, or_false, false_or, ne_eq]; rfl)
            have q := ih (i + 1) (π) (some (.ref (D.2.1 3 i))) (by omega) (by exact hv)
            rw [eX] at q
            exact q
          · refine ax_aload (pc := 41) G dX2_interrupting_41 rfl ?_
            refine ax_getf (pc := 43) (v := .int (pFrom pl s (20 + i))) G flX2_207_14 dX2_interrupting_43 (alO (pl := pl) ((hE (s, π, (.ref (D.1 0)), (D.1 8))).2) (k := i) (by omega)) rfl ?_
            refine ax_aload_n (pc := 46) G dX2_interrupting_46 rfl rfl ?_
            refine ax_getf (pc := 47) (v := .int (u 5)) G flX2_208_6 dX2_interrupting_47 (sH_pe (k := 17) (by decide) (by decide) (show (π : Nat → cP) 1 = (.ref w, u) from hv.2.trans hπ)) rfl ?_
            refine ax_icmp_le (pc := 50) (tgt := 113) G dX2_interrupting_50 rfl (fun c50 => ?_) (fun c50 => ?_)
            · refine ax_iincN (pc := 113) (n := 1) G dX2_interrupting_113 rfl rfl ic_1 ?_
              refine ax_goto (pc := 116) (tgt := 4) G dX2_interrupting_116 rfl ?_
              have eX : cFB pl s O vi (u 5) (u 6) (u 3) (i + 1) = some (o) := by first | (simp only [cFB, cFBS, e, c14, c38, c50, Int32.not_lt.mpr c50, if_true, if_false, Bool.false_eq_true, not_false_eq_true, not_true_eq_false, decide_true, decide_false, Bool.and_true, Bool.true_and, Bool.and_false, Bool.false_and, Bool.or_true, Bool.true_or, Bool.or_false, Bool.false_or, and_self, and_true, true_and, and_false, false_and, or_true, true_or, or_false, false_or, ne_eq]; done) | (simp only [cFB, cFBS, e, c14, c38, c50, Int32.not_lt.mpr c50, if_true, if_false, Bool.false_eq_true, not_false_eq_true, not_true_eq_false, decide_true, decide_false, Bool.and_true, Bool.true_and, Bool.and_false, Bool.false_and, Bool.or_true, Bool.true_or, Bool.or_false, Bool.false_or, and_self, and_true, true_and, and_false, false_and, or_true, true_or, or_false, false_or, ne_eq]; rfl) | (simp only [cFB, cFBS, e, c14, if_pos c38, decide_eq_true c38, c50, Int32.not_lt.mpr c50, if_true, if_false, Bool.false_eq_true, not_false_eq_true, not_true_eq_false, decide_true, decide_false, Bool.and_true, Bool.true_and, Bool.and_false, Bool.false_and, Bool.or_true, Bool.true_or, Bool.or_false, Bool.false_or, and_self, and_true, true_and, and_false, false_and, or_true, true_or, or_false, false_or, ne_eq]; done) | (simp only [cFB, cFBS, e, c14, if_pos c38, decide_eq_true c38, c50, Int32.not_lt.mpr c50, if_true, if_false, Bool.false_eq_true, not_false_eq_true, not_true_eq_false, decide_true, decide_false, Bool.and_true, Bool.true_and, Bool.and_false, Bool.false_and, Bool.or_true, Bool.true_or, Bool.or_false, Bool.false_or, and_self, and_true, true_and, and_false, false_and, or_true, true_or, or_false, false_or, ne_eq]; rfl)
              have q := ih (i + 1) (π) (some (.ref (D.2.1 3 i))) (by omega) (by exact hv)
              rw [eX] at q
              exact q
            · refine ax_aload (pc := 53) G dX2_interrupting_53 rfl ?_
              refine ax_getf (pc := 55) (v := .int (pFrom pl s (20 + i))) G flX2_207_14 dX2_interrupting_55 (alO (pl := pl) ((hE (s, π, (.ref (D.1 0)), (D.1 8))).2) (k := i) (by omega)) rfl ?_
              refine ax_aload_n (pc := 58) G dX2_interrupting_58 rfl rfl ?_
              refine ax_getf (pc := 59) (v := .int (u 6)) G flX2_211_6 dX2_interrupting_59 (sH_pe (k := 17) (by decide) (by decide) (show (π : Nat → cP) 1 = (.ref w, u) from hv.2.trans hπ)) rfl ?_
              refine ax_icmp_lt (pc := 62) (tgt := 68) G dX2_interrupting_62 rfl (fun c62 => ?_) (fun c62 => ?_)
              · refine ax_iload_n (pc := 68) G dX2_interrupting_68 rfl rfl ?_
                refine ax_iconst (pc := 69) (v := (-1)) G dX2_interrupting_69 (by decide) ?_
                refine ax_icmp_eq (pc := 70) (tgt := 100) G dX2_interrupting_70 rfl (fun c9 => absurd c9 (nI_nm (by omega))) (fun _ => ?_)
                refine ax_aload (pc := 73) G dX2_interrupting_73 rfl ?_
                refine ax_getf (pc := 75) (v := .int (pFrom pl s (20 + i))) G flX2_207_14 dX2_interrupting_75 (alO (pl := pl) ((hE (s, π, (.ref (D.1 0)), (D.1 8))).2) (k := i) (by omega)) rfl ?_
                refine ax_aload_n (pc := 78) G dX2_interrupting_78 rfl rfl ?_
                refine sr_get (pc := 79) (v := .ref (a + 2)) G flX2_26_1 dX2_interrupting_79 rfl ?_
                refine ax_iload_n (pc := 82) G dX2_interrupting_82 rfl rfl ?_
                refine ax_cJ1 (pc := 83) (kb := 0) (nb := 0) G (ct_lget hA ((hE (s, π, (.ref (D.1 0)), (D.1 8))).2.1).1 ((hE (s, π, (.ref (D.1 0)), (D.1 8))).2.1).2.1 (q := D.2.1 3 o) o (by omega) ((hE (s, π, (.ref (D.1 0)), (D.1 8))).2.1).2.2.1 ((hE (s, π, (.ref (D.1 0)), (D.1 8))).2.1).2.2.2.1 (((hE (s, π, (.ref (D.1 0)), (D.1 8))).2.1).2.2.2.2 o (by omega))) lJX2_95_16 dX2_interrupting_83 (((hE (s, π, (.ref (D.1 0)), (D.1 8))).2.1).1) rfl (by decide) (Nat.le_of_ble_eq_true rfl) rfl ?_
                refine ax_checkcast (pc := 88) G q1961 ⟨_, rfl, Or.inl rfl⟩ dX2_interrupting_88 (alO (pl := pl) ((hE (s, π, (.ref (D.1 0)), (D.1 8))).2) (k := o) (by omega)) ?_
                refine ax_getf (pc := 91) (v := .int (pFrom pl s (20 + o))) G flX2_207_14 dX2_interrupting_91 (alO (pl := pl) ((hE (s, π, (.ref (D.1 0)), (D.1 8))).2) (k := o) (by omega)) rfl ?_
                refine ax_icmp_lt (pc := 94) (tgt := 100) G dX2_interrupting_94 rfl (fun c94 => ?_) (fun c94 => ?_)
                · refine ax_aload_n (pc := 100) G dX2_interrupting_100 rfl rfl ?_
                  refine ax_aload_n (pc := 101) G dX2_interrupting_101 rfl rfl ?_
                  refine ax_aload (pc := 102) G dX2_interrupting_102 rfl ?_
                  refine ax_iload_n (pc := 104) G dX2_interrupting_104 rfl rfl ?_
                  refine ax_cV1 (pc := 105) (kb := 0) (nb := 0) G (ct_couldBegin_1 hA (π := π) ha hp hs hE hv20 hw (hv.2.trans hπ) i (by omega)) lVX2_214_1 dX2_interrupting_105 sH_obj rfl (by decide) (Nat.le_of_ble_eq_true rfl) rfl ?_
                  show ax_W Ω Γ _ _ (sH h a (s, cU π 2 (cPl pl (cRow pl s vi i (u 5) (u 3)) (20 + i) O (D.2.1 3 i) (nI i) true (cLf pl s vi i (u 5))), (.ref (D.1 0)), (D.1 8))) _ _ _
                  refine ax_if_eq (pc := 108) (tgt := 113) G dX2_interrupting_108 rfl (fun c108 => ?_) (fun c108 => ?_)
                  · have c108b := bI_f c108
                    refine ax_iincN (pc := 113) (n := 1) G dX2_interrupting_113 rfl rfl ic_1 ?_
                    refine ax_goto (pc := 116) (tgt := 4) G dX2_interrupting_116 rfl ?_
                    have eX : cFB pl s O vi (u 5) (u 6) (u 3) (i + 1) = some (o) := by first | (simp only [cFB, cFBS, e, c14, c38, c50, Int32.not_le.mp c50, c62, Int32.not_le.mpr c62, c94, Int32.not_le.mpr c94, c108b, (of_decide_eq_false c108b), if_true, if_false, Bool.false_eq_true, not_false_eq_true, not_true_eq_false, decide_true, decide_false, Bool.and_true, Bool.true_and, Bool.and_false, Bool.false_and, Bool.or_true, Bool.true_or, Bool.or_false, Bool.false_or, and_self, and_true, true_and, and_false, false_and, or_true, true_or, or_false, false_or, ne_eq]; done) | (simp only [cFB, cFBS, e, c14, c38, c50, Int32.not_le.mp c50, c62, Int32.not_le.mpr c62, c94, Int32.not_le.mpr c94, c108b, (of_decide_eq_false c108b), if_true, if_false, Bool.false_eq_true, not_false_eq_true, not_true_eq_false, decide_true, decide_false, Bool.and_true, Bool.true_and, Bool.and_false, Bool.false_and, Bool.or_true, Bool.true_or, Bool.or_false, Bool.false_or, and_self, and_true, true_and, and_false, false_and, or_true, true_or, or_false, false_or, ne_eq]; rfl) | (simp only [cFB, cFBS, e, c14, if_pos c38, decide_eq_true c38, c50, Int32.not_le.mp c50, c62, Int32.not_le.mpr c62, c94, Int32.not_le.mpr c94, c108b, (of_decide_eq_false c108b), if_true, if_false, Bool.false_eq_true, not_false_eq_true, not_true_eq_false, decide_true, decide_false, Bool.and_true, Bool.true_and, Bool.and_false, Bool.false_and, Bool.or_true, Bool.true_or, Bool.or_false, Bool.false_or, and_self, and_true, true_and, and_false, false_and, or_true, true_or, or_false, false_or, ne_eq]; done) | (simp only [cFB, cFBS, e, c14, if_pos c38, decide_eq_true c38, c50, Int32.not_le.mp c50, c62, Int32.not_le.mpr c62, c94, Int32.not_le.mpr c94, c108b, (of_decide_eq_false c108b), if_true, if_false, Bool.false_eq_true, not_false_eq_true, not_true_eq_false, decide_true, decide_false, Bool.and_true, Bool.true_and, Bool.and_false, Bool.false_and, Bool.or_true, Bool.true_or, Bool.or_false, Bool.false_or, and_self, and_true, true_and, and_false, false_and, or_true, true_or, or_false, false_or, ne_eq]; rfl)
                    have q := ih (i + 1) (cU π 2 (cPl pl (cRow pl s vi i (u 5) (u 3)) (20 + i) O (D.2.1 3 i) (nI i) true (cLf pl s vi i (u 5)))) (some (.ref (D.2.1 3 i))) (by omega) (by exact ⟨(cU_n (by decide)).trans hv.1, (cU_n (by decide)).trans hv.2⟩)
                    rw [eX] at q
                    exact q
                  · have c108b := bI_t c108
                    refine ax_iload_n (pc := 111) G dX2_interrupting_111 rfl rfl ?_
                    refine ax_istore_n (pc := 112) G dX2_interrupting_112 rfl (Nat.le_of_ble_eq_true rfl) rfl ?_
                    refine ax_iincN (pc := 113) (n := 1) G dX2_interrupting_113 rfl rfl ic_1 ?_
                    refine ax_goto (pc := 116) (tgt := 4) G dX2_interrupting_116 rfl ?_
                    have eX : cFB pl s O vi (u 5) (u 6) (u 3) (i + 1) = some (i) := by first | (simp only [cFB, cFBS, e, c14, c38, c50, Int32.not_le.mp c50, c62, Int32.not_le.mpr c62, c94, Int32.not_le.mpr c94, c108b, (of_decide_eq_true c108b), if_true, if_false, Bool.false_eq_true, not_false_eq_true, not_true_eq_false, decide_true, decide_false, Bool.and_true, Bool.true_and, Bool.and_false, Bool.false_and, Bool.or_true, Bool.true_or, Bool.or_false, Bool.false_or, and_self, and_true, true_and, and_false, false_and, or_true, true_or, or_false, false_or, ne_eq]; done) | (simp only [cFB, cFBS, e, c14, c38, c50, Int32.not_le.mp c50, c62, Int32.not_le.mpr c62, c94, Int32.not_le.mpr c94, c108b, (of_decide_eq_true c108b), if_true, if_false, Bool.false_eq_true, not_false_eq_true, not_true_eq_false, decide_true, decide_false, Bool.and_true, Bool.true_and, Bool.and_false, Bool.false_and, Bool.or_true, Bool.true_or, Bool.or_false, Bool.false_or, and_self, and_true, true_and, and_false, false_and, or_true, true_or, or_false, false_or, ne_eq]; rfl) | (simp only [cFB, cFBS, e, c14, if_pos c38, decide_eq_true c38, c50, Int32.not_le.mp c50, c62, Int32.not_le.mpr c62, c94, Int32.not_le.mpr c94, c108b, if_pos (of_decide_eq_true c108b), decide_eq_true (of_decide_eq_true c108b), if_true, if_false, Bool.false_eq_true, not_false_eq_true, not_true_eq_false, decide_true, decide_false, Bool.and_true, Bool.true_and, Bool.and_false, Bool.false_and, Bool.or_true, Bool.true_or, Bool.or_false, Bool.false_or, and_self, and_true, true_and, and_false, false_and, or_true, true_or, or_false, false_or, ne_eq]; done) | (simp only [cFB, cFBS, e, c14, if_pos c38, decide_eq_true c38, c50, Int32.not_le.mp c50, c62, Int32.not_le.mpr c62, c94, Int32.not_le.mpr c94, c108b, if_pos (of_decide_eq_true c108b), decide_eq_true (of_decide_eq_true c108b), if_true, if_false, Bool.false_eq_true, not_false_eq_true, not_true_eq_false, decide_true, decide_false, Bool.and_true, Bool.true_and, Bool.and_false, Bool.false_and, Bool.or_true, Bool.true_or, Bool.or_false, Bool.false_or, and_self, and_true, true_and, and_false, false_and, or_true, true_or, or_false, false_or, ne_eq]; rfl)
                    have q := ih (i + 1) (cU π 2 (cPl pl (cRow pl s vi i (u 5) (u 3)) (20 + i) O (D.2.1 3 i) (nI i) true (cLf pl s vi i (u 5)))) (some (.ref (D.2.1 3 i))) (by omega) (by exact ⟨(cU_n (by decide)).trans hv.1, (cU_n (by decide)).trans hv.2⟩)
                    rw [eX] at q
                    exact q
                · refine ax_goto (pc := 97) (tgt := 113) G dX2_interrupting_97 rfl ?_
                  refine ax_iincN (pc := 113) (n := 1) G dX2_interrupting_113 rfl rfl ic_1 ?_
                  refine ax_goto (pc := 116) (tgt := 4) G dX2_interrupting_116 rfl ?_
                  have eX : cFB pl s O vi (u 5) (u 6) (u 3) (i + 1) = some (o) := by first | (simp only [cFB, cFBS, e, c14, c38, c50, Int32.not_le.mp c50, c62, Int32.not_le.mpr c62, c94, Int32.not_lt.mp c94, if_true, if_false, Bool.false_eq_true, not_false_eq_true, not_true_eq_false, decide_true, decide_false, Bool.and_true, Bool.true_and, Bool.and_false, Bool.false_and, Bool.or_true, Bool.true_or, Bool.or_false, Bool.false_or, and_self, and_true, true_and, and_false, false_and, or_true, true_or, or_false, false_or, ne_eq]; done) | (simp only [cFB, cFBS, e, c14, c38, c50, Int32.not_le.mp c50, c62, Int32.not_le.mpr c62, c94, Int32.not_lt.mp c94, if_true, if_false, Bool.false_eq_true, not_false_eq_true, not_true_eq_false, decide_true, decide_false, Bool.and_true, Bool.true_and, Bool.and_false, Bool.false_and, Bool.or_true, Bool.true_or, Bool.or_false, Bool.false_or, and_self, and_true, true_and, and_false, false_and, or_true, true_or, or_false, false_or, ne_eq]; rfl) | (simp only [cFB, cFBS, e, c14, if_pos c38, decide_eq_true c38, c50, Int32.not_le.mp c50, c62, Int32.not_le.mpr c62, c94, Int32.not_lt.mp c94, if_true, if_false, Bool.false_eq_true, not_false_eq_true, not_true_eq_false, decide_true, decide_false, Bool.and_true, Bool.true_and, Bool.and_false, Bool.false_and, Bool.or_true, Bool.true_or, Bool.or_false, Bool.false_or, and_self, and_true, true_and, and_false, false_and, or_true, true_or, or_false, false_or, ne_eq]; done) | (simp only [cFB, cFBS, e, c14, if_pos c38, decide_eq_true c38, c50, Int32.not_le.mp c50, c62, Int32.not_le.mpr c62, c94, Int32.not_lt.mp c94, if_true, if_false, Bool.false_eq_true, not_false_eq_true, not_true_eq_false, decide_true, decide_false, Bool.and_true, Bool.true_and, Bool.and_false, Bool.false_and, Bool.or_true, Bool.true_or, Bool.or_false, Bool.false_or, and_self, and_true, true_and, and_false, false_and, or_true, true_or, or_false, false_or, ne_eq]; rfl)
                  have q := ih (i + 1) (π) (some (.ref (D.2.1 3 i))) (by omega) (by exact hv)
                  rw [eX] at q
                  exact q
              · refine ax_goto (pc := 65) (tgt := 113) G dX2_interrupting_65 rfl ?_
                refine ax_iincN (pc := 113) (n := 1) G dX2_interrupting_113 rfl rfl ic_1 ?_
                refine ax_goto (pc := 116) (tgt := 4) G dX2_interrupting_116 rfl ?_
                have eX : cFB pl s O vi (u 5) (u 6) (u 3) (i + 1) = some (o) := by first | (simp only [cFB, cFBS, e, c14, c38, c50, Int32.not_le.mp c50, c62, Int32.not_lt.mp c62, if_true, if_false, Bool.false_eq_true, not_false_eq_true, not_true_eq_false, decide_true, decide_false, Bool.and_true, Bool.true_and, Bool.and_false, Bool.false_and, Bool.or_true, Bool.true_or, Bool.or_false, Bool.false_or, and_self, and_true, true_and, and_false, false_and, or_true, true_or, or_false, false_or, ne_eq]; done) | (simp only [cFB, cFBS, e, c14, c38, c50, Int32.not_le.mp c50, c62, Int32.not_lt.mp c62, if_true, if_false, Bool.false_eq_true, not_false_eq_true, not_true_eq_false, decide_true, decide_false, Bool.and_true, Bool.true_and, Bool.and_false, Bool.false_and, Bool.or_true, Bool.true_or, Bool.or_false, Bool.false_or, and_self, and_true, true_and, and_false, false_and, or_true, true_or, or_false, false_or, ne_eq]; rfl) | (simp only [cFB, cFBS, e, c14, if_pos c38, decide_eq_true c38, c50, Int32.not_le.mp c50, c62, Int32.not_lt.mp c62, if_true, if_false, Bool.false_eq_true, not_false_eq_true, not_true_eq_false, decide_true, decide_false, Bool.and_true, Bool.true_and, Bool.and_false, Bool.false_and, Bool.or_true, Bool.true_or, Bool.or_false, Bool.false_or, and_self, and_true, true_and, and_false, false_and, or_true, true_or, or_false, false_or, ne_eq]; done) | (simp only [cFB, cFBS, e, c14, if_pos c38, decide_eq_true c38, c50, Int32.not_le.mp c50, c62, Int32.not_lt.mp c62, if_true, if_false, Bool.false_eq_true, not_false_eq_true, not_true_eq_false, decide_true, decide_false, Bool.and_true, Bool.true_and, Bool.and_false, Bool.false_and, Bool.or_true, Bool.true_or, Bool.or_false, Bool.false_or, and_self, and_true, true_and, and_false, false_and, or_true, true_or, or_false, false_or, ne_eq]; rfl)
                have q := ih (i + 1) (π) (some (.ref (D.2.1 3 i))) (by omega) (by exact hv)
                rw [eX] at q
                exact q
  show ax_W Ω Γ 0 0 (sH h a (s, π, (.ref (D.1 0)), (D.1 8))) 0 [some (.ref a), some (.ref (a + 17)), none, none, none] []
  refine ax_iconst (pc := 0) (v := (-1)) G dX2_interrupting_0 (by decide) ?_
  refine ax_istore_n (pc := 1) G dX2_interrupting_1 rfl (Nat.le_of_ble_eq_true rfl) rfl ?_
  refine ax_iconst (pc := 2) (v := nI 0) G dX2_interrupting_2 ic_0 ?_
  refine ax_istore_n (pc := 3) G dX2_interrupting_3 rfl (Nat.le_of_ble_eq_true rfl) rfl ?_
  exact L0 A 0 π none (by omega) (by exact ⟨e0, e1⟩)

theorem ct_calDue {Ω : ax_O} (hA : ax_Amb Ω) {h : ax_H} {a : Nat} {pl s : pR} {π : Nat → cP} {N V O A : Nat} {D : cD} (ha : Ω.2.1.heap.size ≤ a) (hp : pWP pl N V O) (hs : pWS s A) (hE : cEn h a pl s N V O A D)  : ax_Met Ω yX2_isCalibrationDue 1 0 0 [.ref a] (sH h a (s, π, (.ref (D.1 0)), (D.1 8))) (.inl (some (.int (bI (pCalDue pl s))))) (sH h a (s, π, (.ref (D.1 0)), (D.1 8))) := by
  refine ax_met q1970 q114 (by decide +kernel) (by decide) hA (Nat.le_of_ble_eq_true rfl) (fun Γ G E => ?_)
  have hV9 := hp.lV
  have hA9 := hs.lA
  have hO9 := hp.lO
  show ax_W Ω Γ 0 0 (sH h a (s, π, (.ref (D.1 0)), (D.1 8))) 0 [some (.ref a)] []
  refine ax_aload_n (pc := 0) G dX2_isCalibrationDue_0 rfl rfl ?_
  refine sr_get (pc := 1) (v := .int (s 0)) G flX2_130_1 dX2_isCalibrationDue_1 rfl ?_
  refine ax_aload_n (pc := 4) G dX2_isCalibrationDue_4 rfl rfl ?_
  refine sr_get (pc := 5) (v := .int (s 4)) G flX2_142_1 dX2_isCalibrationDue_5 rfl ?_
  refine ax_isub (pc := 8) G dX2_isCalibrationDue_8 ?_
  refine ax_aload_n (pc := 9) G dX2_isCalibrationDue_9 rfl rfl ?_
  refine sr_get (pc := 10) (v := .int (s 15)) G flX2_145_1 dX2_isCalibrationDue_10 rfl ?_
  refine ax_icmp_lt (pc := 13) (tgt := 42) G dX2_isCalibrationDue_13 rfl (fun c13 => ?_) (fun c13 => ?_)
  · refine ax_iconst (pc := 42) (v := nI 0) G dX2_isCalibrationDue_42 ic_0 ?_
    exact ax_iretE (pc := 43) G E rfl (rfl) dX2_isCalibrationDue_43 (by first | (rw [pCalDue, if_pos ‹s 0 - s 4 < s 15›]; rfl) | (rw [pCalDue, if_neg ‹¬ s 0 - s 4 < s 15›, decide_eq_true (Int32.not_lt.mp ‹¬ pl 0 < s 0 + pl 6›)]; rfl) | (rw [pCalDue, if_neg ‹¬ s 0 - s 4 < s 15›, decide_eq_false (Int32.not_le.mpr ‹pl 0 < s 0 + pl 6›)]; rfl)) (rfl)
  · refine ax_aload_n (pc := 16) G dX2_isCalibrationDue_16 rfl rfl ?_
    refine sr_get (pc := 17) (v := .int (s 0)) G flX2_130_1 dX2_isCalibrationDue_17 rfl ?_
    refine ax_aload_n (pc := 20) G dX2_isCalibrationDue_20 rfl rfl ?_
    refine sr_get (pc := 21) (v := .ref (D.1 0)) G flX2_80_1 dX2_isCalibrationDue_21 rfl ?_
    refine ax_getf (pc := 24) (v := .int (pl 6)) G flX2_233_10 dX2_isCalibrationDue_24 (((hE (s, π, (.ref (D.1 0)), (D.1 8))).1).1) rfl ?_
    refine ax_iadd (pc := 27) G dX2_isCalibrationDue_27 ?_
    refine ax_aload_n (pc := 28) G dX2_isCalibrationDue_28 rfl rfl ?_
    refine sr_get (pc := 29) (v := .ref (D.1 0)) G flX2_80_1 dX2_isCalibrationDue_29 rfl ?_
    refine ax_getf (pc := 32) (v := .int (pl 0)) G flX2_236_10 dX2_isCalibrationDue_32 (((hE (s, π, (.ref (D.1 0)), (D.1 8))).1).1) rfl ?_
    refine ax_icmp_gt (pc := 35) (tgt := 42) G dX2_isCalibrationDue_35 rfl (fun c35 => ?_) (fun c35 => ?_)
    · refine ax_iconst (pc := 42) (v := nI 0) G dX2_isCalibrationDue_42 ic_0 ?_
      exact ax_iretE (pc := 43) G E rfl (rfl) dX2_isCalibrationDue_43 (by first | (rw [pCalDue, if_pos ‹s 0 - s 4 < s 15›]; rfl) | (rw [pCalDue, if_neg ‹¬ s 0 - s 4 < s 15›, decide_eq_true (Int32.not_lt.mp ‹¬ pl 0 < s 0 + pl 6›)]; rfl) | (rw [pCalDue, if_neg ‹¬ s 0 - s 4 < s 15›, decide_eq_false (Int32.not_le.mpr ‹pl 0 < s 0 + pl 6›)]; rfl)) (rfl)
    · refine ax_iconst (pc := 38) (v := nI 1) G dX2_isCalibrationDue_38 ic_1 ?_
      refine ax_goto (pc := 39) (tgt := 43) G dX2_isCalibrationDue_39 rfl ?_
      exact ax_iretE (pc := 43) G E rfl (rfl) dX2_isCalibrationDue_43 (by first | (rw [pCalDue, if_pos ‹s 0 - s 4 < s 15›]; rfl) | (rw [pCalDue, if_neg ‹¬ s 0 - s 4 < s 15›, decide_eq_true (Int32.not_lt.mp ‹¬ pl 0 < s 0 + pl 6›)]; rfl) | (rw [pCalDue, if_neg ‹¬ s 0 - s 4 < s 15›, decide_eq_false (Int32.not_le.mpr ‹pl 0 < s 0 + pl 6›)]; rfl)) (rfl)

theorem ct_expire {Ω : ax_O} (hA : ax_Amb Ω) {h : ax_H} {a : Nat} {pl s : pR} {π : Nat → cP} {N V O A : Nat} {D : cD} (ha : Ω.2.1.heap.size ≤ a) (hp : pWP pl N V O) (hs : pWS s A) (hE : cEn h a pl s N V O A D)  : ax_Met Ω yX2_expire 6 0 0 [.ref a] (sH h a (s, π, (.ref (D.1 0)), (D.1 8))) (.inl none) (sH h a (pExp pl s A, π, .ref (D.1 0), D.1 8)) := by
  refine ax_met q2112 q114 (by decide +kernel) (by decide) hA (Nat.le_of_ble_eq_true rfl) (fun Γ G E => ?_)
  have hV9 := hp.lV
  have hA9 := hs.lA
  have hO9 := hp.lO
  have L0 : ∀ (n i : Nat), i + n = A → ax_W Ω Γ 0 0 (sH h a (pExp pl s i, π, (.ref (D.1 0)), (D.1 8))) 2 [some (.ref a), some (.int (nI i))] [] := by
    intro n
    induction n with
    | zero =>
      intro i hi
      have hi9 : A = i := by omega
      subst hi9
      have hEi := hE.im hs.lA (pIm_exp (pl := pl) (s := s) (n := A) hs.lA)
      refine ax_iload_n (pc := 2) G dX2_expire_2 rfl rfl ?_
      refine ax_aload_n (pc := 3) G dX2_expire_3 rfl rfl ?_
      refine sr_get (pc := 4) (v := .ref (a + 2)) G flX2_26_1 dX2_expire_4 rfl ?_
      refine ax_cJ1 (pc := 7) (kb := 0) (nb := 0) G (ct_lsize hA ((hEi (pExp pl s A, π, (.ref (D.1 0)), (D.1 8))).2.1).1) lJX2_89_16 dX2_expire_7 (((hEi (pExp pl s A, π, (.ref (D.1 0)), (D.1 8))).2.1).1) rfl (by decide) (Nat.le_of_ble_eq_true rfl) rfl ?_
      refine ax_icmp_geN (pc := 12) (tgt := 60) G dX2_expire_12 rfl (by omega) (by omega) (fun c12 => ?_) (fun c12 => ?_)
      · exact ax_vretE (pc := 60) G E rfl dX2_expire_60 (rfl)
      · omega
    | succ n ih =>
      intro i hi
      have hEi := hE.im hs.lA (pIm_exp (pl := pl) (s := s) (n := i) (by omega))
      refine ax_iload_n (pc := 2) G dX2_expire_2 rfl rfl ?_
      refine ax_aload_n (pc := 3) G dX2_expire_3 rfl rfl ?_
      refine sr_get (pc := 4) (v := .ref (a + 2)) G flX2_26_1 dX2_expire_4 rfl ?_
      refine ax_cJ1 (pc := 7) (kb := 0) (nb := 0) G (ct_lsize hA ((hEi (pExp pl s i, π, (.ref (D.1 0)), (D.1 8))).2.1).1) lJX2_89_16 dX2_expire_7 (((hEi (pExp pl s i, π, (.ref (D.1 0)), (D.1 8))).2.1).1) rfl (by decide) (Nat.le_of_ble_eq_true rfl) rfl ?_
      refine ax_icmp_geN (pc := 12) (tgt := 60) G dX2_expire_12 rfl (by omega) (by omega) (fun c12 => ?_) (fun c12 => ?_)
      · omega
      · refine ax_aload_n (pc := 15) G dX2_expire_15 rfl rfl ?_
        refine sr_get (pc := 16) (v := .ref (a + 12)) G flX2_55_1 dX2_expire_16 rfl ?_
        refine ax_iload_n (pc := 19) G dX2_expire_19 rfl rfl ?_
        refine sr_ld (pc := 20) (k := 12) (j := i) (r := 127 + 10 * i + 7) G dX2_expire_20 (by decide) (by decide) rfl rfl (show i < 10 by omega) ?_
        show ax_W Ω Γ _ _ _ _ _ (.int ((pExp pl s i) (127 + 10 * i + 7)) :: _)
        refine ax_if_ne (pc := 21) (tgt := 54) G dX2_expire_21 rfl (fun c21 => ?_) (fun c21 => ?_)
        · refine ax_iincN (pc := 54) (n := 1) G dX2_expire_54 rfl rfl ic_1 ?_
          refine ax_goto (pc := 57) (tgt := 2) G dX2_expire_57 rfl ?_
          have eX : pExp pl s (i + 1) = pExp pl s i := by first | (simp only [pExp, pExpS, pSt_al, c12, c21, if_true, if_false, Bool.false_eq_true, not_false_eq_true, not_true_eq_false, decide_true, decide_false, Bool.and_true, Bool.true_and, Bool.and_false, Bool.false_and, Bool.or_true, Bool.true_or, Bool.or_false, Bool.false_or, and_self, and_true, true_and, and_false, false_and, or_true, true_or, or_false, false_or, ne_eq]; done) | (simp only [pExp, pExpS, pSt_al, c12, c21, if_true, if_false, Bool.false_eq_true, not_false_eq_true, not_true_eq_false, decide_true, decide_false, Bool.and_true, Bool.true_and, Bool.and_false, Bool.false_and, Bool.or_true, Bool.true_or, Bool.or_false, Bool.false_or, and_self, and_true, true_and, and_false, false_and, or_true, true_or, or_false, false_or, ne_eq]; rfl)
          have q := ih (i + 1) (by omega)
          rw [eX] at q
          exact q
        · refine ax_aload_n (pc := 24) G dX2_expire_24 rfl rfl ?_
          refine sr_get (pc := 25) (v := .ref (a + 2)) G flX2_26_1 dX2_expire_25 rfl ?_
          refine ax_iload_n (pc := 28) G dX2_expire_28 rfl rfl ?_
          refine ax_cJ1 (pc := 29) (kb := 0) (nb := 0) G (ct_lget hA ((hEi (pExp pl s i, π, (.ref (D.1 0)), (D.1 8))).2.1).1 ((hEi (pExp pl s i, π, (.ref (D.1 0)), (D.1 8))).2.1).2.1 (q := D.2.1 3 i) i (by omega) ((hEi (pExp pl s i, π, (.ref (D.1 0)), (D.1 8))).2.1).2.2.1 ((hEi (pExp pl s i, π, (.ref (D.1 0)), (D.1 8))).2.1).2.2.2.1 (((hEi (pExp pl s i, π, (.ref (D.1 0)), (D.1 8))).2.1).2.2.2.2 i (by omega))) lJX2_95_16 dX2_expire_29 (((hEi (pExp pl s i, π, (.ref (D.1 0)), (D.1 8))).2.1).1) rfl (by decide) (Nat.le_of_ble_eq_true rfl) rfl ?_
          refine ax_checkcast (pc := 34) G q1961 ⟨_, rfl, Or.inl rfl⟩ dX2_expire_34 (alO (pl := pl) ((hEi (pExp pl s i, π, (.ref (D.1 0)), (D.1 8))).2) (k := i) (by omega)) ?_
          refine ax_cV1 (pc := 37) (kb := 0) (nb := 0) G (ct_to_14 hA (alO (pl := pl) ((hEi (pExp pl s i, π, (.ref (D.1 0)), (D.1 8))).2) (k := i) (by omega))) lVX2_200_14 dX2_expire_37 (alO (pl := pl) ((hEi (pExp pl s i, π, (.ref (D.1 0)), (D.1 8))).2) (k := i) (by omega)) rfl (by decide) (Nat.le_of_ble_eq_true rfl) rfl ?_
          rw [pTo_al (pl := pl)]
          refine ax_aload_n (pc := 40) G dX2_expire_40 rfl rfl ?_
          refine sr_get (pc := 41) (v := .int ((pExp pl s i) 0)) G flX2_130_1 dX2_expire_41 rfl ?_
          refine ax_icmp_ge (pc := 44) (tgt := 54) G dX2_expire_44 rfl (fun c44 => ?_) (fun c44 => ?_)
          · refine ax_iincN (pc := 54) (n := 1) G dX2_expire_54 rfl rfl ic_1 ?_
            refine ax_goto (pc := 57) (tgt := 2) G dX2_expire_57 rfl ?_
            have eX : pExp pl s (i + 1) = pExp pl s i := by first | (simp only [pExp, pExpS, pSt_al, c12, c21, c44, Int32.not_lt.mpr c44, if_true, if_false, Bool.false_eq_true, not_false_eq_true, not_true_eq_false, decide_true, decide_false, Bool.and_true, Bool.true_and, Bool.and_false, Bool.false_and, Bool.or_true, Bool.true_or, Bool.or_false, Bool.false_or, and_self, and_true, true_and, and_false, false_and, or_true, true_or, or_false, false_or, ne_eq]; done) | (simp only [pExp, pExpS, pSt_al, c12, c21, c44, Int32.not_lt.mpr c44, if_true, if_false, Bool.false_eq_true, not_false_eq_true, not_true_eq_false, decide_true, decide_false, Bool.and_true, Bool.true_and, Bool.and_false, Bool.false_and, Bool.or_true, Bool.true_or, Bool.or_false, Bool.false_or, and_self, and_true, true_and, and_false, false_and, or_true, true_or, or_false, false_or, ne_eq]; rfl) | (simp only [pExp, pExpS, pSt_al, c12, if_pos c21, decide_eq_true c21, c44, Int32.not_lt.mpr c44, if_true, if_false, Bool.false_eq_true, not_false_eq_true, not_true_eq_false, decide_true, decide_false, Bool.and_true, Bool.true_and, Bool.and_false, Bool.false_and, Bool.or_true, Bool.true_or, Bool.or_false, Bool.false_or, and_self, and_true, true_and, and_false, false_and, or_true, true_or, or_false, false_or, ne_eq]; done) | (simp only [pExp, pExpS, pSt_al, c12, if_pos c21, decide_eq_true c21, c44, Int32.not_lt.mpr c44, if_true, if_false, Bool.false_eq_true, not_false_eq_true, not_true_eq_false, decide_true, decide_false, Bool.and_true, Bool.true_and, Bool.and_false, Bool.false_and, Bool.or_true, Bool.true_or, Bool.or_false, Bool.false_or, and_self, and_true, true_and, and_false, false_and, or_true, true_or, or_false, false_or, ne_eq]; rfl)
            have q := ih (i + 1) (by omega)
            rw [eX] at q
            exact q
          · refine ax_aload_n (pc := 47) G dX2_expire_47 rfl rfl ?_
            refine sr_get (pc := 48) (v := .ref (a + 12)) G flX2_55_1 dX2_expire_48 rfl ?_
            refine ax_iload_n (pc := 51) G dX2_expire_51 rfl rfl ?_
            refine ax_iconst (pc := 52) (v := nI 2) G dX2_expire_52 ic_2 ?_
            refine sr_st (pc := 53) (k := 12) (j := i) (r := 127 + 10 * i + 7) G dX2_expire_53 ha (by decide) (by decide) rfl rfl (show i < 10 by omega) ?_
            show ax_W Ω Γ _ _ (sH h a (upd (pExp pl s i) (127 + 10 * i + 7) (nI 2), π, (.ref (D.1 0)), (D.1 8))) _ _ _
            refine ax_iincN (pc := 54) (n := 1) G dX2_expire_54 rfl rfl ic_1 ?_
            refine ax_goto (pc := 57) (tgt := 2) G dX2_expire_57 rfl ?_
            have eX : pExp pl s (i + 1) = upd (pExp pl s i) (127 + 10 * i + 7) (nI 2) := by first | (simp only [pExp, pExpS, pSt_al, c12, c21, c44, Int32.not_le.mp c44, if_true, if_false, Bool.false_eq_true, not_false_eq_true, not_true_eq_false, decide_true, decide_false, Bool.and_true, Bool.true_and, Bool.and_false, Bool.false_and, Bool.or_true, Bool.true_or, Bool.or_false, Bool.false_or, and_self, and_true, true_and, and_false, false_and, or_true, true_or, or_false, false_or, ne_eq]; done) | (simp only [pExp, pExpS, pSt_al, c12, c21, c44, Int32.not_le.mp c44, if_true, if_false, Bool.false_eq_true, not_false_eq_true, not_true_eq_false, decide_true, decide_false, Bool.and_true, Bool.true_and, Bool.and_false, Bool.false_and, Bool.or_true, Bool.true_or, Bool.or_false, Bool.false_or, and_self, and_true, true_and, and_false, false_and, or_true, true_or, or_false, false_or, ne_eq]; rfl) | (simp only [pExp, pExpS, pSt_al, c12, if_pos c21, decide_eq_true c21, c44, Int32.not_le.mp c44, if_true, if_false, Bool.false_eq_true, not_false_eq_true, not_true_eq_false, decide_true, decide_false, Bool.and_true, Bool.true_and, Bool.and_false, Bool.false_and, Bool.or_true, Bool.true_or, Bool.or_false, Bool.false_or, and_self, and_true, true_and, and_false, false_and, or_true, true_or, or_false, false_or, ne_eq]; done) | (simp only [pExp, pExpS, pSt_al, c12, if_pos c21, decide_eq_true c21, c44, Int32.not_le.mp c44, if_true, if_false, Bool.false_eq_true, not_false_eq_true, not_true_eq_false, decide_true, decide_false, Bool.and_true, Bool.true_and, Bool.and_false, Bool.false_and, Bool.or_true, Bool.true_or, Bool.or_false, Bool.false_or, and_self, and_true, true_and, and_false, false_and, or_true, true_or, or_false, false_or, ne_eq]; rfl)
            have q := ih (i + 1) (by omega)
            rw [eX] at q
            exact q
  show ax_W Ω Γ 0 0 (sH h a (s, π, (.ref (D.1 0)), (D.1 8))) 0 [some (.ref a), none] []
  refine ax_iconst (pc := 0) (v := nI 0) G dX2_expire_0 ic_0 ?_
  refine ax_istore_n (pc := 1) G dX2_expire_1 rfl (Nat.le_of_ble_eq_true rfl) rfl ?_
  exact L0 A 0 (by omega)

theorem ct_write {Ω : ax_O} (hA : ax_Amb Ω) {h : ax_H} {a : Nat} {pl s : pR} {π : Nat → cP} {N V O A : Nat} {D : cD} (ha : Ω.2.1.heap.size ≤ a) (hp : pWP pl N V O) (hs : pWS s A) (hE : cEn h a pl s N V O A D) {L : Nat} (hL : s 16 = nI L) (hl : L ≤ 100) (k v b : Int32) : ax_Met Ω yX2_write 1 0 0 [.ref a, .int k, .int v, .int b] (sH h a (s, π, (.ref (D.1 0)), (D.1 8))) (.inl none) (sH h a (pLogs s k v b, π, .ref (D.1 0), D.1 8)) := by
  refine ax_met q2130 q114 (by decide +kernel) (by decide) hA (Nat.le_of_ble_eq_true rfl) (fun Γ G E => ?_)
  have hV9 := hp.lV
  have hA9 := hs.lA
  have hO9 := hp.lO
  show ax_W Ω Γ 0 0 (sH h a (s, π, (.ref (D.1 0)), (D.1 8))) 0 [some (.ref a), some (.int k), some (.int v), some (.int b), none] []
  refine ax_aload_n (pc := 0) G dX2_write_0 rfl rfl ?_
  refine sr_get (pc := 1) (v := .int (s 16)) G flX2_151_1 dX2_write_1 rfl ?_
  refine ax_top (show Value.int (s 16) = .int (nI L) from congrArg Value.int (hL)) ?_
  refine ax_bipush (pc := 4) (v := nI 100) G dX2_write_4 ib_100 ?_
  refine ax_icmp_neN (pc := 6) (tgt := 10) G dX2_write_6 rfl (by omega) (by omega) (fun c6 => ?_) (fun c6 => ?_)
  · refine ax_iconst (pc := 10) (v := nI 4) G dX2_write_10 ic_4 ?_
    refine ax_aload_n (pc := 11) G dX2_write_11 rfl rfl ?_
    refine sr_get (pc := 12) (v := .int (s 16)) G flX2_151_1 dX2_write_12 rfl ?_
    refine ax_top (show Value.int (s 16) = .int (nI L) from congrArg Value.int (hL)) ?_
    refine ax_imulN (pc := 15) G dX2_write_15 ?_
    refine ax_istore (pc := 16) G dX2_write_16 (Nat.le_of_ble_eq_true rfl) rfl ?_
    refine ax_aload_n (pc := 18) G dX2_write_18 rfl rfl ?_
    refine sr_get (pc := 19) (v := .ref (a + 15)) G flX2_64_1 dX2_write_19 rfl ?_
    refine ax_iload (pc := 22) G dX2_write_22 rfl ?_
    refine ax_iload_n (pc := 24) G dX2_write_24 rfl rfl ?_
    refine sr_st (pc := 25) (k := 15) (j := 4 * L) (r := 227 + 4 * L) G dX2_write_25 ha (by decide) (by decide) rfl rfl (show 4 * L < 400 by omega) ?_
    show ax_W Ω Γ _ _ (sH h a (upd s (227 + 4 * L) k, π, (.ref (D.1 0)), (D.1 8))) _ _ _
    refine ax_aload_n (pc := 26) G dX2_write_26 rfl rfl ?_
    refine sr_get (pc := 27) (v := .ref (a + 15)) G flX2_64_1 dX2_write_27 rfl ?_
    refine ax_iload (pc := 30) G dX2_write_30 rfl ?_
    refine ax_iconst (pc := 32) (v := nI 1) G dX2_write_32 ic_1 ?_
    refine ax_iaddN (pc := 33) G dX2_write_33 ?_
    refine ax_iload_n (pc := 34) G dX2_write_34 rfl rfl ?_
    refine sr_st (pc := 35) (k := 15) (j := 4 * L + 1) (r := 227 + (4 * L + 1)) G dX2_write_35 ha (by decide) (by decide) rfl rfl (show 4 * L + 1 < 400 by omega) ?_
    show ax_W Ω Γ _ _ (sH h a (upd (upd s (227 + 4 * L) k) (227 + (4 * L + 1)) v, π, (.ref (D.1 0)), (D.1 8))) _ _ _
    refine ax_aload_n (pc := 36) G dX2_write_36 rfl rfl ?_
    refine sr_get (pc := 37) (v := .ref (a + 15)) G flX2_64_1 dX2_write_37 rfl ?_
    refine ax_iload (pc := 40) G dX2_write_40 rfl ?_
    refine ax_iconst (pc := 42) (v := nI 2) G dX2_write_42 ic_2 ?_
    refine ax_iaddN (pc := 43) G dX2_write_43 ?_
    refine ax_iload_n (pc := 44) G dX2_write_44 rfl rfl ?_
    refine sr_st (pc := 45) (k := 15) (j := 4 * L + 2) (r := 227 + (4 * L + 2)) G dX2_write_45 ha (by decide) (by decide) rfl rfl (show 4 * L + 2 < 400 by omega) ?_
    show ax_W Ω Γ _ _ (sH h a (upd (upd (upd s (227 + 4 * L) k) (227 + (4 * L + 1)) v) (227 + (4 * L + 2)) b, π, (.ref (D.1 0)), (D.1 8))) _ _ _
    refine ax_aload_n (pc := 46) G dX2_write_46 rfl rfl ?_
    refine sr_get (pc := 47) (v := .ref (a + 15)) G flX2_64_1 dX2_write_47 rfl ?_
    refine ax_iload (pc := 50) G dX2_write_50 rfl ?_
    refine ax_iconst (pc := 52) (v := nI 3) G dX2_write_52 ic_3 ?_
    refine ax_iaddN (pc := 53) G dX2_write_53 ?_
    refine ax_aload_n (pc := 54) G dX2_write_54 rfl rfl ?_
    refine sr_get (pc := 55) (v := .int ((upd (upd (upd s (227 + 4 * L) k) (227 + (4 * L + 1)) v) (227 + (4 * L + 2)) b) 0)) G flX2_130_1 dX2_write_55 rfl ?_
    refine sr_st (pc := 58) (k := 15) (j := 4 * L + 3) (r := 227 + (4 * L + 3)) G dX2_write_58 ha (by decide) (by decide) rfl rfl (show 4 * L + 3 < 400 by omega) ?_
    show ax_W Ω Γ _ _ (sH h a (upd (upd (upd (upd s (227 + 4 * L) k) (227 + (4 * L + 1)) v) (227 + (4 * L + 2)) b) (227 + (4 * L + 3)) ((upd (upd (upd s (227 + 4 * L) k) (227 + (4 * L + 1)) v) (227 + (4 * L + 2)) b) 0), π, (.ref (D.1 0)), (D.1 8))) _ _ _
    refine ax_aload_n (pc := 59) G dX2_write_59 rfl rfl ?_
    refine ax_dup (pc := 60) G dX2_write_60 rfl ?_
    refine sr_get (pc := 61) (v := .int ((upd (upd (upd (upd s (227 + 4 * L) k) (227 + (4 * L + 1)) v) (227 + (4 * L + 2)) b) (227 + (4 * L + 3)) ((upd (upd (upd s (227 + 4 * L) k) (227 + (4 * L + 1)) v) (227 + (4 * L + 2)) b) 0)) 16)) G flX2_151_1 dX2_write_61 rfl ?_
    refine ax_iconst (pc := 64) (v := nI 1) G dX2_write_64 ic_1 ?_
    refine ax_iadd (pc := 65) G dX2_write_65 ?_
    refine sr_put (pc := 66) (k := 22) (r := 16) G flX2_151_1 dX2_write_66 ha (by decide) (by decide) rfl rfl rfl ?_
    show ax_W Ω Γ _ _ (sH h a (pAdd (upd (upd (upd (upd s (227 + 4 * L) k) (227 + (4 * L + 1)) v) (227 + (4 * L + 2)) b) (227 + (4 * L + 3)) ((upd (upd (upd s (227 + 4 * L) k) (227 + (4 * L + 1)) v) (227 + (4 * L + 2)) b) 0)) 16 (nI 1), π, (.ref (D.1 0)), (D.1 8))) _ _ _
    exact ax_vretE (pc := 69) G E rfl dX2_write_69 (by
  have h9 : ¬ s 16 = 100 := fun z => c6 ((nI_eq (by omega) (by omega)).mp (hL.symm.trans z))
  rw [pLogs, if_neg h9, hL, pN_nI (by omega)]; rfl)
  · exact ax_vretE (pc := 9) G E rfl dX2_write_9 (by rw [pLogs, if_pos (by rw [hL, c6]; rfl)])

theorem ct_makeDump {Ω : ax_O} (hA : ax_Amb Ω) {h : ax_H} {a : Nat} {pl s : pR} {π : Nat → cP} {N V O A : Nat} {D : cD} (ha : Ω.2.1.heap.size ≤ a) (hp : pWP pl N V O) (hs : pWS s A) (hE : cEn h a pl s N V O A D) (mi : Int32) : ax_Met Ω yX2_makeDump 1 0 0 [.ref a, .int mi] (sH h a (s, π, (.ref (D.1 0)), (D.1 8))) (.inl none) (sH h a (cMd s mi, π, .ref (D.1 0), D.1 8)) := by
  refine ax_met q2126 q114 (by decide +kernel) (by decide) hA (Nat.le_of_ble_eq_true rfl) (fun Γ G E => ?_)
  have hV9 := hp.lV
  have hA9 := hs.lA
  have hO9 := hp.lO
  show ax_W Ω Γ 0 0 (sH h a (s, π, (.ref (D.1 0)), (D.1 8))) 0 [some (.ref a), some (.int mi)] []
  refine ax_aload_n (pc := 0) G dX2_makeDump_0 rfl rfl ?_
  refine ax_iconst (pc := 1) (v := nI 0) G dX2_makeDump_1 ic_0 ?_
  refine sr_put (pc := 2) (k := 18) (r := 3) G flX2_139_1 dX2_makeDump_2 ha (by decide) (by decide) rfl rfl rfl ?_
  show ax_W Ω Γ _ _ (sH h a (upd s 3 (nI 0), π, (.ref (D.1 0)), (D.1 8))) _ _ _
  refine ax_aload_n (pc := 5) G dX2_makeDump_5 rfl rfl ?_
  refine sr_get (pc := 6) (v := .ref (a + 14)) G flX2_61_1 dX2_makeDump_6 rfl ?_
  refine ax_iconst (pc := 9) (v := nI 3) G dX2_makeDump_9 ic_3 ?_
  refine ax_dup2_11 (pc := 10) G dX2_makeDump_10 rfl rfl ?_
  refine sr_ld (pc := 11) (k := 14) (j := 3) (r := 9) G dX2_makeDump_11 (by decide) (by decide) rfl rfl (show 3 < 8 by omega) ?_
  show ax_W Ω Γ _ _ _ _ _ (.int ((upd s 3 (nI 0)) 9) :: _)
  refine ax_iload_n (pc := 12) G dX2_makeDump_12 rfl rfl ?_
  refine ax_iadd (pc := 13) G dX2_makeDump_13 ?_
  refine sr_st (pc := 14) (k := 14) (j := 3) (r := 9) G dX2_makeDump_14 ha (by decide) (by decide) rfl rfl (show 3 < 8 by omega) ?_
  show ax_W Ω Γ _ _ (sH h a (pAdd (upd s 3 (nI 0)) 9 mi, π, (.ref (D.1 0)), (D.1 8))) _ _ _
  refine ax_aload_n (pc := 15) G dX2_makeDump_15 rfl rfl ?_
  refine sr_get (pc := 16) (v := .ref (a + 14)) G flX2_61_1 dX2_makeDump_16 rfl ?_
  refine ax_bipush (pc := 19) (v := nI 6) G dX2_makeDump_19 ib_6 ?_
  refine ax_dup2_11 (pc := 21) G dX2_makeDump_21 rfl rfl ?_
  refine sr_ld (pc := 22) (k := 14) (j := 6) (r := 12) G dX2_makeDump_22 (by decide) (by decide) rfl rfl (show 6 < 8 by omega) ?_
  show ax_W Ω Γ _ _ _ _ _ (.int ((pAdd (upd s 3 (nI 0)) 9 mi) 12) :: _)
  refine ax_iconst (pc := 23) (v := nI 1) G dX2_makeDump_23 ic_1 ?_
  refine ax_iadd (pc := 24) G dX2_makeDump_24 ?_
  refine sr_st (pc := 25) (k := 14) (j := 6) (r := 12) G dX2_makeDump_25 ha (by decide) (by decide) rfl rfl (show 6 < 8 by omega) ?_
  show ax_W Ω Γ _ _ (sH h a (pAdd (pAdd (upd s 3 (nI 0)) 9 mi) 12 (nI 1), π, (.ref (D.1 0)), (D.1 8))) _ _ _
  exact ax_vretE (pc := 26) G E rfl dX2_makeDump_26 (rfl)

theorem ct_makeCal {Ω : ax_O} (hA : ax_Amb Ω) {h : ax_H} {a : Nat} {pl s : pR} {π : Nat → cP} {N V O A : Nat} {D : cD} (ha : Ω.2.1.heap.size ≤ a) (hp : pWP pl N V O) (hs : pWS s A) (hE : cEn h a pl s N V O A D)  : ax_Met Ω yX2_makeCalibration 1 0 0 [.ref a] (sH h a (s, π, (.ref (D.1 0)), (D.1 8))) (.inl none) (sH h a (pCalibrates pl s, π, .ref (D.1 0), D.1 8)) := by
  refine ax_met q2134 q114 (by decide +kernel) (by decide) hA (Nat.le_of_ble_eq_true rfl) (fun Γ G E => ?_)
  have hV9 := hp.lV
  have hA9 := hs.lA
  have hO9 := hp.lO
  show ax_W Ω Γ 0 0 (sH h a (s, π, (.ref (D.1 0)), (D.1 8))) 0 [some (.ref a)] []
  refine ax_aload_n (pc := 0) G dX2_makeCalibration_0 rfl rfl ?_
  refine ax_dup (pc := 1) G dX2_makeCalibration_1 rfl ?_
  refine sr_get (pc := 2) (v := .int (s 0)) G flX2_130_1 dX2_makeCalibration_2 rfl ?_
  refine ax_aload_n (pc := 5) G dX2_makeCalibration_5 rfl rfl ?_
  refine sr_get (pc := 6) (v := .ref (D.1 0)) G flX2_80_1 dX2_makeCalibration_6 rfl ?_
  refine ax_getf (pc := 9) (v := .int (pl 6)) G flX2_233_10 dX2_makeCalibration_9 (((hE (s, π, (.ref (D.1 0)), (D.1 8))).1).1) rfl ?_
  refine ax_iadd (pc := 12) G dX2_makeCalibration_12 ?_
  refine sr_put (pc := 13) (k := 15) (r := 0) G flX2_130_1 dX2_makeCalibration_13 ha (by decide) (by decide) rfl rfl rfl ?_
  show ax_W Ω Γ _ _ (sH h a (pAdd s 0 (pl 6), π, (.ref (D.1 0)), (D.1 8))) _ _ _
  refine ax_aload_n (pc := 16) G dX2_makeCalibration_16 rfl rfl ?_
  refine ax_aload_n (pc := 17) G dX2_makeCalibration_17 rfl rfl ?_
  refine sr_get (pc := 18) (v := .int ((pAdd s 0 (pl 6)) 0)) G flX2_130_1 dX2_makeCalibration_18 rfl ?_
  refine sr_put (pc := 21) (k := 19) (r := 4) G flX2_142_1 dX2_makeCalibration_21 ha (by decide) (by decide) rfl rfl rfl ?_
  show ax_W Ω Γ _ _ (sH h a (upd (pAdd s 0 (pl 6)) 4 ((pAdd s 0 (pl 6)) 0), π, (.ref (D.1 0)), (D.1 8))) _ _ _
  refine ax_aload_n (pc := 24) G dX2_makeCalibration_24 rfl rfl ?_
  refine sr_get (pc := 25) (v := .ref (a + 14)) G flX2_61_1 dX2_makeCalibration_25 rfl ?_
  refine ax_iconst (pc := 28) (v := nI 4) G dX2_makeCalibration_28 ic_4 ?_
  refine ax_dup2_11 (pc := 29) G dX2_makeCalibration_29 rfl rfl ?_
  refine sr_ld (pc := 30) (k := 14) (j := 4) (r := 10) G dX2_makeCalibration_30 (by decide) (by decide) rfl rfl (show 4 < 8 by omega) ?_
  show ax_W Ω Γ _ _ _ _ _ (.int ((upd (pAdd s 0 (pl 6)) 4 ((pAdd s 0 (pl 6)) 0)) 10) :: _)
  refine ax_aload_n (pc := 31) G dX2_makeCalibration_31 rfl rfl ?_
  refine sr_get (pc := 32) (v := .ref (D.1 0)) G flX2_80_1 dX2_makeCalibration_32 rfl ?_
  refine ax_getf (pc := 35) (v := .int (pl 6)) G flX2_233_10 dX2_makeCalibration_35 (((hE (upd (pAdd s 0 (pl 6)) 4 ((pAdd s 0 (pl 6)) 0), π, (.ref (D.1 0)), (D.1 8))).1).1) rfl ?_
  refine ax_iadd (pc := 38) G dX2_makeCalibration_38 ?_
  refine sr_st (pc := 39) (k := 14) (j := 4) (r := 10) G dX2_makeCalibration_39 ha (by decide) (by decide) rfl rfl (show 4 < 8 by omega) ?_
  show ax_W Ω Γ _ _ (sH h a (pAdd (upd (pAdd s 0 (pl 6)) 4 ((pAdd s 0 (pl 6)) 0)) 10 (pl 6), π, (.ref (D.1 0)), (D.1 8))) _ _ _
  refine ax_aload_n (pc := 40) G dX2_makeCalibration_40 rfl rfl ?_
  refine sr_get (pc := 41) (v := .ref (a + 14)) G flX2_61_1 dX2_makeCalibration_41 rfl ?_
  refine ax_bipush (pc := 44) (v := nI 7) G dX2_makeCalibration_44 ib_7 ?_
  refine ax_dup2_11 (pc := 46) G dX2_makeCalibration_46 rfl rfl ?_
  refine sr_ld (pc := 47) (k := 14) (j := 7) (r := 13) G dX2_makeCalibration_47 (by decide) (by decide) rfl rfl (show 7 < 8 by omega) ?_
  show ax_W Ω Γ _ _ _ _ _ (.int ((pAdd (upd (pAdd s 0 (pl 6)) 4 ((pAdd s 0 (pl 6)) 0)) 10 (pl 6)) 13) :: _)
  refine ax_iconst (pc := 48) (v := nI 1) G dX2_makeCalibration_48 ic_1 ?_
  refine ax_iadd (pc := 49) G dX2_makeCalibration_49 ?_
  refine sr_st (pc := 50) (k := 14) (j := 7) (r := 13) G dX2_makeCalibration_50 ha (by decide) (by decide) rfl rfl (show 7 < 8 by omega) ?_
  show ax_W Ω Γ _ _ (sH h a (pAdd (pAdd (upd (pAdd s 0 (pl 6)) 4 ((pAdd s 0 (pl 6)) 0)) 10 (pl 6)) 13 (nI 1), π, (.ref (D.1 0)), (D.1 8))) _ _ _
  exact ax_vretE (pc := 51) G E rfl dX2_makeCalibration_51 (rfl)

theorem ct_idleEnd {Ω : ax_O} (hA : ax_Amb Ω) {h : ax_H} {a : Nat} {pl s : pR} {π : Nat → cP} {N V O A : Nat} {D : cD} (ha : Ω.2.1.heap.size ≤ a) (hp : pWP pl N V O) (hs : pWS s A) (hE : cEn h a pl s N V O A D)  : ax_Met Ω yX2_idleEnd 5 0 0 [.ref a] (sH h a (s, π, (.ref (D.1 0)), (D.1 8))) (.inl (some (.int (pIdleTo pl s A)))) (sH h a (s, π, (.ref (D.1 0)), (D.1 8))) := by
  refine ax_met q2146 q114 (by decide +kernel) (by decide) hA (Nat.le_of_ble_eq_true rfl) (fun Γ G E => ?_)
  have hV9 := hp.lV
  have hA9 := hs.lA
  have hO9 := hp.lO
  have L0 : ∀ (n i : Nat), i + n = A → ax_W Ω Γ 0 0 (sH h a (s, π, (.ref (D.1 0)), (D.1 8))) 20 [some (.ref a), some (.int (pIdleTo pl s i)), some (.int (nI i))] [] := by
    intro n
    induction n with
    | zero =>
      intro i hi
      have hi9 : A = i := by omega
      subst hi9
      refine ax_iload_n (pc := 20) G dX2_idleEnd_20 rfl rfl ?_
      refine ax_aload_n (pc := 21) G dX2_idleEnd_21 rfl rfl ?_
      refine sr_get (pc := 22) (v := .ref (a + 2)) G flX2_26_1 dX2_idleEnd_22 rfl ?_
      refine ax_cJ1 (pc := 25) (kb := 0) (nb := 0) G (ct_lsize hA ((hE (s, π, (.ref (D.1 0)), (D.1 8))).2.1).1) lJX2_89_16 dX2_idleEnd_25 (((hE (s, π, (.ref (D.1 0)), (D.1 8))).2.1).1) rfl (by decide) (Nat.le_of_ble_eq_true rfl) rfl ?_
      refine ax_icmp_geN (pc := 30) (tgt := 92) G dX2_idleEnd_30 rfl (by omega) (by omega) (fun c30 => ?_) (fun c30 => ?_)
      · refine ax_iload_n (pc := 92) G dX2_idleEnd_92 rfl rfl ?_
        exact ax_iretE (pc := 93) G E rfl (rfl) dX2_idleEnd_93 (rfl) (rfl)
      · omega
    | succ n ih =>
      intro i hi
      refine ax_iload_n (pc := 20) G dX2_idleEnd_20 rfl rfl ?_
      refine ax_aload_n (pc := 21) G dX2_idleEnd_21 rfl rfl ?_
      refine sr_get (pc := 22) (v := .ref (a + 2)) G flX2_26_1 dX2_idleEnd_22 rfl ?_
      refine ax_cJ1 (pc := 25) (kb := 0) (nb := 0) G (ct_lsize hA ((hE (s, π, (.ref (D.1 0)), (D.1 8))).2.1).1) lJX2_89_16 dX2_idleEnd_25 (((hE (s, π, (.ref (D.1 0)), (D.1 8))).2.1).1) rfl (by decide) (Nat.le_of_ble_eq_true rfl) rfl ?_
      refine ax_icmp_geN (pc := 30) (tgt := 92) G dX2_idleEnd_30 rfl (by omega) (by omega) (fun c30 => ?_) (fun c30 => ?_)
      · omega
      · refine ax_aload_n (pc := 33) G dX2_idleEnd_33 rfl rfl ?_
        refine sr_get (pc := 34) (v := .ref (a + 12)) G flX2_55_1 dX2_idleEnd_34 rfl ?_
        refine ax_iload_n (pc := 37) G dX2_idleEnd_37 rfl rfl ?_
        refine sr_ld (pc := 38) (k := 12) (j := i) (r := 127 + 10 * i + 7) G dX2_idleEnd_38 (by decide) (by decide) rfl rfl (show i < 10 by omega) ?_
        show ax_W Ω Γ _ _ _ _ _ (.int (s (127 + 10 * i + 7)) :: _)
        refine ax_if_ne (pc := 39) (tgt := 86) G dX2_idleEnd_39 rfl (fun c39 => ?_) (fun c39 => ?_)
        · refine ax_iincN (pc := 86) (n := 1) G dX2_idleEnd_86 rfl rfl ic_1 ?_
          refine ax_goto (pc := 89) (tgt := 20) G dX2_idleEnd_89 rfl ?_
          have eX : pIdleTo pl s (i + 1) = pIdleTo pl s i := by first | (simp only [pIdleTo, pSt_al, c30, c39, if_true, if_false, Bool.false_eq_true, not_false_eq_true, not_true_eq_false, decide_true, decide_false, Bool.and_true, Bool.true_and, Bool.and_false, Bool.false_and, Bool.or_true, Bool.true_or, Bool.or_false, Bool.false_or, and_self, and_true, true_and, and_false, false_and, or_true, true_or, or_false, false_or, ne_eq]; done) | (simp only [pIdleTo, pSt_al, c30, c39, if_true, if_false, Bool.false_eq_true, not_false_eq_true, not_true_eq_false, decide_true, decide_false, Bool.and_true, Bool.true_and, Bool.and_false, Bool.false_and, Bool.or_true, Bool.true_or, Bool.or_false, Bool.false_or, and_self, and_true, true_and, and_false, false_and, or_true, true_or, or_false, false_or, ne_eq]; rfl)
          have q := ih (i + 1) (by omega)
          rw [eX] at q
          exact q
        · refine ax_aload_n (pc := 42) G dX2_idleEnd_42 rfl rfl ?_
          refine sr_get (pc := 43) (v := .ref (a + 2)) G flX2_26_1 dX2_idleEnd_43 rfl ?_
          refine ax_iload_n (pc := 46) G dX2_idleEnd_46 rfl rfl ?_
          refine ax_cJ1 (pc := 47) (kb := 0) (nb := 0) G (ct_lget hA ((hE (s, π, (.ref (D.1 0)), (D.1 8))).2.1).1 ((hE (s, π, (.ref (D.1 0)), (D.1 8))).2.1).2.1 (q := D.2.1 3 i) i (by omega) ((hE (s, π, (.ref (D.1 0)), (D.1 8))).2.1).2.2.1 ((hE (s, π, (.ref (D.1 0)), (D.1 8))).2.1).2.2.2.1 (((hE (s, π, (.ref (D.1 0)), (D.1 8))).2.1).2.2.2.2 i (by omega))) lJX2_95_16 dX2_idleEnd_47 (((hE (s, π, (.ref (D.1 0)), (D.1 8))).2.1).1) rfl (by decide) (Nat.le_of_ble_eq_true rfl) rfl ?_
          refine ax_checkcast (pc := 52) G q1961 ⟨_, rfl, Or.inl rfl⟩ dX2_idleEnd_52 (alO (pl := pl) ((hE (s, π, (.ref (D.1 0)), (D.1 8))).2) (k := i) (by omega)) ?_
          refine ax_getf (pc := 55) (v := .int (pFrom pl s (20 + i))) G flX2_207_14 dX2_idleEnd_55 (alO (pl := pl) ((hE (s, π, (.ref (D.1 0)), (D.1 8))).2) (k := i) (by omega)) rfl ?_
          refine ax_aload_n (pc := 58) G dX2_idleEnd_58 rfl rfl ?_
          refine sr_get (pc := 59) (v := .int (s 0)) G flX2_130_1 dX2_idleEnd_59 rfl ?_
          refine ax_icmp_le (pc := 62) (tgt := 86) G dX2_idleEnd_62 rfl (fun c62 => ?_) (fun c62 => ?_)
          · refine ax_iincN (pc := 86) (n := 1) G dX2_idleEnd_86 rfl rfl ic_1 ?_
            refine ax_goto (pc := 89) (tgt := 20) G dX2_idleEnd_89 rfl ?_
            have eX : pIdleTo pl s (i + 1) = pIdleTo pl s i := by first | (simp only [pIdleTo, pSt_al, c30, c39, c62, Int32.not_lt.mpr c62, if_true, if_false, Bool.false_eq_true, not_false_eq_true, not_true_eq_false, decide_true, decide_false, Bool.and_true, Bool.true_and, Bool.and_false, Bool.false_and, Bool.or_true, Bool.true_or, Bool.or_false, Bool.false_or, and_self, and_true, true_and, and_false, false_and, or_true, true_or, or_false, false_or, ne_eq]; done) | (simp only [pIdleTo, pSt_al, c30, c39, c62, Int32.not_lt.mpr c62, if_true, if_false, Bool.false_eq_true, not_false_eq_true, not_true_eq_false, decide_true, decide_false, Bool.and_true, Bool.true_and, Bool.and_false, Bool.false_and, Bool.or_true, Bool.true_or, Bool.or_false, Bool.false_or, and_self, and_true, true_and, and_false, false_and, or_true, true_or, or_false, false_or, ne_eq]; rfl) | (simp only [pIdleTo, pSt_al, c30, if_pos c39, decide_eq_true c39, c62, Int32.not_lt.mpr c62, if_true, if_false, Bool.false_eq_true, not_false_eq_true, not_true_eq_false, decide_true, decide_false, Bool.and_true, Bool.true_and, Bool.and_false, Bool.false_and, Bool.or_true, Bool.true_or, Bool.or_false, Bool.false_or, and_self, and_true, true_and, and_false, false_and, or_true, true_or, or_false, false_or, ne_eq]; done) | (simp only [pIdleTo, pSt_al, c30, if_pos c39, decide_eq_true c39, c62, Int32.not_lt.mpr c62, if_true, if_false, Bool.false_eq_true, not_false_eq_true, not_true_eq_false, decide_true, decide_false, Bool.and_true, Bool.true_and, Bool.and_false, Bool.false_and, Bool.or_true, Bool.true_or, Bool.or_false, Bool.false_or, and_self, and_true, true_and, and_false, false_and, or_true, true_or, or_false, false_or, ne_eq]; rfl)
            have q := ih (i + 1) (by omega)
            rw [eX] at q
            exact q
          · refine ax_iload_n (pc := 65) G dX2_idleEnd_65 rfl rfl ?_
            refine ax_aload_n (pc := 66) G dX2_idleEnd_66 rfl rfl ?_
            refine sr_get (pc := 67) (v := .ref (a + 2)) G flX2_26_1 dX2_idleEnd_67 rfl ?_
            refine ax_iload_n (pc := 70) G dX2_idleEnd_70 rfl rfl ?_
            refine ax_cJ1 (pc := 71) (kb := 0) (nb := 0) G (ct_lget hA ((hE (s, π, (.ref (D.1 0)), (D.1 8))).2.1).1 ((hE (s, π, (.ref (D.1 0)), (D.1 8))).2.1).2.1 (q := D.2.1 3 i) i (by omega) ((hE (s, π, (.ref (D.1 0)), (D.1 8))).2.1).2.2.1 ((hE (s, π, (.ref (D.1 0)), (D.1 8))).2.1).2.2.2.1 (((hE (s, π, (.ref (D.1 0)), (D.1 8))).2.1).2.2.2.2 i (by omega))) lJX2_95_16 dX2_idleEnd_71 (((hE (s, π, (.ref (D.1 0)), (D.1 8))).2.1).1) rfl (by decide) (Nat.le_of_ble_eq_true rfl) rfl ?_
            refine ax_checkcast (pc := 76) G q1961 ⟨_, rfl, Or.inl rfl⟩ dX2_idleEnd_76 (alO (pl := pl) ((hE (s, π, (.ref (D.1 0)), (D.1 8))).2) (k := i) (by omega)) ?_
            refine ax_getf (pc := 79) (v := .int (pFrom pl s (20 + i))) G flX2_207_14 dX2_idleEnd_79 (alO (pl := pl) ((hE (s, π, (.ref (D.1 0)), (D.1 8))).2) (k := i) (by omega)) rfl ?_
            refine ax_min (pc := 82) G q2147 q340 q132 q341 (by decide) (Nat.le_of_ble_eq_true rfl) dX2_idleEnd_82 ?_
            refine ax_istore_n (pc := 85) G dX2_idleEnd_85 rfl (Nat.le_of_ble_eq_true rfl) rfl ?_
            refine ax_iincN (pc := 86) (n := 1) G dX2_idleEnd_86 rfl rfl ic_1 ?_
            refine ax_goto (pc := 89) (tgt := 20) G dX2_idleEnd_89 rfl ?_
            have eX : pIdleTo pl s (i + 1) = iMin (pIdleTo pl s i) (pFrom pl s (20 + i)) := by first | (simp only [pIdleTo, pSt_al, c30, c39, c62, Int32.not_le.mp c62, if_true, if_false, Bool.false_eq_true, not_false_eq_true, not_true_eq_false, decide_true, decide_false, Bool.and_true, Bool.true_and, Bool.and_false, Bool.false_and, Bool.or_true, Bool.true_or, Bool.or_false, Bool.false_or, and_self, and_true, true_and, and_false, false_and, or_true, true_or, or_false, false_or, ne_eq]; done) | (simp only [pIdleTo, pSt_al, c30, c39, c62, Int32.not_le.mp c62, if_true, if_false, Bool.false_eq_true, not_false_eq_true, not_true_eq_false, decide_true, decide_false, Bool.and_true, Bool.true_and, Bool.and_false, Bool.false_and, Bool.or_true, Bool.true_or, Bool.or_false, Bool.false_or, and_self, and_true, true_and, and_false, false_and, or_true, true_or, or_false, false_or, ne_eq]; rfl) | (simp only [pIdleTo, pSt_al, c30, if_pos c39, decide_eq_true c39, c62, Int32.not_le.mp c62, if_true, if_false, Bool.false_eq_true, not_false_eq_true, not_true_eq_false, decide_true, decide_false, Bool.and_true, Bool.true_and, Bool.and_false, Bool.false_and, Bool.or_true, Bool.true_or, Bool.or_false, Bool.false_or, and_self, and_true, true_and, and_false, false_and, or_true, true_or, or_false, false_or, ne_eq]; done) | (simp only [pIdleTo, pSt_al, c30, if_pos c39, decide_eq_true c39, c62, Int32.not_le.mp c62, if_true, if_false, Bool.false_eq_true, not_false_eq_true, not_true_eq_false, decide_true, decide_false, Bool.and_true, Bool.true_and, Bool.and_false, Bool.false_and, Bool.or_true, Bool.true_or, Bool.or_false, Bool.false_or, and_self, and_true, true_and, and_false, false_and, or_true, true_or, or_false, false_or, ne_eq]; rfl)
            have q := ih (i + 1) (by omega)
            rw [eX] at q
            exact q
  show ax_W Ω Γ 0 0 (sH h a (s, π, (.ref (D.1 0)), (D.1 8))) 0 [some (.ref a), none, none] []
  refine ax_aload_n (pc := 0) G dX2_idleEnd_0 rfl rfl ?_
  refine sr_get (pc := 1) (v := .int (s 0)) G flX2_130_1 dX2_idleEnd_1 rfl ?_
  refine ax_bipush (pc := 4) (v := nI 10) G dX2_idleEnd_4 ib_10 ?_
  refine ax_iadd (pc := 6) G dX2_idleEnd_6 ?_
  refine ax_aload_n (pc := 7) G dX2_idleEnd_7 rfl rfl ?_
  refine sr_get (pc := 8) (v := .ref (D.1 0)) G flX2_80_1 dX2_idleEnd_8 rfl ?_
  refine ax_getf (pc := 11) (v := .int (pl 0)) G flX2_236_10 dX2_idleEnd_11 (((hE (s, π, (.ref (D.1 0)), (D.1 8))).1).1) rfl ?_
  refine ax_min (pc := 14) G q2147 q340 q132 q341 (by decide) (Nat.le_of_ble_eq_true rfl) dX2_idleEnd_14 ?_
  refine ax_istore_n (pc := 17) G dX2_idleEnd_17 rfl (Nat.le_of_ble_eq_true rfl) rfl ?_
  refine ax_iconst (pc := 18) (v := nI 0) G dX2_idleEnd_18 ic_0 ?_
  refine ax_istore_n (pc := 19) G dX2_idleEnd_19 rfl (Nat.le_of_ble_eq_true rfl) rfl ?_
  exact L0 A 0 (by omega)

theorem ct_idle {Ω : ax_O} (hA : ax_Amb Ω) {h : ax_H} {a : Nat} {pl s : pR} {π : Nat → cP} {N V O A : Nat} {D : cD} (ha : Ω.2.1.heap.size ≤ a) (hp : pWP pl N V O) (hs : pWS s A) (hE : cEn h a pl s N V O A D)  : ax_Met Ω yX2_idle 6 0 0 [.ref a] (sH h a (s, π, (.ref (D.1 0)), (D.1 8))) (.inl none) (sH h a (pIdles pl s A, π, .ref (D.1 0), D.1 8)) := by
  refine ax_met q2142 q114 (by decide +kernel) (by decide) hA (Nat.le_of_ble_eq_true rfl) (fun Γ G E => ?_)
  have hV9 := hp.lV
  have hA9 := hs.lA
  have hO9 := hp.lO
  show ax_W Ω Γ 0 0 (sH h a (s, π, (.ref (D.1 0)), (D.1 8))) 0 [some (.ref a), none] []
  refine ax_aload_n (pc := 0) G dX2_idle_0 rfl rfl ?_
  refine ax_cV1 (pc := 1) (kb := 0) (nb := 0) G (ct_idleEnd hA (π := π) ha hp hs hE) lVX2_270_1 dX2_idle_1 sH_obj rfl (by decide) (Nat.le_of_ble_eq_true rfl) rfl ?_
  refine ax_istore_n (pc := 4) G dX2_idle_4 rfl (Nat.le_of_ble_eq_true rfl) rfl ?_
  refine ax_aload_n (pc := 5) G dX2_idle_5 rfl rfl ?_
  refine sr_get (pc := 6) (v := .ref (a + 14)) G flX2_61_1 dX2_idle_6 rfl ?_
  refine ax_iconst (pc := 9) (v := nI 5) G dX2_idle_9 ic_5 ?_
  refine ax_dup2_11 (pc := 10) G dX2_idle_10 rfl rfl ?_
  refine sr_ld (pc := 11) (k := 14) (j := 5) (r := 11) G dX2_idle_11 (by decide) (by decide) rfl rfl (show 5 < 8 by omega) ?_
  show ax_W Ω Γ _ _ _ _ _ (.int (s 11) :: _)
  refine ax_iload_n (pc := 12) G dX2_idle_12 rfl rfl ?_
  refine ax_aload_n (pc := 13) G dX2_idle_13 rfl rfl ?_
  refine sr_get (pc := 14) (v := .int (s 0)) G flX2_130_1 dX2_idle_14 rfl ?_
  refine ax_isub (pc := 17) G dX2_idle_17 ?_
  refine ax_iadd (pc := 18) G dX2_idle_18 ?_
  refine sr_st (pc := 19) (k := 14) (j := 5) (r := 11) G dX2_idle_19 ha (by decide) (by decide) rfl rfl (show 5 < 8 by omega) ?_
  show ax_W Ω Γ _ _ (sH h a (pAdd s 11 ((pIdleTo pl s A) - (s 0)), π, (.ref (D.1 0)), (D.1 8))) _ _ _
  refine ax_aload_n (pc := 20) G dX2_idle_20 rfl rfl ?_
  refine ax_iload_n (pc := 21) G dX2_idle_21 rfl rfl ?_
  refine sr_put (pc := 22) (k := 15) (r := 0) G flX2_130_1 dX2_idle_22 ha (by decide) (by decide) rfl rfl rfl ?_
  show ax_W Ω Γ _ _ (sH h a (upd (pAdd s 11 ((pIdleTo pl s A) - (s 0))) 0 (pIdleTo pl s A), π, (.ref (D.1 0)), (D.1 8))) _ _ _
  exact ax_vretE (pc := 25) G E rfl dX2_idle_25 (rfl)

theorem ct_carryOut {Ω : ax_O} (hA : ax_Amb Ω) {h : ax_H} {a : Nat} {pl s : pR} {π : Nat → cP} {N V O A : Nat} {D : cD} (ha : Ω.2.1.heap.size ≤ a) (hp : pWP pl N V O) (hs : pWS s A) (hE : cEn h a pl s N V O A D) {w k : Nat} {u : Nat → Int32} (hk : k < 30) (hw : ∀ σ, cWk (sH h a σ) w pl s k) (hπ : π 1 = (.ref w, u)) (mi : Int32)  : ax_Met Ω yX2_carryOut 5 0 0 [.ref a, .int mi] (sH h a (s, π, (.ref (D.1 0)), (D.1 8))) (.inl none) (sH h a (cCar pl s k (u 3) (u 4) (u 5) mi, π, .ref (D.1 0), D.1 8)) := by
  refine ax_met q2122 q114 (by decide +kernel) (by decide) hA (Nat.le_of_ble_eq_true rfl) (fun Γ G E => ?_)
  have hV9 := hp.lV
  have hA9 := hs.lA
  have hO9 := hp.lO
  show ax_W Ω Γ 0 0 (sH h a (s, π, (.ref (D.1 0)), (D.1 8))) 0 [some (.ref a), some (.int mi), none, none, none] []
  refine ax_aload_n (pc := 0) G dX2_carryOut_0 rfl rfl ?_
  refine sr_get (pc := 1) (v := .ref (a + 17)) G flX2_74_1 dX2_carryOut_1 rfl ?_
  refine ax_getf (pc := 4) (v := .ref w) G flX2_221_6 dX2_carryOut_4 (sH_pe (k := 17) (by decide) (by decide) (show (π : Nat → cP) 1 = (.ref w, u) from hπ)) rfl ?_
  refine ax_astore_n (pc := 7) G dX2_carryOut_7 rfl (Nat.le_of_ble_eq_true rfl) rfl ?_
  refine ax_aload_n (pc := 8) G dX2_carryOut_8 rfl rfl ?_
  refine sr_get (pc := 9) (v := .ref (a + 17)) G flX2_74_1 dX2_carryOut_9 rfl ?_
  refine ax_getf (pc := 12) (v := .int (u 3)) G flX2_218_6 dX2_carryOut_12 (sH_pe (k := 17) (by decide) (by decide) (show (π : Nat → cP) 1 = (.ref w, u) from hπ)) rfl ?_
  have J29 : ax_W Ω Γ 0 0 (sH h a (cCarA s (u 3), π, (.ref (D.1 0)), (D.1 8))) 29 [some (.ref a), some (.int mi), some (.ref w), none, none] [] := by
    refine ax_aload_n (pc := 29) G dX2_carryOut_29 rfl rfl ?_
    refine sr_get (pc := 30) (v := .ref (a + 14)) G flX2_61_1 dX2_carryOut_30 rfl ?_
    refine ax_iconst (pc := 33) (v := nI 2) G dX2_carryOut_33 ic_2 ?_
    refine ax_dup2_11 (pc := 34) G dX2_carryOut_34 rfl rfl ?_
    refine sr_ld (pc := 35) (k := 14) (j := 2) (r := 8) G dX2_carryOut_35 (by decide) (by decide) rfl rfl (show 2 < 8 by omega) ?_
    show ax_W Ω Γ _ _ _ _ _ (.int ((cCarA s (u 3)) 8) :: _)
    refine ax_aload_n (pc := 36) G dX2_carryOut_36 rfl rfl ?_
    refine sr_get (pc := 37) (v := .ref (a + 17)) G flX2_74_1 dX2_carryOut_37 rfl ?_
    refine ax_getf (pc := 40) (v := .int (u 4)) G flX2_255_6 dX2_carryOut_40 (sH_pe (k := 17) (by decide) (by decide) (show (π : Nat → cP) 1 = (.ref w, u) from hπ)) rfl ?_
    refine ax_iadd (pc := 43) G dX2_carryOut_43 ?_
    refine sr_st (pc := 44) (k := 14) (j := 2) (r := 8) G dX2_carryOut_44 ha (by decide) (by decide) rfl rfl (show 2 < 8 by omega) ?_
    show ax_W Ω Γ _ _ (sH h a (pAdd (cCarA s (u 3)) 8 (u 4), π, (.ref (D.1 0)), (D.1 8))) _ _ _
    refine ax_aload_n (pc := 45) G dX2_carryOut_45 rfl rfl ?_
    refine sr_get (pc := 46) (v := .ref (a + 7)) G flX2_40_1 dX2_carryOut_46 rfl ?_
    refine ax_aload_n (pc := 49) G dX2_carryOut_49 rfl rfl ?_
    refine wk_proposal (pc := 50) G (hw _) lJX2_167_13 lJX2_167_14 dX2_carryOut_50 (by decide) (Nat.le_of_ble_eq_true rfl) ?_
    have := pQ_l hp hs (k := k) (by omega)
    refine ax_top (show Value.int (pProp pl s k) = .int (nI (pQ pl s k)) from congrArg Value.int (pQ_e hp hs (by omega))) ?_
    refine ax_dup2_11 (pc := 55) G dX2_carryOut_55 rfl rfl ?_
    refine sr_ld (pc := 56) (k := 7) (j := pQ pl s k) (r := 41 + pQ pl s k) G dX2_carryOut_56 (by decide) (by decide) rfl rfl (show pQ pl s k < 6 by omega) ?_
    show ax_W Ω Γ _ _ _ _ _ (.int ((pAdd (cCarA s (u 3)) 8 (u 4)) (41 + pQ pl s k)) :: _)
    refine ax_aload_n (pc := 57) G dX2_carryOut_57 rfl rfl ?_
    refine sr_get (pc := 58) (v := .ref (a + 17)) G flX2_74_1 dX2_carryOut_58 rfl ?_
    refine ax_getf (pc := 61) (v := .int (u 4)) G flX2_255_6 dX2_carryOut_61 (sH_pe (k := 17) (by decide) (by decide) (show (π : Nat → cP) 1 = (.ref w, u) from hπ)) rfl ?_
    refine ax_iadd (pc := 64) G dX2_carryOut_64 ?_
    refine sr_st (pc := 65) (k := 7) (j := pQ pl s k) (r := 41 + pQ pl s k) G dX2_carryOut_65 ha (by decide) (by decide) rfl rfl (show pQ pl s k < 6 by omega) ?_
    show ax_W Ω Γ _ _ (sH h a (pAdd (pAdd (cCarA s (u 3)) 8 (u 4)) (41 + pQ pl s k) (u 4), π, (.ref (D.1 0)), (D.1 8))) _ _ _
    refine ax_aload_n (pc := 66) G dX2_carryOut_66 rfl rfl ?_
    refine ax_dup (pc := 67) G dX2_carryOut_67 rfl ?_
    refine sr_get (pc := 68) (v := .int ((pAdd (pAdd (cCarA s (u 3)) 8 (u 4)) (41 + pQ pl s k) (u 4)) 3)) G flX2_139_1 dX2_carryOut_68 rfl ?_
    refine ax_aload_n (pc := 71) G dX2_carryOut_71 rfl rfl ?_
    refine ax_iload_n (pc := 72) G dX2_carryOut_72 rfl rfl ?_
    refine wk_growth (pc := 73) G (hw _) lJX2_225_13 lJX2_225_14 dX2_carryOut_73 (by decide) (Nat.le_of_ble_eq_true rfl) ?_
    refine ax_iadd (pc := 78) G dX2_carryOut_78 ?_
    refine sr_put (pc := 79) (k := 18) (r := 3) G flX2_139_1 dX2_carryOut_79 ha (by decide) (by decide) rfl rfl rfl ?_
    show ax_W Ω Γ _ _ (sH h a (pAdd (pAdd (pAdd (cCarA s (u 3)) 8 (u 4)) (41 + pQ pl s k) (u 4)) 3 (pGrows pl s k mi), π, (.ref (D.1 0)), (D.1 8))) _ _ _
    refine ax_aload_n (pc := 82) G dX2_carryOut_82 rfl rfl ?_
    refine ax_aload_n (pc := 83) G dX2_carryOut_83 rfl rfl ?_
    refine wk_lon (pc := 84) G (hw _) lJX2_229_13 lJX2_229_14 dX2_carryOut_84 (by decide) (Nat.le_of_ble_eq_true rfl) ?_
    refine sr_put (pc := 89) (k := 16) (r := 1) G flX2_133_1 dX2_carryOut_89 ha (by decide) (by decide) rfl rfl rfl ?_
    show ax_W Ω Γ _ _ (sH h a (upd (pAdd (pAdd (pAdd (cCarA s (u 3)) 8 (u 4)) (41 + pQ pl s k) (u 4)) 3 (pGrows pl s k mi)) 1 (pLon pl s k), π, (.ref (D.1 0)), (D.1 8))) _ _ _
    refine ax_aload_n (pc := 92) G dX2_carryOut_92 rfl rfl ?_
    refine ax_aload_n (pc := 93) G dX2_carryOut_93 rfl rfl ?_
    refine wk_lat (pc := 94) G (hw _) lJX2_231_13 lJX2_231_14 dX2_carryOut_94 (by decide) (Nat.le_of_ble_eq_true rfl) ?_
    refine sr_put (pc := 99) (k := 17) (r := 2) G flX2_136_1 dX2_carryOut_99 ha (by decide) (by decide) rfl rfl rfl ?_
    show ax_W Ω Γ _ _ (sH h a (upd (upd (pAdd (pAdd (pAdd (cCarA s (u 3)) 8 (u 4)) (41 + pQ pl s k) (u 4)) 3 (pGrows pl s k mi)) 1 (pLon pl s k)) 2 (pLat pl s k), π, (.ref (D.1 0)), (D.1 8))) _ _ _
    refine ax_aload_n (pc := 102) G dX2_carryOut_102 rfl rfl ?_
    refine ax_aload_n (pc := 103) G dX2_carryOut_103 rfl rfl ?_
    refine sr_get (pc := 104) (v := .ref (a + 17)) G flX2_74_1 dX2_carryOut_104 rfl ?_
    refine ax_getf (pc := 107) (v := .int (u 5)) G flX2_208_6 dX2_carryOut_107 (sH_pe (k := 17) (by decide) (by decide) (show (π : Nat → cP) 1 = (.ref w, u) from hπ)) rfl ?_
    refine ax_iload_n (pc := 110) G dX2_carryOut_110 rfl rfl ?_
    refine ax_iadd (pc := 111) G dX2_carryOut_111 ?_
    refine sr_put (pc := 112) (k := 15) (r := 0) G flX2_130_1 dX2_carryOut_112 ha (by decide) (by decide) rfl rfl rfl ?_
    show ax_W Ω Γ _ _ (sH h a (upd (upd (upd (pAdd (pAdd (pAdd (cCarA s (u 3)) 8 (u 4)) (41 + pQ pl s k) (u 4)) 3 (pGrows pl s k mi)) 1 (pLon pl s k)) 2 (pLat pl s k)) 0 ((u 5) + mi), π, (.ref (D.1 0)), (D.1 8))) _ _ _
    refine ax_iload_n (pc := 115) G dX2_carryOut_115 rfl rfl ?_
    refine ax_aload_n (pc := 116) G dX2_carryOut_116 rfl rfl ?_
    refine wk_duration (pc := 117) G (hw _) lJX2_258_13 lJX2_258_14 dX2_carryOut_117 (by decide) (Nat.le_of_ble_eq_true rfl) ?_
    refine ax_icmp_ne (pc := 122) (tgt := 129) G dX2_carryOut_122 rfl (fun c122 => ?_) (fun c122 => ?_)
    · refine ax_iconst (pc := 129) (v := nI 0) G dX2_carryOut_129 ic_0 ?_
      refine ax_istore_n (pc := 130) G dX2_carryOut_130 rfl (Nat.le_of_ble_eq_true rfl) rfl ?_
      refine ax_aload_n (pc := 131) G dX2_carryOut_131 rfl rfl ?_
      refine sr_get (pc := 132) (v := .ref (a + 14)) G flX2_61_1 dX2_carryOut_132 rfl ?_
      refine ax_iload_n (pc := 135) G dX2_carryOut_135 rfl rfl ?_
      refine ax_if_eq (pc := 136) (tgt := 143) G dX2_carryOut_136 rfl (fun _ => ?_) (fun c9 => absurd rfl c9)
      refine ax_iconst (pc := 143) (v := nI 1) G dX2_carryOut_143 ic_1 ?_
      refine ax_dup2_11 (pc := 144) G dX2_carryOut_144 rfl rfl ?_
      refine sr_ld (pc := 145) (k := 14) (j := 1) (r := 7) G dX2_carryOut_145 (by decide) (by decide) rfl rfl (show 1 < 8 by omega) ?_
      show ax_W Ω Γ _ _ _ _ _ (.int ((upd (upd (upd (pAdd (pAdd (pAdd (cCarA s (u 3)) 8 (u 4)) (41 + pQ pl s k) (u 4)) 3 (pGrows pl s k mi)) 1 (pLon pl s k)) 2 (pLat pl s k)) 0 ((u 5) + mi)) 7) :: _)
      refine ax_iload_n (pc := 146) G dX2_carryOut_146 rfl rfl ?_
      refine ax_iadd (pc := 147) G dX2_carryOut_147 ?_
      refine sr_st (pc := 148) (k := 14) (j := 1) (r := 7) G dX2_carryOut_148 ha (by decide) (by decide) rfl rfl (show 1 < 8 by omega) ?_
      show ax_W Ω Γ _ _ (sH h a (pAdd (upd (upd (upd (pAdd (pAdd (pAdd (cCarA s (u 3)) 8 (u 4)) (41 + pQ pl s k) (u 4)) 3 (pGrows pl s k mi)) 1 (pLon pl s k)) 2 (pLat pl s k)) 0 ((u 5) + mi)) 7 mi, π, (.ref (D.1 0)), (D.1 8))) _ _ _
      refine ax_iload_n (pc := 149) G dX2_carryOut_149 rfl rfl ?_
      refine ax_if_eq (pc := 150) (tgt := 160) G dX2_carryOut_150 rfl (fun _ => ?_) (fun c9 => absurd rfl c9)
      refine ax_aload_n (pc := 160) G dX2_carryOut_160 rfl rfl ?_
      refine sr_get (pc := 161) (v := .ref (a + 6)) G flX2_37_1 dX2_carryOut_161 rfl ?_
      refine ax_astore (pc := 164) G dX2_carryOut_164 (Nat.le_of_ble_eq_true rfl) rfl ?_
      refine ax_aload (pc := 166) G dX2_carryOut_166 rfl ?_
      refine ax_aload_n (pc := 168) G dX2_carryOut_168 rfl rfl ?_
      refine wk_proposal (pc := 169) G (hw _) lJX2_167_13 lJX2_167_14 dX2_carryOut_169 (by decide) (Nat.le_of_ble_eq_true rfl) ?_
      have := pQ_l hp hs (k := k) (by omega)
      refine ax_top (show Value.int (pProp pl s k) = .int (nI (pQ pl s k)) from congrArg Value.int (pQ_e hp hs (by omega))) ?_
      refine ax_dup2_11 (pc := 174) G dX2_carryOut_174 rfl rfl ?_
      refine sr_ld (pc := 175) (k := 6) (j := pQ pl s k) (r := 29 + pQ pl s k) G dX2_carryOut_175 (by decide) (by decide) rfl rfl (show pQ pl s k < 6 by omega) ?_
      show ax_W Ω Γ _ _ _ _ _ (.int ((pAdd (upd (upd (upd (pAdd (pAdd (pAdd (cCarA s (u 3)) 8 (u 4)) (41 + pQ pl s k) (u 4)) 3 (pGrows pl s k mi)) 1 (pLon pl s k)) 2 (pLat pl s k)) 0 ((u 5) + mi)) 7 mi) (29 + pQ pl s k)) :: _)
      refine ax_iload_n (pc := 176) G dX2_carryOut_176 rfl rfl ?_
      refine ax_iadd (pc := 177) G dX2_carryOut_177 ?_
      refine sr_st (pc := 178) (k := 6) (j := pQ pl s k) (r := 29 + pQ pl s k) G dX2_carryOut_178 ha (by decide) (by decide) rfl rfl (show pQ pl s k < 6 by omega) ?_
      show ax_W Ω Γ _ _ (sH h a (pAdd (pAdd (upd (upd (upd (pAdd (pAdd (pAdd (cCarA s (u 3)) 8 (u 4)) (41 + pQ pl s k) (u 4)) 3 (pGrows pl s k mi)) 1 (pLon pl s k)) 2 (pLat pl s k)) 0 ((u 5) + mi)) 7 mi) (29 + pQ pl s k) mi, π, (.ref (D.1 0)), (D.1 8))) _ _ _
      exact ax_vretE (pc := 179) G E rfl dX2_carryOut_179 (by rw [cCar, cCarD, if_neg (by rw [decide_eq_false c122]; decide)]; rfl)
    · refine ax_iconst (pc := 125) (v := nI 1) G dX2_carryOut_125 ic_1 ?_
      refine ax_goto (pc := 126) (tgt := 130) G dX2_carryOut_126 rfl ?_
      refine ax_istore_n (pc := 130) G dX2_carryOut_130 rfl (Nat.le_of_ble_eq_true rfl) rfl ?_
      refine ax_aload_n (pc := 131) G dX2_carryOut_131 rfl rfl ?_
      refine sr_get (pc := 132) (v := .ref (a + 14)) G flX2_61_1 dX2_carryOut_132 rfl ?_
      refine ax_iload_n (pc := 135) G dX2_carryOut_135 rfl rfl ?_
      refine ax_if_eq (pc := 136) (tgt := 143) G dX2_carryOut_136 rfl (fun c9 => absurd c9 (by decide)) (fun _ => ?_)
      refine ax_iconst (pc := 139) (v := nI 0) G dX2_carryOut_139 ic_0 ?_
      refine ax_goto (pc := 140) (tgt := 144) G dX2_carryOut_140 rfl ?_
      refine ax_dup2_11 (pc := 144) G dX2_carryOut_144 rfl rfl ?_
      refine sr_ld (pc := 145) (k := 14) (j := 0) (r := 6) G dX2_carryOut_145 (by decide) (by decide) rfl rfl (show 0 < 8 by omega) ?_
      show ax_W Ω Γ _ _ _ _ _ (.int ((upd (upd (upd (pAdd (pAdd (pAdd (cCarA s (u 3)) 8 (u 4)) (41 + pQ pl s k) (u 4)) 3 (pGrows pl s k mi)) 1 (pLon pl s k)) 2 (pLat pl s k)) 0 ((u 5) + mi)) 6) :: _)
      refine ax_iload_n (pc := 146) G dX2_carryOut_146 rfl rfl ?_
      refine ax_iadd (pc := 147) G dX2_carryOut_147 ?_
      refine sr_st (pc := 148) (k := 14) (j := 0) (r := 6) G dX2_carryOut_148 ha (by decide) (by decide) rfl rfl (show 0 < 8 by omega) ?_
      show ax_W Ω Γ _ _ (sH h a (pAdd (upd (upd (upd (pAdd (pAdd (pAdd (cCarA s (u 3)) 8 (u 4)) (41 + pQ pl s k) (u 4)) 3 (pGrows pl s k mi)) 1 (pLon pl s k)) 2 (pLat pl s k)) 0 ((u 5) + mi)) 6 mi, π, (.ref (D.1 0)), (D.1 8))) _ _ _
      refine ax_iload_n (pc := 149) G dX2_carryOut_149 rfl rfl ?_
      refine ax_if_eq (pc := 150) (tgt := 160) G dX2_carryOut_150 rfl (fun c9 => absurd c9 (by decide)) (fun _ => ?_)
      refine ax_aload_n (pc := 153) G dX2_carryOut_153 rfl rfl ?_
      refine sr_get (pc := 154) (v := .ref (a + 5)) G flX2_34_1 dX2_carryOut_154 rfl ?_
      refine ax_goto (pc := 157) (tgt := 164) G dX2_carryOut_157 rfl ?_
      refine ax_astore (pc := 164) G dX2_carryOut_164 (Nat.le_of_ble_eq_true rfl) rfl ?_
      refine ax_aload (pc := 166) G dX2_carryOut_166 rfl ?_
      refine ax_aload_n (pc := 168) G dX2_carryOut_168 rfl rfl ?_
      refine wk_proposal (pc := 169) G (hw _) lJX2_167_13 lJX2_167_14 dX2_carryOut_169 (by decide) (Nat.le_of_ble_eq_true rfl) ?_
      have := pQ_l hp hs (k := k) (by omega)
      refine ax_top (show Value.int (pProp pl s k) = .int (nI (pQ pl s k)) from congrArg Value.int (pQ_e hp hs (by omega))) ?_
      refine ax_dup2_11 (pc := 174) G dX2_carryOut_174 rfl rfl ?_
      refine sr_ld (pc := 175) (k := 5) (j := pQ pl s k) (r := 23 + pQ pl s k) G dX2_carryOut_175 (by decide) (by decide) rfl rfl (show pQ pl s k < 6 by omega) ?_
      show ax_W Ω Γ _ _ _ _ _ (.int ((pAdd (upd (upd (upd (pAdd (pAdd (pAdd (cCarA s (u 3)) 8 (u 4)) (41 + pQ pl s k) (u 4)) 3 (pGrows pl s k mi)) 1 (pLon pl s k)) 2 (pLat pl s k)) 0 ((u 5) + mi)) 6 mi) (23 + pQ pl s k)) :: _)
      refine ax_iload_n (pc := 176) G dX2_carryOut_176 rfl rfl ?_
      refine ax_iadd (pc := 177) G dX2_carryOut_177 ?_
      refine sr_st (pc := 178) (k := 5) (j := pQ pl s k) (r := 23 + pQ pl s k) G dX2_carryOut_178 ha (by decide) (by decide) rfl rfl (show pQ pl s k < 6 by omega) ?_
      show ax_W Ω Γ _ _ (sH h a (pAdd (pAdd (upd (upd (upd (pAdd (pAdd (pAdd (cCarA s (u 3)) 8 (u 4)) (41 + pQ pl s k) (u 4)) 3 (pGrows pl s k mi)) 1 (pLon pl s k)) 2 (pLat pl s k)) 0 ((u 5) + mi)) 6 mi) (23 + pQ pl s k) mi, π, (.ref (D.1 0)), (D.1 8))) _ _ _
      exact ax_vretE (pc := 179) G E rfl dX2_carryOut_179 (by rw [cCar, cCarD, if_pos (decide_eq_true c122)]; rfl)
  refine ax_if_le (pc := 15) (tgt := 29) G dX2_carryOut_15 rfl (fun c15 => ?_) (fun c15 => ?_)
  · refine ax_hp (show sH h a (s, π, (.ref (D.1 0)), (D.1 8)) = sH h a (cCarA s (u 3), π, (.ref (D.1 0)), (D.1 8)) from by rw [show cCarA s (u 3) = s from by first | (simp only [cCarA, c15, Int32.not_lt.mpr c15, if_true, if_false, Bool.false_eq_true, not_false_eq_true, not_true_eq_false, decide_true, decide_false, Bool.and_true, Bool.true_and, Bool.and_false, Bool.false_and, Bool.or_true, Bool.true_or, Bool.or_false, Bool.false_or, and_self, and_true, true_and, and_false, false_and, or_true, true_or, or_false, false_or, ne_eq]; done) | (simp only [cCarA, c15, Int32.not_lt.mpr c15, if_true, if_false, Bool.false_eq_true, not_false_eq_true, not_true_eq_false, decide_true, decide_false, Bool.and_true, Bool.true_and, Bool.and_false, Bool.false_and, Bool.or_true, Bool.true_or, Bool.or_false, Bool.false_or, and_self, and_true, true_and, and_false, false_and, or_true, true_or, or_false, false_or, ne_eq]; rfl)]) ?_
    exact J29
  · refine ax_aload_n (pc := 18) G dX2_carryOut_18 rfl rfl ?_
    refine ax_aload_n (pc := 19) G dX2_carryOut_19 rfl rfl ?_
    refine sr_get (pc := 20) (v := .ref (a + 17)) G flX2_74_1 dX2_carryOut_20 rfl ?_
    refine ax_getf (pc := 23) (v := .int (u 3)) G flX2_218_6 dX2_carryOut_23 (sH_pe (k := 17) (by decide) (by decide) (show (π : Nat → cP) 1 = (.ref w, u) from hπ)) rfl ?_
    refine ax_cV0 (pc := 26) (kb := 0) (nb := 0) G (ct_makeDump hA (π := π) ha hp hs hE (u 3)) lVX2_252_1 dX2_carryOut_26 sH_obj rfl (by decide) (Nat.le_of_ble_eq_true rfl) rfl ?_
    show ax_W Ω Γ _ _ (sH h a (cMd s (u 3), π, (.ref (D.1 0)), (D.1 8))) _ _ _
    refine ax_hp (show sH h a (cMd s (u 3), π, (.ref (D.1 0)), (D.1 8)) = sH h a (cCarA s (u 3), π, (.ref (D.1 0)), (D.1 8)) from by rw [show cCarA s (u 3) = cMd s (u 3) from by first | (simp only [cCarA, c15, Int32.not_le.mp c15, if_true, if_false, Bool.false_eq_true, not_false_eq_true, not_true_eq_false, decide_true, decide_false, Bool.and_true, Bool.true_and, Bool.and_false, Bool.false_and, Bool.or_true, Bool.true_or, Bool.or_false, Bool.false_or, and_self, and_true, true_and, and_false, false_and, or_true, true_or, or_false, false_or, ne_eq]; done) | (simp only [cCarA, c15, Int32.not_le.mp c15, if_true, if_false, Bool.false_eq_true, not_false_eq_true, not_true_eq_false, decide_true, decide_false, Bool.and_true, Bool.true_and, Bool.and_false, Bool.false_and, Bool.or_true, Bool.true_or, Bool.or_false, Bool.false_or, and_self, and_true, true_and, and_false, false_and, or_true, true_or, or_false, false_or, ne_eq]; rfl)]) ?_
    exact J29

