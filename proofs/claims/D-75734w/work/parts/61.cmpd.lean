/-! THE COMPONENT: choices -/
theorem cPV_8 {pl s : pR} {O v : Nat} {D : cD} (h : s (47 + v) = 0) : (cPV pl s O D v).2 8 = cRs pl s O v := by
  show (if decide (s (47 + v) = 0) = true then _ else _) = _
  rw [if_pos (decide_eq_true h)]; rfl
theorem cPA_8 {pl s : pR} {O k : Nat} {D : cD} : (cPA pl s O D k).2 8 = cRs pl s O (20 + k) := rfl
theorem rp_prefers {Ω : ax_O} {Γ : ax_F} {y : MethodName} {cc : ByteArray} {nL : Nat} {ret : Option FieldType} {hh : List (Nat × Nat × Nat × Nat)} {d kb nb pc : Nat} {h : ax_H} {ls : List (Option Value)} {rest : List Value} (G : ax_C Ω Γ y cc nL ret hh d) {idx cnt a w0 w1 u : Nat} {x : MethodName} {J : String} {pl s : pR} {π : Nat → cP} {sc : Value} {rl N V O A : Nat} {n0 n1 : Nat → Int32} (hp : pWP pl N V O) (hs : pWS s A) (k o : Nat) (hk : k < 20) (ho : o < 20) (h0 : π 0 = (.ref w0, n0)) (h1 : π 1 = (.ref w1, n1)) (hn0 : n0 1 = nI k) (hn1 : n1 1 = nI o) (hw0 : ∀ σ, cWk (sH h a σ) w0 pl s k) (hw1 : ∀ σ, cWk (sH h a σ) w1 pl s o)
    (pol : Nat) (hpol : pol < 4) (hu : ∀ σ, (sH h a σ).1 u = some (.inr (2 + pol, []))) (hko : o < k) (F2 : ax_lJ y.cls idx 2 x J yX3_prefers 3) (F3 : ax_lJ y.cls idx 3 x J yX3_prefers 3) (F4 : ax_lJ y.cls idx 4 x J yX3_prefers 3) (F5 : ax_lJ y.cls idx 5 x J yX3_prefers 3) (dec : decode cc pc = .ok (.invokeinterface idx cnt, 5)) (hd : 6 ≤ d) (hr : (rest.map fun v => v.category).sum ≤ 20)
    (kk : ax_W Ω Γ kb nb (sH h a (s, π, sc, rl)) (pc + 5) ls (.int (bI (decide (cRule pl s pol k o (.ref w0, n0) (.ref w1, n1) < 0))) :: rest)) : ax_W Ω Γ kb nb (sH h a (s, π, sc, rl)) pc ls (.ref (a + 17) :: .ref (a + 16) :: .ref a :: .ref u :: rest) := by
  have hc : pol = 0 ∨ pol = 1 ∨ pol = 2 ∨ pol = 3 := by omega
  rcases hc with rfl | rfl | rfl | rfl
  · exact ax_cJ1 (kb := kb) (nb := nb) (mc := 0) (ms := 0) (As := [.ref a, .ref (a + 16), .ref (a + 17)]) G (ct_prefers_2 G.1 (sc := sc) (rl := rl) hp hs k o hk ho h0 h1 hn0 hn1 hw0 hw1 hu hko) F2 dec (hu _) rfl (by omega) hr rfl kk
  · exact ax_cJ1 (kb := kb) (nb := nb) (mc := 0) (ms := 0) (As := [.ref a, .ref (a + 16), .ref (a + 17)]) G (ct_prefers_3 G.1 (sc := sc) (rl := rl) hp hs k o hk ho h0 h1 hn0 hn1 hw0 hw1 hu hko) F3 dec (hu _) rfl (by omega) hr rfl kk
  · exact ax_cJ1 (kb := kb) (nb := nb) (mc := 0) (ms := 0) (As := [.ref a, .ref (a + 16), .ref (a + 17)]) G (ct_prefers_4 G.1 (sc := sc) (rl := rl) hp hs k o hk ho h0 h1 hn0 hn1 hw0 hw1 hu hko) F4 dec (hu _) rfl (by omega) hr rfl kk
  · exact ax_cJ1 (kb := kb) (nb := nb) (mc := 0) (ms := 0) (As := [.ref a, .ref (a + 16), .ref (a + 17)]) G (ct_prefers_5 G.1 (sc := sc) (rl := rl) hp hs k o hk ho h0 h1 hn0 hn1 hw0 hw1 hu hko) F5 dec (hu _) rfl (by omega) hr rfl kk
theorem ct_choose {Ω : ax_O} (hA : ax_Amb Ω) {h : ax_H} {a : Nat} {pl s : pR} {π : Nat → cP} {N V O A : Nat} {D : cD} (ha : Ω.2.1.heap.size ≤ a) (hp : pWP pl N V O) (hs : pWS s A) (hE : cEn h a pl s N V O A D) (pol : Nat) (hpol : pol < 4) (hR : ∀ σ, (sH h a σ).1 (D.1 8) = some (.inr (2 + pol, [])))  : ax_MetP Ω yX2_choose 11 0 0 [.ref a] (sH h a (s, π, (.ref (D.1 0)), (D.1 8))) (ax_Nm (fun v h' => v = some (.int (oI (cCh pl s O pol V))) ∧ ∃ π', h' = sH h a (s, π', .ref (D.1 0), D.1 8) ∧ ∀ o, cCh pl s O pol V = some o → π' 1 = cPV pl s O D o)) := by
  refine ax_metP q1873 q114 (by decide +kernel) (by decide) hA (Nat.le_of_ble_eq_true rfl) (fun Γ G E => ?_)
  have hV9 := hp.lV
  have hA9 := hs.lA
  have hO9 := hp.lO
  have L0 : ∀ (n i : Nat) (π : Nat → cP), i + n = V → (∀ o, cCh pl s O pol i = some o → π 1 = cPV pl s O D o) → ax_W Ω Γ 0 0 (sH h a (s, π, (.ref (D.1 0)), (D.1 8))) 4 [some (.ref a), some (.int (oI (cCh pl s O pol i))), some (.int (nI i))] [] := by
    intro n
    induction n with
    | zero =>
      intro i π hi hv
      have hi9 : V = i := by omega
      subst hi9
      refine ax_iload_n (pc := 4) G dX2_choose_4 rfl rfl ?_
      refine ax_aload_n (pc := 5) G dX2_choose_5 rfl rfl ?_
      refine sr_get (pc := 6) (v := .ref (D.1 0)) G flX2_80_1 dX2_choose_6 rfl ?_
      refine ax_getf (pc := 9) (v := .ref (D.1 2)) G flX2_104_10 dX2_choose_9 (((hE (s, π, (.ref (D.1 0)), (D.1 8))).1).1) rfl ?_
      refine ax_cJ1 (pc := 12) (kb := 0) (nb := 0) G (ct_lsize hA ((hE (s, π, (.ref (D.1 0)), (D.1 8))).1.2.2.1).1) lJX2_89_16 dX2_choose_12 (((hE (s, π, (.ref (D.1 0)), (D.1 8))).1.2.2.1).1) rfl (by decide) (Nat.le_of_ble_eq_true rfl) rfl ?_
      refine ax_icmp_geN (pc := 17) (tgt := 91) G dX2_choose_17 rfl (by omega) (by omega) (fun c17 => ?_) (fun c17 => ?_)
      · refine ax_iload_n (pc := 91) G dX2_choose_91 rfl rfl ?_
        exact ax_iretP (pc := 92) G E rfl (rfl) dX2_choose_92 (⟨_, rfl, rfl, π, rfl, hv⟩)
      · omega
    | succ n ih =>
      intro i π hi hv
      rcases e : cCh pl s O pol i with _ | o
      · show ax_W Ω Γ _ _ _ _ [some (.ref a), some (.int (-1)), some (.int (nI i))] _
        refine ax_iload_n (pc := 4) G dX2_choose_4 rfl rfl ?_
        refine ax_aload_n (pc := 5) G dX2_choose_5 rfl rfl ?_
        refine sr_get (pc := 6) (v := .ref (D.1 0)) G flX2_80_1 dX2_choose_6 rfl ?_
        refine ax_getf (pc := 9) (v := .ref (D.1 2)) G flX2_104_10 dX2_choose_9 (((hE (s, π, (.ref (D.1 0)), (D.1 8))).1).1) rfl ?_
        refine ax_cJ1 (pc := 12) (kb := 0) (nb := 0) G (ct_lsize hA ((hE (s, π, (.ref (D.1 0)), (D.1 8))).1.2.2.1).1) lJX2_89_16 dX2_choose_12 (((hE (s, π, (.ref (D.1 0)), (D.1 8))).1.2.2.1).1) rfl (by decide) (Nat.le_of_ble_eq_true rfl) rfl ?_
        refine ax_icmp_geN (pc := 17) (tgt := 91) G dX2_choose_17 rfl (by omega) (by omega) (fun c17 => ?_) (fun c17 => ?_)
        · omega
        · refine ax_aload_n (pc := 20) G dX2_choose_20 rfl rfl ?_
          refine sr_get (pc := 21) (v := .ref (a + 8)) G flX2_43_1 dX2_choose_21 rfl ?_
          refine ax_iload_n (pc := 24) G dX2_choose_24 rfl rfl ?_
          refine sr_ld (pc := 25) (k := 8) (j := i) (r := 47 + i) G dX2_choose_25 (by decide) (by decide) rfl rfl (show i < 20 by omega) ?_
          show ax_W Ω Γ _ _ _ _ _ (.int (s (47 + i)) :: _)
          refine ax_if_ne (pc := 26) (tgt := 85) G dX2_choose_26 rfl (fun c26 => ?_) (fun c26 => ?_)
          · refine ax_iincN (pc := 85) (n := 1) G dX2_choose_85 rfl rfl ic_1 ?_
            refine ax_goto (pc := 88) (tgt := 4) G dX2_choose_88 rfl ?_
            have eX : cCh pl s O pol (i + 1) = none := by first | (simp only [cCh, cChS, e, c17, c26, if_true, if_false, Bool.false_eq_true, not_false_eq_true, not_true_eq_false, decide_true, decide_false, Bool.and_true, Bool.true_and, Bool.and_false, Bool.false_and, Bool.or_true, Bool.true_or, Bool.or_false, Bool.false_or, and_self, and_true, true_and, and_false, false_and, or_true, true_or, or_false, false_or, ne_eq]; done) | (simp only [cCh, cChS, e, c17, c26, if_true, if_false, Bool.false_eq_true, not_false_eq_true, not_true_eq_false, decide_true, decide_false, Bool.and_true, Bool.true_and, Bool.and_false, Bool.false_and, Bool.or_true, Bool.true_or, Bool.or_false, Bool.false_or, and_self, and_true, true_and, and_false, false_and, or_true, true_or, or_false, false_or, ne_eq]; rfl)
            have q := ih (i + 1) (π) (by omega) (by rw [eX]; intro o9 e9; cases e9)
            rw [eX] at q
            exact q
          · refine ax_aload_n (pc := 29) G dX2_choose_29 rfl rfl ?_
            refine ax_iload_n (pc := 30) G dX2_choose_30 rfl rfl ?_
            refine ax_cV1 (pc := 31) (kb := 0) (nb := 0) G (ct_planVisit hA (π := π) ha hp hs hE i (by omega)) lVX2_185_1 dX2_choose_31 sH_obj rfl (by decide) (Nat.le_of_ble_eq_true rfl) rfl ?_
            show ax_W Ω Γ _ _ (sH h a (s, cU π 0 (cPV pl s O D i), (.ref (D.1 0)), (D.1 8))) _ _ _
            refine ax_cV1 (pc := 34) (kb := 0) (nb := 0) G (ct_can hA (P := (cPV pl s O D i)) (sH_pe (k := 16) (by decide) (by decide) (show (cU π 0 (cPV pl s O D i)) 0 = (cPV pl s O D i) from cU_e))) lVX2_189_6 dX2_choose_34 (sH_pl (k := 16) (by decide) (by decide)) rfl (by decide) (Nat.le_of_ble_eq_true rfl) rfl ?_
            rw [show (cPV pl s O D i).2 8 = cRs pl s O i from cPV_8 c26]
            refine ax_if_ne (pc := 37) (tgt := 43) G dX2_choose_37 rfl (fun c37 => ?_) (fun c37 => ?_)
            · have c37b := bI_t c37
              refine ax_iload_n (pc := 43) G dX2_choose_43 rfl rfl ?_
              refine ax_iconst (pc := 44) (v := (-1)) G dX2_choose_44 (by decide) ?_
              refine ax_icmp_eq (pc := 45) (tgt := 72) G dX2_choose_45 rfl (fun _ => ?_) (fun c9 => absurd rfl c9)
              refine ax_aload_n (pc := 72) G dX2_choose_72 rfl rfl ?_
              refine sr_get (pc := 73) (v := .ref (a + 17)) G flX2_74_1 dX2_choose_73 rfl ?_
              refine ax_aload_n (pc := 76) G dX2_choose_76 rfl rfl ?_
              refine sr_get (pc := 77) (v := .ref (a + 16)) G flX2_70_1 dX2_choose_77 rfl ?_
              refine ax_cV0 (pc := 80) (kb := 0) (nb := 0) G (ct_becomeS hA (σ := (s, cU π 0 (cPV pl s O D i), (.ref (D.1 0)), (D.1 8))) (w := D.2.1 1 i) (n := (cPV pl s O D i).2) ha (show (cU π 0 (cPV pl s O D i)) 0 = (.ref (D.2.1 1 i), (cPV pl s O D i).2) from cU_e)) lVX2_197_6 dX2_choose_80 (sH_pl (k := 17) (by decide) (by decide)) rfl (by decide) (Nat.le_of_ble_eq_true rfl) rfl ?_
              show ax_W Ω Γ _ _ (sH h a (s, cU (cU π 0 (cPV pl s O D i)) 1 (cPV pl s O D i), (.ref (D.1 0)), (D.1 8))) _ _ _
              refine ax_iload_n (pc := 83) G dX2_choose_83 rfl rfl ?_
              refine ax_istore_n (pc := 84) G dX2_choose_84 rfl (Nat.le_of_ble_eq_true rfl) rfl ?_
              refine ax_iincN (pc := 85) (n := 1) G dX2_choose_85 rfl rfl ic_1 ?_
              refine ax_goto (pc := 88) (tgt := 4) G dX2_choose_88 rfl ?_
              have eX : cCh pl s O pol (i + 1) = some (i) := by first | (simp only [cCh, cChS, e, c17, c26, c37b, (of_decide_eq_true c37b), if_true, if_false, Bool.false_eq_true, not_false_eq_true, not_true_eq_false, decide_true, decide_false, Bool.and_true, Bool.true_and, Bool.and_false, Bool.false_and, Bool.or_true, Bool.true_or, Bool.or_false, Bool.false_or, and_self, and_true, true_and, and_false, false_and, or_true, true_or, or_false, false_or, ne_eq]; done) | (simp only [cCh, cChS, e, c17, c26, c37b, (of_decide_eq_true c37b), if_true, if_false, Bool.false_eq_true, not_false_eq_true, not_true_eq_false, decide_true, decide_false, Bool.and_true, Bool.true_and, Bool.and_false, Bool.false_and, Bool.or_true, Bool.true_or, Bool.or_false, Bool.false_or, and_self, and_true, true_and, and_false, false_and, or_true, true_or, or_false, false_or, ne_eq]; rfl) | (simp only [cCh, cChS, e, c17, if_pos c26, decide_eq_true c26, c37b, if_pos (of_decide_eq_true c37b), decide_eq_true (of_decide_eq_true c37b), if_true, if_false, Bool.false_eq_true, not_false_eq_true, not_true_eq_false, decide_true, decide_false, Bool.and_true, Bool.true_and, Bool.and_false, Bool.false_and, Bool.or_true, Bool.true_or, Bool.or_false, Bool.false_or, and_self, and_true, true_and, and_false, false_and, or_true, true_or, or_false, false_or, ne_eq]; done) | (simp only [cCh, cChS, e, c17, if_pos c26, decide_eq_true c26, c37b, if_pos (of_decide_eq_true c37b), decide_eq_true (of_decide_eq_true c37b), if_true, if_false, Bool.false_eq_true, not_false_eq_true, not_true_eq_false, decide_true, decide_false, Bool.and_true, Bool.true_and, Bool.and_false, Bool.false_and, Bool.or_true, Bool.true_or, Bool.or_false, Bool.false_or, and_self, and_true, true_and, and_false, false_and, or_true, true_or, or_false, false_or, ne_eq]; rfl)
              have q := ih (i + 1) (cU (cU π 0 (cPV pl s O D i)) 1 (cPV pl s O D i)) (by omega) (by rw [eX]; intro o9 e9; cases e9; exact cU_e)
              rw [eX] at q
              exact q
            · have c37b := bI_f c37
              refine ax_goto (pc := 40) (tgt := 85) G dX2_choose_40 rfl ?_
              refine ax_iincN (pc := 85) (n := 1) G dX2_choose_85 rfl rfl ic_1 ?_
              refine ax_goto (pc := 88) (tgt := 4) G dX2_choose_88 rfl ?_
              have eX : cCh pl s O pol (i + 1) = none := by first | (simp only [cCh, cChS, e, c17, c26, c37b, (of_decide_eq_false c37b), if_true, if_false, Bool.false_eq_true, not_false_eq_true, not_true_eq_false, decide_true, decide_false, Bool.and_true, Bool.true_and, Bool.and_false, Bool.false_and, Bool.or_true, Bool.true_or, Bool.or_false, Bool.false_or, and_self, and_true, true_and, and_false, false_and, or_true, true_or, or_false, false_or, ne_eq]; done) | (simp only [cCh, cChS, e, c17, c26, c37b, (of_decide_eq_false c37b), if_true, if_false, Bool.false_eq_true, not_false_eq_true, not_true_eq_false, decide_true, decide_false, Bool.and_true, Bool.true_and, Bool.and_false, Bool.false_and, Bool.or_true, Bool.true_or, Bool.or_false, Bool.false_or, and_self, and_true, true_and, and_false, false_and, or_true, true_or, or_false, false_or, ne_eq]; rfl) | (simp only [cCh, cChS, e, c17, if_pos c26, decide_eq_true c26, c37b, (of_decide_eq_false c37b), if_true, if_false, Bool.false_eq_true, not_false_eq_true, not_true_eq_false, decide_true, decide_false, Bool.and_true, Bool.true_and, Bool.and_false, Bool.false_and, Bool.or_true, Bool.true_or, Bool.or_false, Bool.false_or, and_self, and_true, true_and, and_false, false_and, or_true, true_or, or_false, false_or, ne_eq]; done) | (simp only [cCh, cChS, e, c17, if_pos c26, decide_eq_true c26, c37b, (of_decide_eq_false c37b), if_true, if_false, Bool.false_eq_true, not_false_eq_true, not_true_eq_false, decide_true, decide_false, Bool.and_true, Bool.true_and, Bool.and_false, Bool.false_and, Bool.or_true, Bool.true_or, Bool.or_false, Bool.false_or, and_self, and_true, true_and, and_false, false_and, or_true, true_or, or_false, false_or, ne_eq]; rfl)
              have q := ih (i + 1) (cU π 0 (cPV pl s O D i)) (by omega) (by rw [eX]; intro o9 e9; cases e9)
              rw [eX] at q
              exact q
      · have ho := cCh_l e
        show ax_W Ω Γ _ _ _ _ [some (.ref a), some (.int (nI o)), some (.int (nI i))] _
        refine ax_iload_n (pc := 4) G dX2_choose_4 rfl rfl ?_
        refine ax_aload_n (pc := 5) G dX2_choose_5 rfl rfl ?_
        refine sr_get (pc := 6) (v := .ref (D.1 0)) G flX2_80_1 dX2_choose_6 rfl ?_
        refine ax_getf (pc := 9) (v := .ref (D.1 2)) G flX2_104_10 dX2_choose_9 (((hE (s, π, (.ref (D.1 0)), (D.1 8))).1).1) rfl ?_
        refine ax_cJ1 (pc := 12) (kb := 0) (nb := 0) G (ct_lsize hA ((hE (s, π, (.ref (D.1 0)), (D.1 8))).1.2.2.1).1) lJX2_89_16 dX2_choose_12 (((hE (s, π, (.ref (D.1 0)), (D.1 8))).1.2.2.1).1) rfl (by decide) (Nat.le_of_ble_eq_true rfl) rfl ?_
        refine ax_icmp_geN (pc := 17) (tgt := 91) G dX2_choose_17 rfl (by omega) (by omega) (fun c17 => ?_) (fun c17 => ?_)
        · omega
        · refine ax_aload_n (pc := 20) G dX2_choose_20 rfl rfl ?_
          refine sr_get (pc := 21) (v := .ref (a + 8)) G flX2_43_1 dX2_choose_21 rfl ?_
          refine ax_iload_n (pc := 24) G dX2_choose_24 rfl rfl ?_
          refine sr_ld (pc := 25) (k := 8) (j := i) (r := 47 + i) G dX2_choose_25 (by decide) (by decide) rfl rfl (show i < 20 by omega) ?_
          show ax_W Ω Γ _ _ _ _ _ (.int (s (47 + i)) :: _)
          refine ax_if_ne (pc := 26) (tgt := 85) G dX2_choose_26 rfl (fun c26 => ?_) (fun c26 => ?_)
          · refine ax_iincN (pc := 85) (n := 1) G dX2_choose_85 rfl rfl ic_1 ?_
            refine ax_goto (pc := 88) (tgt := 4) G dX2_choose_88 rfl ?_
            have eX : cCh pl s O pol (i + 1) = some (o) := by first | (simp only [cCh, cChS, e, c17, c26, if_true, if_false, Bool.false_eq_true, not_false_eq_true, not_true_eq_false, decide_true, decide_false, Bool.and_true, Bool.true_and, Bool.and_false, Bool.false_and, Bool.or_true, Bool.true_or, Bool.or_false, Bool.false_or, and_self, and_true, true_and, and_false, false_and, or_true, true_or, or_false, false_or, ne_eq]; done) | (simp only [cCh, cChS, e, c17, c26, if_true, if_false, Bool.false_eq_true, not_false_eq_true, not_true_eq_false, decide_true, decide_false, Bool.and_true, Bool.true_and, Bool.and_false, Bool.false_and, Bool.or_true, Bool.true_or, Bool.or_false, Bool.false_or, and_self, and_true, true_and, and_false, false_and, or_true, true_or, or_false, false_or, ne_eq]; rfl)
            have q := ih (i + 1) (π) (by omega) (by rw [eX]; intro o9 e9; cases e9; exact hv _ e)
            rw [eX] at q
            exact q
          · refine ax_aload_n (pc := 29) G dX2_choose_29 rfl rfl ?_
            refine ax_iload_n (pc := 30) G dX2_choose_30 rfl rfl ?_
            refine ax_cV1 (pc := 31) (kb := 0) (nb := 0) G (ct_planVisit hA (π := π) ha hp hs hE i (by omega)) lVX2_185_1 dX2_choose_31 sH_obj rfl (by decide) (Nat.le_of_ble_eq_true rfl) rfl ?_
            show ax_W Ω Γ _ _ (sH h a (s, cU π 0 (cPV pl s O D i), (.ref (D.1 0)), (D.1 8))) _ _ _
            refine ax_cV1 (pc := 34) (kb := 0) (nb := 0) G (ct_can hA (P := (cPV pl s O D i)) (sH_pe (k := 16) (by decide) (by decide) (show (cU π 0 (cPV pl s O D i)) 0 = (cPV pl s O D i) from cU_e))) lVX2_189_6 dX2_choose_34 (sH_pl (k := 16) (by decide) (by decide)) rfl (by decide) (Nat.le_of_ble_eq_true rfl) rfl ?_
            rw [show (cPV pl s O D i).2 8 = cRs pl s O i from cPV_8 c26]
            refine ax_if_ne (pc := 37) (tgt := 43) G dX2_choose_37 rfl (fun c37 => ?_) (fun c37 => ?_)
            · have c37b := bI_t c37
              refine ax_iload_n (pc := 43) G dX2_choose_43 rfl rfl ?_
              refine ax_iconst (pc := 44) (v := (-1)) G dX2_choose_44 (by decide) ?_
              refine ax_icmp_eq (pc := 45) (tgt := 72) G dX2_choose_45 rfl (fun c9 => absurd c9 (nI_nm (by omega))) (fun _ => ?_)
              refine ax_aload_n (pc := 48) G dX2_choose_48 rfl rfl ?_
              refine sr_get (pc := 49) (v := .ref (D.1 8)) G flX2_15_1 dX2_choose_49 rfl ?_
              refine ax_aload_n (pc := 52) G dX2_choose_52 rfl rfl ?_
              refine ax_aload_n (pc := 53) G dX2_choose_53 rfl rfl ?_
              refine sr_get (pc := 54) (v := .ref (a + 16)) G flX2_70_1 dX2_choose_54 rfl ?_
              refine ax_aload_n (pc := 57) G dX2_choose_57 rfl rfl ?_
              refine sr_get (pc := 58) (v := .ref (a + 17)) G flX2_74_1 dX2_choose_58 rfl ?_
              refine rp_prefers (pc := 61) (w0 := D.2.1 1 i) (n0 := (cPV pl s O D i).2) (w1 := D.2.1 1 o) (n1 := (cPV pl s O D o).2) G hp hs i o (by omega) (by omega) cU_e ((cU_n (by decide)).trans (hv _ e)) rfl rfl (fun σ => (hE σ).1.wk (by omega) (by omega)) (fun σ => (hE σ).1.wk (by omega) (by omega)) pol hpol hR (by omega) lJX2_193_2 lJX2_193_3 lJX2_193_4 lJX2_193_5 dX2_choose_61 (by decide) (Nat.le_of_ble_eq_true rfl) ?_
              show ax_W Ω Γ _ _ _ _ _ (.int (bI (decide (cRul pl s pol i o < 0))) :: _)
              refine ax_if_ne (pc := 66) (tgt := 72) G dX2_choose_66 rfl (fun c66 => ?_) (fun c66 => ?_)
              · have c66b := bI_t c66
                refine ax_aload_n (pc := 72) G dX2_choose_72 rfl rfl ?_
                refine sr_get (pc := 73) (v := .ref (a + 17)) G flX2_74_1 dX2_choose_73 rfl ?_
                refine ax_aload_n (pc := 76) G dX2_choose_76 rfl rfl ?_
                refine sr_get (pc := 77) (v := .ref (a + 16)) G flX2_70_1 dX2_choose_77 rfl ?_
                refine ax_cV0 (pc := 80) (kb := 0) (nb := 0) G (ct_becomeS hA (σ := (s, cU π 0 (cPV pl s O D i), (.ref (D.1 0)), (D.1 8))) (w := D.2.1 1 i) (n := (cPV pl s O D i).2) ha (show (cU π 0 (cPV pl s O D i)) 0 = (.ref (D.2.1 1 i), (cPV pl s O D i).2) from cU_e)) lVX2_197_6 dX2_choose_80 (sH_pl (k := 17) (by decide) (by decide)) rfl (by decide) (Nat.le_of_ble_eq_true rfl) rfl ?_
                show ax_W Ω Γ _ _ (sH h a (s, cU (cU π 0 (cPV pl s O D i)) 1 (cPV pl s O D i), (.ref (D.1 0)), (D.1 8))) _ _ _
                refine ax_iload_n (pc := 83) G dX2_choose_83 rfl rfl ?_
                refine ax_istore_n (pc := 84) G dX2_choose_84 rfl (Nat.le_of_ble_eq_true rfl) rfl ?_
                refine ax_iincN (pc := 85) (n := 1) G dX2_choose_85 rfl rfl ic_1 ?_
                refine ax_goto (pc := 88) (tgt := 4) G dX2_choose_88 rfl ?_
                have eX : cCh pl s O pol (i + 1) = some (i) := by first | (simp only [cCh, cChS, e, c17, c26, c37b, (of_decide_eq_true c37b), c66b, (of_decide_eq_true c66b), if_true, if_false, Bool.false_eq_true, not_false_eq_true, not_true_eq_false, decide_true, decide_false, Bool.and_true, Bool.true_and, Bool.and_false, Bool.false_and, Bool.or_true, Bool.true_or, Bool.or_false, Bool.false_or, and_self, and_true, true_and, and_false, false_and, or_true, true_or, or_false, false_or, ne_eq]; done) | (simp only [cCh, cChS, e, c17, c26, c37b, (of_decide_eq_true c37b), c66b, (of_decide_eq_true c66b), if_true, if_false, Bool.false_eq_true, not_false_eq_true, not_true_eq_false, decide_true, decide_false, Bool.and_true, Bool.true_and, Bool.and_false, Bool.false_and, Bool.or_true, Bool.true_or, Bool.or_false, Bool.false_or, and_self, and_true, true_and, and_false, false_and, or_true, true_or, or_false, false_or, ne_eq]; rfl) | (simp only [cCh, cChS, e, c17, if_pos c26, decide_eq_true c26, c37b, if_pos (of_decide_eq_true c37b), decide_eq_true (of_decide_eq_true c37b), c66b, (of_decide_eq_true c66b), if_true, if_false, Bool.false_eq_true, not_false_eq_true, not_true_eq_false, decide_true, decide_false, Bool.and_true, Bool.true_and, Bool.and_false, Bool.false_and, Bool.or_true, Bool.true_or, Bool.or_false, Bool.false_or, and_self, and_true, true_and, and_false, false_and, or_true, true_or, or_false, false_or, ne_eq]; done) | (simp only [cCh, cChS, e, c17, if_pos c26, decide_eq_true c26, c37b, if_pos (of_decide_eq_true c37b), decide_eq_true (of_decide_eq_true c37b), c66b, (of_decide_eq_true c66b), if_true, if_false, Bool.false_eq_true, not_false_eq_true, not_true_eq_false, decide_true, decide_false, Bool.and_true, Bool.true_and, Bool.and_false, Bool.false_and, Bool.or_true, Bool.true_or, Bool.or_false, Bool.false_or, and_self, and_true, true_and, and_false, false_and, or_true, true_or, or_false, false_or, ne_eq]; rfl)
                have q := ih (i + 1) (cU (cU π 0 (cPV pl s O D i)) 1 (cPV pl s O D i)) (by omega) (by rw [eX]; intro o9 e9; cases e9; exact cU_e)
                rw [eX] at q
                exact q
              · have c66b := bI_f c66
                refine ax_goto (pc := 69) (tgt := 85) G dX2_choose_69 rfl ?_
                refine ax_iincN (pc := 85) (n := 1) G dX2_choose_85 rfl rfl ic_1 ?_
                refine ax_goto (pc := 88) (tgt := 4) G dX2_choose_88 rfl ?_
                have eX : cCh pl s O pol (i + 1) = some (o) := by first | (simp only [cCh, cChS, e, c17, c26, c37b, (of_decide_eq_true c37b), c66b, (of_decide_eq_false c66b), if_true, if_false, Bool.false_eq_true, not_false_eq_true, not_true_eq_false, decide_true, decide_false, Bool.and_true, Bool.true_and, Bool.and_false, Bool.false_and, Bool.or_true, Bool.true_or, Bool.or_false, Bool.false_or, and_self, and_true, true_and, and_false, false_and, or_true, true_or, or_false, false_or, ne_eq]; done) | (simp only [cCh, cChS, e, c17, c26, c37b, (of_decide_eq_true c37b), c66b, (of_decide_eq_false c66b), if_true, if_false, Bool.false_eq_true, not_false_eq_true, not_true_eq_false, decide_true, decide_false, Bool.and_true, Bool.true_and, Bool.and_false, Bool.false_and, Bool.or_true, Bool.true_or, Bool.or_false, Bool.false_or, and_self, and_true, true_and, and_false, false_and, or_true, true_or, or_false, false_or, ne_eq]; rfl) | (simp only [cCh, cChS, e, c17, if_pos c26, decide_eq_true c26, c37b, if_pos (of_decide_eq_true c37b), decide_eq_true (of_decide_eq_true c37b), c66b, (of_decide_eq_false c66b), if_true, if_false, Bool.false_eq_true, not_false_eq_true, not_true_eq_false, decide_true, decide_false, Bool.and_true, Bool.true_and, Bool.and_false, Bool.false_and, Bool.or_true, Bool.true_or, Bool.or_false, Bool.false_or, and_self, and_true, true_and, and_false, false_and, or_true, true_or, or_false, false_or, ne_eq]; done) | (simp only [cCh, cChS, e, c17, if_pos c26, decide_eq_true c26, c37b, if_pos (of_decide_eq_true c37b), decide_eq_true (of_decide_eq_true c37b), c66b, (of_decide_eq_false c66b), if_true, if_false, Bool.false_eq_true, not_false_eq_true, not_true_eq_false, decide_true, decide_false, Bool.and_true, Bool.true_and, Bool.and_false, Bool.false_and, Bool.or_true, Bool.true_or, Bool.or_false, Bool.false_or, and_self, and_true, true_and, and_false, false_and, or_true, true_or, or_false, false_or, ne_eq]; rfl)
                have q := ih (i + 1) (cU π 0 (cPV pl s O D i)) (by omega) (by rw [eX]; intro o9 e9; cases e9; exact (cU_n (by decide)).trans (hv _ e))
                rw [eX] at q
                exact q
            · have c37b := bI_f c37
              refine ax_goto (pc := 40) (tgt := 85) G dX2_choose_40 rfl ?_
              refine ax_iincN (pc := 85) (n := 1) G dX2_choose_85 rfl rfl ic_1 ?_
              refine ax_goto (pc := 88) (tgt := 4) G dX2_choose_88 rfl ?_
              have eX : cCh pl s O pol (i + 1) = some (o) := by first | (simp only [cCh, cChS, e, c17, c26, c37b, (of_decide_eq_false c37b), if_true, if_false, Bool.false_eq_true, not_false_eq_true, not_true_eq_false, decide_true, decide_false, Bool.and_true, Bool.true_and, Bool.and_false, Bool.false_and, Bool.or_true, Bool.true_or, Bool.or_false, Bool.false_or, and_self, and_true, true_and, and_false, false_and, or_true, true_or, or_false, false_or, ne_eq]; done) | (simp only [cCh, cChS, e, c17, c26, c37b, (of_decide_eq_false c37b), if_true, if_false, Bool.false_eq_true, not_false_eq_true, not_true_eq_false, decide_true, decide_false, Bool.and_true, Bool.true_and, Bool.and_false, Bool.false_and, Bool.or_true, Bool.true_or, Bool.or_false, Bool.false_or, and_self, and_true, true_and, and_false, false_and, or_true, true_or, or_false, false_or, ne_eq]; rfl) | (simp only [cCh, cChS, e, c17, if_pos c26, decide_eq_true c26, c37b, (of_decide_eq_false c37b), if_true, if_false, Bool.false_eq_true, not_false_eq_true, not_true_eq_false, decide_true, decide_false, Bool.and_true, Bool.true_and, Bool.and_false, Bool.false_and, Bool.or_true, Bool.true_or, Bool.or_false, Bool.false_or, and_self, and_true, true_and, and_false, false_and, or_true, true_or, or_false, false_or, ne_eq]; done) | (simp only [cCh, cChS, e, c17, if_pos c26, decide_eq_true c26, c37b, (of_decide_eq_false c37b), if_true, if_false, Bool.false_eq_true, not_false_eq_true, not_true_eq_false, decide_true, decide_false, Bool.and_true, Bool.true_and, Bool.and_false, Bool.false_and, Bool.or_true, Bool.true_or, Bool.or_false, Bool.false_or, and_self, and_true, true_and, and_false, false_and, or_true, true_or, or_false, false_or, ne_eq]; rfl)
              have q := ih (i + 1) (cU π 0 (cPV pl s O D i)) (by omega) (by rw [eX]; intro o9 e9; cases e9; exact (cU_n (by decide)).trans (hv _ e))
              rw [eX] at q
              exact q
  show ax_W Ω Γ 0 0 (sH h a (s, π, (.ref (D.1 0)), (D.1 8))) 0 [some (.ref a), none, none] []
  refine ax_iconst (pc := 0) (v := (-1)) G dX2_choose_0 (by decide) ?_
  refine ax_istore_n (pc := 1) G dX2_choose_1 rfl (Nat.le_of_ble_eq_true rfl) rfl ?_
  refine ax_iconst (pc := 2) (v := nI 0) G dX2_choose_2 ic_0 ?_
  refine ax_istore_n (pc := 3) G dX2_choose_3 rfl (Nat.le_of_ble_eq_true rfl) rfl ?_
  exact L0 V 0 π (by omega) (by intro o9 e9; cases e9)

theorem ct_chooseAlert {Ω : ax_O} (hA : ax_Amb Ω) {h : ax_H} {a : Nat} {pl s : pR} {π : Nat → cP} {N V O A : Nat} {D : cD} (ha : Ω.2.1.heap.size ≤ a) (hp : pWP pl N V O) (hs : pWS s A) (hE : cEn h a pl s N V O A D)  : ax_MetP Ω yX2_chooseAlert 11 0 0 [.ref a] (sH h a (s, π, (.ref (D.1 0)), (D.1 8))) (ax_Nm (fun v h' => v = some (.int (oI (cFA pl s O A))) ∧ ∃ π', h' = sH h a (s, π', .ref (D.1 0), D.1 8) ∧ ∀ o, cFA pl s O A = some o → π' 1 = cPA pl s O D o)) := by
  refine ax_metP q1960 q114 (by decide +kernel) (by decide) hA (Nat.le_of_ble_eq_true rfl) (fun Γ G E => ?_)
  have hV9 := hp.lV
  have hA9 := hs.lA
  have hO9 := hp.lO
  have L0 : ∀ (n i : Nat) (π : Nat → cP) (l3 : Option Value), i + n = A → (∀ o, cFA pl s O i = some o → π 1 = cPA pl s O D o) → ax_W Ω Γ 0 0 (sH h a (s, π, (.ref (D.1 0)), (D.1 8))) 4 [some (.ref a), some (.int (oI (cFA pl s O i))), some (.int (nI i)), l3] [] := by
    intro n
    induction n with
    | zero =>
      intro i π l3 hi hv
      have hi9 : A = i := by omega
      subst hi9
      refine ax_iload_n (pc := 4) G dX2_chooseAlert_4 rfl rfl ?_
      refine ax_aload_n (pc := 5) G dX2_chooseAlert_5 rfl rfl ?_
      refine sr_get (pc := 6) (v := .ref (a + 2)) G flX2_26_1 dX2_chooseAlert_6 rfl ?_
      refine ax_cJ1 (pc := 9) (kb := 0) (nb := 0) G (ct_lsize hA ((hE (s, π, (.ref (D.1 0)), (D.1 8))).2.1).1) lJX2_89_16 dX2_chooseAlert_9 (((hE (s, π, (.ref (D.1 0)), (D.1 8))).2.1).1) rfl (by decide) (Nat.le_of_ble_eq_true rfl) rfl ?_
      refine ax_icmp_geN (pc := 14) (tgt := 120) G dX2_chooseAlert_14 rfl (by omega) (by omega) (fun c14 => ?_) (fun c14 => ?_)
      · refine ax_iload_n (pc := 120) G dX2_chooseAlert_120 rfl rfl ?_
        exact ax_iretP (pc := 121) G E rfl (rfl) dX2_chooseAlert_121 (⟨_, rfl, rfl, π, rfl, hv⟩)
      · omega
    | succ n ih =>
      intro i π l3 hi hv
      rcases e : cFA pl s O i with _ | o
      · show ax_W Ω Γ _ _ _ _ [some (.ref a), some (.int (-1)), some (.int (nI i)), l3] _
        refine ax_iload_n (pc := 4) G dX2_chooseAlert_4 rfl rfl ?_
        refine ax_aload_n (pc := 5) G dX2_chooseAlert_5 rfl rfl ?_
        refine sr_get (pc := 6) (v := .ref (a + 2)) G flX2_26_1 dX2_chooseAlert_6 rfl ?_
        refine ax_cJ1 (pc := 9) (kb := 0) (nb := 0) G (ct_lsize hA ((hE (s, π, (.ref (D.1 0)), (D.1 8))).2.1).1) lJX2_89_16 dX2_chooseAlert_9 (((hE (s, π, (.ref (D.1 0)), (D.1 8))).2.1).1) rfl (by decide) (Nat.le_of_ble_eq_true rfl) rfl ?_
        refine ax_icmp_geN (pc := 14) (tgt := 120) G dX2_chooseAlert_14 rfl (by omega) (by omega) (fun c14 => ?_) (fun c14 => ?_)
        · omega
        · refine ax_aload_n (pc := 17) G dX2_chooseAlert_17 rfl rfl ?_
          refine sr_get (pc := 18) (v := .ref (a + 2)) G flX2_26_1 dX2_chooseAlert_18 rfl ?_
          refine ax_iload_n (pc := 21) G dX2_chooseAlert_21 rfl rfl ?_
          refine ax_cJ1 (pc := 22) (kb := 0) (nb := 0) G (ct_lget hA ((hE (s, π, (.ref (D.1 0)), (D.1 8))).2.1).1 ((hE (s, π, (.ref (D.1 0)), (D.1 8))).2.1).2.1 (q := D.2.1 3 i) i (by omega) ((hE (s, π, (.ref (D.1 0)), (D.1 8))).2.1).2.2.1 ((hE (s, π, (.ref (D.1 0)), (D.1 8))).2.1).2.2.2.1 (((hE (s, π, (.ref (D.1 0)), (D.1 8))).2.1).2.2.2.2 i (by omega))) lJX2_95_16 dX2_chooseAlert_22 (((hE (s, π, (.ref (D.1 0)), (D.1 8))).2.1).1) rfl (by decide) (Nat.le_of_ble_eq_true rfl) rfl ?_
          refine ax_checkcast (pc := 27) G q1961 ⟨_, rfl, Or.inl rfl⟩ dX2_chooseAlert_27 (alO (pl := pl) ((hE (s, π, (.ref (D.1 0)), (D.1 8))).2) (k := i) (by omega)) ?_
          refine ax_astore_n (pc := 30) G dX2_chooseAlert_30 rfl (Nat.le_of_ble_eq_true rfl) rfl ?_
          refine ax_aload_n (pc := 31) G dX2_chooseAlert_31 rfl rfl ?_
          refine ax_iload_n (pc := 32) G dX2_chooseAlert_32 rfl rfl ?_
          refine ax_cV1 (pc := 33) (kb := 0) (nb := 0) G (ct_isOpen hA (π := π) ha hp hs hE i (by omega)) lVX2_203_1 dX2_chooseAlert_33 sH_obj rfl (by decide) (Nat.le_of_ble_eq_true rfl) rfl ?_
          refine ax_if_eq (pc := 36) (tgt := 114) G dX2_chooseAlert_36 rfl (fun c36 => ?_) (fun c36 => ?_)
          · have c36b := bI_f c36
            refine ax_iincN (pc := 114) (n := 1) G dX2_chooseAlert_114 rfl rfl ic_1 ?_
            refine ax_goto (pc := 117) (tgt := 4) G dX2_chooseAlert_117 rfl ?_
            have eX : cFA pl s O (i + 1) = none := by first | (simp only [cFA, cFAS, e, c14, c36b, if_true, if_false, Bool.false_eq_true, not_false_eq_true, not_true_eq_false, decide_true, decide_false, Bool.and_true, Bool.true_and, Bool.and_false, Bool.false_and, Bool.or_true, Bool.true_or, Bool.or_false, Bool.false_or, and_self, and_true, true_and, and_false, false_and, or_true, true_or, or_false, false_or, ne_eq]; done) | (simp only [cFA, cFAS, e, c14, c36b, if_true, if_false, Bool.false_eq_true, not_false_eq_true, not_true_eq_false, decide_true, decide_false, Bool.and_true, Bool.true_and, Bool.and_false, Bool.false_and, Bool.or_true, Bool.true_or, Bool.or_false, Bool.false_or, and_self, and_true, true_and, and_false, false_and, or_true, true_or, or_false, false_or, ne_eq]; rfl)
            have q := ih (i + 1) (π) (some (.ref (D.2.1 3 i))) (by omega) (by rw [eX]; intro o9 e9; cases e9)
            rw [eX] at q
            exact q
          · have c36b := bI_t c36
            refine ax_aload_n (pc := 39) G dX2_chooseAlert_39 rfl rfl ?_
            refine ax_getf (pc := 40) (v := .int (pFrom pl s (20 + i))) G flX2_207_14 dX2_chooseAlert_40 (alO (pl := pl) ((hE (s, π, (.ref (D.1 0)), (D.1 8))).2) (k := i) (by omega)) rfl ?_
            refine ax_aload_n (pc := 43) G dX2_chooseAlert_43 rfl rfl ?_
            refine sr_get (pc := 44) (v := .int (s 0)) G flX2_130_1 dX2_chooseAlert_44 rfl ?_
            refine ax_icmp_gt (pc := 47) (tgt := 114) G dX2_chooseAlert_47 rfl (fun c47 => ?_) (fun c47 => ?_)
            · refine ax_iincN (pc := 114) (n := 1) G dX2_chooseAlert_114 rfl rfl ic_1 ?_
              refine ax_goto (pc := 117) (tgt := 4) G dX2_chooseAlert_117 rfl ?_
              have eX : cFA pl s O (i + 1) = none := by first | (simp only [cFA, cFAS, e, c14, c36b, c47, Int32.not_le.mpr c47, if_true, if_false, Bool.false_eq_true, not_false_eq_true, not_true_eq_false, decide_true, decide_false, Bool.and_true, Bool.true_and, Bool.and_false, Bool.false_and, Bool.or_true, Bool.true_or, Bool.or_false, Bool.false_or, and_self, and_true, true_and, and_false, false_and, or_true, true_or, or_false, false_or, ne_eq]; done) | (simp only [cFA, cFAS, e, c14, c36b, c47, Int32.not_le.mpr c47, if_true, if_false, Bool.false_eq_true, not_false_eq_true, not_true_eq_false, decide_true, decide_false, Bool.and_true, Bool.true_and, Bool.and_false, Bool.false_and, Bool.or_true, Bool.true_or, Bool.or_false, Bool.false_or, and_self, and_true, true_and, and_false, false_and, or_true, true_or, or_false, false_or, ne_eq]; rfl)
              have q := ih (i + 1) (π) (some (.ref (D.2.1 3 i))) (by omega) (by rw [eX]; intro o9 e9; cases e9)
              rw [eX] at q
              exact q
            · refine ax_aload_n (pc := 50) G dX2_chooseAlert_50 rfl rfl ?_
              refine ax_aload_n (pc := 51) G dX2_chooseAlert_51 rfl rfl ?_
              refine sr_get (pc := 52) (v := .ref (a + 16)) G flX2_70_1 dX2_chooseAlert_52 rfl ?_
              refine ax_aload_n (pc := 55) G dX2_chooseAlert_55 rfl rfl ?_
              refine ax_iload_n (pc := 56) G dX2_chooseAlert_56 rfl rfl ?_
              refine ax_iconst (pc := 57) (v := nI 0) G dX2_chooseAlert_57 ic_0 ?_
              refine ax_cV1 (pc := 58) (kb := 0) (nb := 0) G (ct_plan hA (π := π) ha hp hs hE (w := D.2.1 3 i) (k := 20 + i) (by omega) (fun σ => (hE σ).2.wk (pl := pl) (k := i) (by omega)) (nI i) (nI 0)) lVX2_180_1 dX2_chooseAlert_58 sH_obj rfl (by decide) (Nat.le_of_ble_eq_true rfl) rfl ?_
              show ax_W Ω Γ _ _ (sH h a (s, cU π 0 (cPl pl s (20 + i) O (D.2.1 3 i) (nI i) (decide ((nI 0) = 0)) (pLeft s (pQ pl s (20 + i)))), (.ref (D.1 0)), (D.1 8))) _ _ _
              rw [show decide ((nI 0 : Int32) = 0) = true from by decide]
              show ax_W Ω Γ _ _ (sH h a (s, cU π 0 (cPA pl s O D i), (.ref (D.1 0)), (D.1 8))) _ _ _
              refine ax_cV1 (pc := 61) (kb := 0) (nb := 0) G (ct_can hA (P := (cPA pl s O D i)) (sH_pe (k := 16) (by decide) (by decide) (show (cU π 0 (cPA pl s O D i)) 0 = (cPA pl s O D i) from cU_e))) lVX2_189_6 dX2_chooseAlert_61 (sH_pl (k := 16) (by decide) (by decide)) rfl (by decide) (Nat.le_of_ble_eq_true rfl) rfl ?_
              rw [show (cPA pl s O D i).2 8 = cRs pl s O (20 + i) from cPA_8]
              refine ax_if_ne (pc := 64) (tgt := 70) G dX2_chooseAlert_64 rfl (fun c64 => ?_) (fun c64 => ?_)
              · have c64b := bI_t c64
                refine ax_iload_n (pc := 70) G dX2_chooseAlert_70 rfl rfl ?_
                refine ax_iconst (pc := 71) (v := (-1)) G dX2_chooseAlert_71 (by decide) ?_
                refine ax_icmp_eq (pc := 72) (tgt := 101) G dX2_chooseAlert_72 rfl (fun _ => ?_) (fun c9 => absurd rfl c9)
                refine ax_aload_n (pc := 101) G dX2_chooseAlert_101 rfl rfl ?_
                refine sr_get (pc := 102) (v := .ref (a + 17)) G flX2_74_1 dX2_chooseAlert_102 rfl ?_
                refine ax_aload_n (pc := 105) G dX2_chooseAlert_105 rfl rfl ?_
                refine sr_get (pc := 106) (v := .ref (a + 16)) G flX2_70_1 dX2_chooseAlert_106 rfl ?_
                refine ax_cV0 (pc := 109) (kb := 0) (nb := 0) G (ct_becomeS hA (σ := (s, cU π 0 (cPA pl s O D i), (.ref (D.1 0)), (D.1 8))) (w := D.2.1 3 i) (n := (cPA pl s O D i).2) ha (show (cU π 0 (cPA pl s O D i)) 0 = (.ref (D.2.1 3 i), (cPA pl s O D i).2) from cU_e)) lVX2_197_6 dX2_chooseAlert_109 (sH_pl (k := 17) (by decide) (by decide)) rfl (by decide) (Nat.le_of_ble_eq_true rfl) rfl ?_
                show ax_W Ω Γ _ _ (sH h a (s, cU (cU π 0 (cPA pl s O D i)) 1 (cPA pl s O D i), (.ref (D.1 0)), (D.1 8))) _ _ _
                refine ax_iload_n (pc := 112) G dX2_chooseAlert_112 rfl rfl ?_
                refine ax_istore_n (pc := 113) G dX2_chooseAlert_113 rfl (Nat.le_of_ble_eq_true rfl) rfl ?_
                refine ax_iincN (pc := 114) (n := 1) G dX2_chooseAlert_114 rfl rfl ic_1 ?_
                refine ax_goto (pc := 117) (tgt := 4) G dX2_chooseAlert_117 rfl ?_
                have eX : cFA pl s O (i + 1) = some (i) := by first | (simp only [cFA, cFAS, e, c14, c36b, c47, Int32.not_lt.mp c47, c64b, (of_decide_eq_true c64b), if_true, if_false, Bool.false_eq_true, not_false_eq_true, not_true_eq_false, decide_true, decide_false, Bool.and_true, Bool.true_and, Bool.and_false, Bool.false_and, Bool.or_true, Bool.true_or, Bool.or_false, Bool.false_or, and_self, and_true, true_and, and_false, false_and, or_true, true_or, or_false, false_or, ne_eq]; done) | (simp only [cFA, cFAS, e, c14, c36b, c47, Int32.not_lt.mp c47, c64b, (of_decide_eq_true c64b), if_true, if_false, Bool.false_eq_true, not_false_eq_true, not_true_eq_false, decide_true, decide_false, Bool.and_true, Bool.true_and, Bool.and_false, Bool.false_and, Bool.or_true, Bool.true_or, Bool.or_false, Bool.false_or, and_self, and_true, true_and, and_false, false_and, or_true, true_or, or_false, false_or, ne_eq]; rfl) | (simp only [cFA, cFAS, e, c14, c36b, c47, Int32.not_lt.mp c47, c64b, if_pos (of_decide_eq_true c64b), decide_eq_true (of_decide_eq_true c64b), if_true, if_false, Bool.false_eq_true, not_false_eq_true, not_true_eq_false, decide_true, decide_false, Bool.and_true, Bool.true_and, Bool.and_false, Bool.false_and, Bool.or_true, Bool.true_or, Bool.or_false, Bool.false_or, and_self, and_true, true_and, and_false, false_and, or_true, true_or, or_false, false_or, ne_eq]; done) | (simp only [cFA, cFAS, e, c14, c36b, c47, Int32.not_lt.mp c47, c64b, if_pos (of_decide_eq_true c64b), decide_eq_true (of_decide_eq_true c64b), if_true, if_false, Bool.false_eq_true, not_false_eq_true, not_true_eq_false, decide_true, decide_false, Bool.and_true, Bool.true_and, Bool.and_false, Bool.false_and, Bool.or_true, Bool.true_or, Bool.or_false, Bool.false_or, and_self, and_true, true_and, and_false, false_and, or_true, true_or, or_false, false_or, ne_eq]; rfl)
                have q := ih (i + 1) (cU (cU π 0 (cPA pl s O D i)) 1 (cPA pl s O D i)) (some (.ref (D.2.1 3 i))) (by omega) (by rw [eX]; intro o9 e9; cases e9; exact cU_e)
                rw [eX] at q
                exact q
              · have c64b := bI_f c64
                refine ax_goto (pc := 67) (tgt := 114) G dX2_chooseAlert_67 rfl ?_
                refine ax_iincN (pc := 114) (n := 1) G dX2_chooseAlert_114 rfl rfl ic_1 ?_
                refine ax_goto (pc := 117) (tgt := 4) G dX2_chooseAlert_117 rfl ?_
                have eX : cFA pl s O (i + 1) = none := by first | (simp only [cFA, cFAS, e, c14, c36b, c47, Int32.not_lt.mp c47, c64b, (of_decide_eq_false c64b), if_true, if_false, Bool.false_eq_true, not_false_eq_true, not_true_eq_false, decide_true, decide_false, Bool.and_true, Bool.true_and, Bool.and_false, Bool.false_and, Bool.or_true, Bool.true_or, Bool.or_false, Bool.false_or, and_self, and_true, true_and, and_false, false_and, or_true, true_or, or_false, false_or, ne_eq]; done) | (simp only [cFA, cFAS, e, c14, c36b, c47, Int32.not_lt.mp c47, c64b, (of_decide_eq_false c64b), if_true, if_false, Bool.false_eq_true, not_false_eq_true, not_true_eq_false, decide_true, decide_false, Bool.and_true, Bool.true_and, Bool.and_false, Bool.false_and, Bool.or_true, Bool.true_or, Bool.or_false, Bool.false_or, and_self, and_true, true_and, and_false, false_and, or_true, true_or, or_false, false_or, ne_eq]; rfl)
                have q := ih (i + 1) (cU π 0 (cPA pl s O D i)) (some (.ref (D.2.1 3 i))) (by omega) (by rw [eX]; intro o9 e9; cases e9)
                rw [eX] at q
                exact q
      · have ho := cFA_l e
        show ax_W Ω Γ _ _ _ _ [some (.ref a), some (.int (nI o)), some (.int (nI i)), l3] _
        refine ax_iload_n (pc := 4) G dX2_chooseAlert_4 rfl rfl ?_
        refine ax_aload_n (pc := 5) G dX2_chooseAlert_5 rfl rfl ?_
        refine sr_get (pc := 6) (v := .ref (a + 2)) G flX2_26_1 dX2_chooseAlert_6 rfl ?_
        refine ax_cJ1 (pc := 9) (kb := 0) (nb := 0) G (ct_lsize hA ((hE (s, π, (.ref (D.1 0)), (D.1 8))).2.1).1) lJX2_89_16 dX2_chooseAlert_9 (((hE (s, π, (.ref (D.1 0)), (D.1 8))).2.1).1) rfl (by decide) (Nat.le_of_ble_eq_true rfl) rfl ?_
        refine ax_icmp_geN (pc := 14) (tgt := 120) G dX2_chooseAlert_14 rfl (by omega) (by omega) (fun c14 => ?_) (fun c14 => ?_)
        · omega
        · refine ax_aload_n (pc := 17) G dX2_chooseAlert_17 rfl rfl ?_
          refine sr_get (pc := 18) (v := .ref (a + 2)) G flX2_26_1 dX2_chooseAlert_18 rfl ?_
          refine ax_iload_n (pc := 21) G dX2_chooseAlert_21 rfl rfl ?_
          refine ax_cJ1 (pc := 22) (kb := 0) (nb := 0) G (ct_lget hA ((hE (s, π, (.ref (D.1 0)), (D.1 8))).2.1).1 ((hE (s, π, (.ref (D.1 0)), (D.1 8))).2.1).2.1 (q := D.2.1 3 i) i (by omega) ((hE (s, π, (.ref (D.1 0)), (D.1 8))).2.1).2.2.1 ((hE (s, π, (.ref (D.1 0)), (D.1 8))).2.1).2.2.2.1 (((hE (s, π, (.ref (D.1 0)), (D.1 8))).2.1).2.2.2.2 i (by omega))) lJX2_95_16 dX2_chooseAlert_22 (((hE (s, π, (.ref (D.1 0)), (D.1 8))).2.1).1) rfl (by decide) (Nat.le_of_ble_eq_true rfl) rfl ?_
          refine ax_checkcast (pc := 27) G q1961 ⟨_, rfl, Or.inl rfl⟩ dX2_chooseAlert_27 (alO (pl := pl) ((hE (s, π, (.ref (D.1 0)), (D.1 8))).2) (k := i) (by omega)) ?_
          refine ax_astore_n (pc := 30) G dX2_chooseAlert_30 rfl (Nat.le_of_ble_eq_true rfl) rfl ?_
          refine ax_aload_n (pc := 31) G dX2_chooseAlert_31 rfl rfl ?_
          refine ax_iload_n (pc := 32) G dX2_chooseAlert_32 rfl rfl ?_
          refine ax_cV1 (pc := 33) (kb := 0) (nb := 0) G (ct_isOpen hA (π := π) ha hp hs hE i (by omega)) lVX2_203_1 dX2_chooseAlert_33 sH_obj rfl (by decide) (Nat.le_of_ble_eq_true rfl) rfl ?_
          refine ax_if_eq (pc := 36) (tgt := 114) G dX2_chooseAlert_36 rfl (fun c36 => ?_) (fun c36 => ?_)
          · have c36b := bI_f c36
            refine ax_iincN (pc := 114) (n := 1) G dX2_chooseAlert_114 rfl rfl ic_1 ?_
            refine ax_goto (pc := 117) (tgt := 4) G dX2_chooseAlert_117 rfl ?_
            have eX : cFA pl s O (i + 1) = some (o) := by first | (simp only [cFA, cFAS, e, c14, c36b, if_true, if_false, Bool.false_eq_true, not_false_eq_true, not_true_eq_false, decide_true, decide_false, Bool.and_true, Bool.true_and, Bool.and_false, Bool.false_and, Bool.or_true, Bool.true_or, Bool.or_false, Bool.false_or, and_self, and_true, true_and, and_false, false_and, or_true, true_or, or_false, false_or, ne_eq]; done) | (simp only [cFA, cFAS, e, c14, c36b, if_true, if_false, Bool.false_eq_true, not_false_eq_true, not_true_eq_false, decide_true, decide_false, Bool.and_true, Bool.true_and, Bool.and_false, Bool.false_and, Bool.or_true, Bool.true_or, Bool.or_false, Bool.false_or, and_self, and_true, true_and, and_false, false_and, or_true, true_or, or_false, false_or, ne_eq]; rfl)
            have q := ih (i + 1) (π) (some (.ref (D.2.1 3 i))) (by omega) (by rw [eX]; intro o9 e9; cases e9; exact hv _ e)
            rw [eX] at q
            exact q
          · have c36b := bI_t c36
            refine ax_aload_n (pc := 39) G dX2_chooseAlert_39 rfl rfl ?_
            refine ax_getf (pc := 40) (v := .int (pFrom pl s (20 + i))) G flX2_207_14 dX2_chooseAlert_40 (alO (pl := pl) ((hE (s, π, (.ref (D.1 0)), (D.1 8))).2) (k := i) (by omega)) rfl ?_
            refine ax_aload_n (pc := 43) G dX2_chooseAlert_43 rfl rfl ?_
            refine sr_get (pc := 44) (v := .int (s 0)) G flX2_130_1 dX2_chooseAlert_44 rfl ?_
            refine ax_icmp_gt (pc := 47) (tgt := 114) G dX2_chooseAlert_47 rfl (fun c47 => ?_) (fun c47 => ?_)
            · refine ax_iincN (pc := 114) (n := 1) G dX2_chooseAlert_114 rfl rfl ic_1 ?_
              refine ax_goto (pc := 117) (tgt := 4) G dX2_chooseAlert_117 rfl ?_
              have eX : cFA pl s O (i + 1) = some (o) := by first | (simp only [cFA, cFAS, e, c14, c36b, c47, Int32.not_le.mpr c47, if_true, if_false, Bool.false_eq_true, not_false_eq_true, not_true_eq_false, decide_true, decide_false, Bool.and_true, Bool.true_and, Bool.and_false, Bool.false_and, Bool.or_true, Bool.true_or, Bool.or_false, Bool.false_or, and_self, and_true, true_and, and_false, false_and, or_true, true_or, or_false, false_or, ne_eq]; done) | (simp only [cFA, cFAS, e, c14, c36b, c47, Int32.not_le.mpr c47, if_true, if_false, Bool.false_eq_true, not_false_eq_true, not_true_eq_false, decide_true, decide_false, Bool.and_true, Bool.true_and, Bool.and_false, Bool.false_and, Bool.or_true, Bool.true_or, Bool.or_false, Bool.false_or, and_self, and_true, true_and, and_false, false_and, or_true, true_or, or_false, false_or, ne_eq]; rfl)
              have q := ih (i + 1) (π) (some (.ref (D.2.1 3 i))) (by omega) (by rw [eX]; intro o9 e9; cases e9; exact hv _ e)
              rw [eX] at q
              exact q
            · refine ax_aload_n (pc := 50) G dX2_chooseAlert_50 rfl rfl ?_
              refine ax_aload_n (pc := 51) G dX2_chooseAlert_51 rfl rfl ?_
              refine sr_get (pc := 52) (v := .ref (a + 16)) G flX2_70_1 dX2_chooseAlert_52 rfl ?_
              refine ax_aload_n (pc := 55) G dX2_chooseAlert_55 rfl rfl ?_
              refine ax_iload_n (pc := 56) G dX2_chooseAlert_56 rfl rfl ?_
              refine ax_iconst (pc := 57) (v := nI 0) G dX2_chooseAlert_57 ic_0 ?_
              refine ax_cV1 (pc := 58) (kb := 0) (nb := 0) G (ct_plan hA (π := π) ha hp hs hE (w := D.2.1 3 i) (k := 20 + i) (by omega) (fun σ => (hE σ).2.wk (pl := pl) (k := i) (by omega)) (nI i) (nI 0)) lVX2_180_1 dX2_chooseAlert_58 sH_obj rfl (by decide) (Nat.le_of_ble_eq_true rfl) rfl ?_
              show ax_W Ω Γ _ _ (sH h a (s, cU π 0 (cPl pl s (20 + i) O (D.2.1 3 i) (nI i) (decide ((nI 0) = 0)) (pLeft s (pQ pl s (20 + i)))), (.ref (D.1 0)), (D.1 8))) _ _ _
              rw [show decide ((nI 0 : Int32) = 0) = true from by decide]
              show ax_W Ω Γ _ _ (sH h a (s, cU π 0 (cPA pl s O D i), (.ref (D.1 0)), (D.1 8))) _ _ _
              refine ax_cV1 (pc := 61) (kb := 0) (nb := 0) G (ct_can hA (P := (cPA pl s O D i)) (sH_pe (k := 16) (by decide) (by decide) (show (cU π 0 (cPA pl s O D i)) 0 = (cPA pl s O D i) from cU_e))) lVX2_189_6 dX2_chooseAlert_61 (sH_pl (k := 16) (by decide) (by decide)) rfl (by decide) (Nat.le_of_ble_eq_true rfl) rfl ?_
              rw [show (cPA pl s O D i).2 8 = cRs pl s O (20 + i) from cPA_8]
              refine ax_if_ne (pc := 64) (tgt := 70) G dX2_chooseAlert_64 rfl (fun c64 => ?_) (fun c64 => ?_)
              · have c64b := bI_t c64
                refine ax_iload_n (pc := 70) G dX2_chooseAlert_70 rfl rfl ?_
                refine ax_iconst (pc := 71) (v := (-1)) G dX2_chooseAlert_71 (by decide) ?_
                refine ax_icmp_eq (pc := 72) (tgt := 101) G dX2_chooseAlert_72 rfl (fun c9 => absurd c9 (nI_nm (by omega))) (fun _ => ?_)
                refine ax_aload_n (pc := 75) G dX2_chooseAlert_75 rfl rfl ?_
                refine ax_cV1 (pc := 76) (kb := 0) (nb := 0) G (ct_to_14 hA (alO (pl := pl) ((hE (s, cU π 0 (cPA pl s O D i), (.ref (D.1 0)), (D.1 8))).2) (k := i) (by omega))) lVX2_200_14 dX2_chooseAlert_76 (alO (pl := pl) ((hE (s, cU π 0 (cPA pl s O D i), (.ref (D.1 0)), (D.1 8))).2) (k := i) (by omega)) rfl (by decide) (Nat.le_of_ble_eq_true rfl) rfl ?_
                rw [pTo_al (pl := pl)]
                refine ax_aload_n (pc := 79) G dX2_chooseAlert_79 rfl rfl ?_
                refine sr_get (pc := 80) (v := .ref (a + 2)) G flX2_26_1 dX2_chooseAlert_80 rfl ?_
                refine ax_iload_n (pc := 83) G dX2_chooseAlert_83 rfl rfl ?_
                refine ax_cJ1 (pc := 84) (kb := 0) (nb := 0) G (ct_lget hA ((hE (s, cU π 0 (cPA pl s O D i), (.ref (D.1 0)), (D.1 8))).2.1).1 ((hE (s, cU π 0 (cPA pl s O D i), (.ref (D.1 0)), (D.1 8))).2.1).2.1 (q := D.2.1 3 o) o (by omega) ((hE (s, cU π 0 (cPA pl s O D i), (.ref (D.1 0)), (D.1 8))).2.1).2.2.1 ((hE (s, cU π 0 (cPA pl s O D i), (.ref (D.1 0)), (D.1 8))).2.1).2.2.2.1 (((hE (s, cU π 0 (cPA pl s O D i), (.ref (D.1 0)), (D.1 8))).2.1).2.2.2.2 o (by omega))) lJX2_95_16 dX2_chooseAlert_84 (((hE (s, cU π 0 (cPA pl s O D i), (.ref (D.1 0)), (D.1 8))).2.1).1) rfl (by decide) (Nat.le_of_ble_eq_true rfl) rfl ?_
                refine ax_checkcast (pc := 89) G q1961 ⟨_, rfl, Or.inl rfl⟩ dX2_chooseAlert_89 (alO (pl := pl) ((hE (s, cU π 0 (cPA pl s O D i), (.ref (D.1 0)), (D.1 8))).2) (k := o) (by omega)) ?_
                refine ax_cV1 (pc := 92) (kb := 0) (nb := 0) G (ct_to_14 hA (alO (pl := pl) ((hE (s, cU π 0 (cPA pl s O D i), (.ref (D.1 0)), (D.1 8))).2) (k := o) (by omega))) lVX2_200_14 dX2_chooseAlert_92 (alO (pl := pl) ((hE (s, cU π 0 (cPA pl s O D i), (.ref (D.1 0)), (D.1 8))).2) (k := o) (by omega)) rfl (by decide) (Nat.le_of_ble_eq_true rfl) rfl ?_
                rw [pTo_al (pl := pl)]
                refine ax_icmp_lt (pc := 95) (tgt := 101) G dX2_chooseAlert_95 rfl (fun c95 => ?_) (fun c95 => ?_)
                · refine ax_aload_n (pc := 101) G dX2_chooseAlert_101 rfl rfl ?_
                  refine sr_get (pc := 102) (v := .ref (a + 17)) G flX2_74_1 dX2_chooseAlert_102 rfl ?_
                  refine ax_aload_n (pc := 105) G dX2_chooseAlert_105 rfl rfl ?_
                  refine sr_get (pc := 106) (v := .ref (a + 16)) G flX2_70_1 dX2_chooseAlert_106 rfl ?_
                  refine ax_cV0 (pc := 109) (kb := 0) (nb := 0) G (ct_becomeS hA (σ := (s, cU π 0 (cPA pl s O D i), (.ref (D.1 0)), (D.1 8))) (w := D.2.1 3 i) (n := (cPA pl s O D i).2) ha (show (cU π 0 (cPA pl s O D i)) 0 = (.ref (D.2.1 3 i), (cPA pl s O D i).2) from cU_e)) lVX2_197_6 dX2_chooseAlert_109 (sH_pl (k := 17) (by decide) (by decide)) rfl (by decide) (Nat.le_of_ble_eq_true rfl) rfl ?_
                  show ax_W Ω Γ _ _ (sH h a (s, cU (cU π 0 (cPA pl s O D i)) 1 (cPA pl s O D i), (.ref (D.1 0)), (D.1 8))) _ _ _
                  refine ax_iload_n (pc := 112) G dX2_chooseAlert_112 rfl rfl ?_
                  refine ax_istore_n (pc := 113) G dX2_chooseAlert_113 rfl (Nat.le_of_ble_eq_true rfl) rfl ?_
                  refine ax_iincN (pc := 114) (n := 1) G dX2_chooseAlert_114 rfl rfl ic_1 ?_
                  refine ax_goto (pc := 117) (tgt := 4) G dX2_chooseAlert_117 rfl ?_
                  have eX : cFA pl s O (i + 1) = some (i) := by first | (simp only [cFA, cFAS, e, c14, c36b, c47, Int32.not_lt.mp c47, c64b, (of_decide_eq_true c64b), c95, Int32.not_le.mpr c95, if_true, if_false, Bool.false_eq_true, not_false_eq_true, not_true_eq_false, decide_true, decide_false, Bool.and_true, Bool.true_and, Bool.and_false, Bool.false_and, Bool.or_true, Bool.true_or, Bool.or_false, Bool.false_or, and_self, and_true, true_and, and_false, false_and, or_true, true_or, or_false, false_or, ne_eq]; done) | (simp only [cFA, cFAS, e, c14, c36b, c47, Int32.not_lt.mp c47, c64b, (of_decide_eq_true c64b), c95, Int32.not_le.mpr c95, if_true, if_false, Bool.false_eq_true, not_false_eq_true, not_true_eq_false, decide_true, decide_false, Bool.and_true, Bool.true_and, Bool.and_false, Bool.false_and, Bool.or_true, Bool.true_or, Bool.or_false, Bool.false_or, and_self, and_true, true_and, and_false, false_and, or_true, true_or, or_false, false_or, ne_eq]; rfl) | (simp only [cFA, cFAS, e, c14, c36b, c47, Int32.not_lt.mp c47, c64b, if_pos (of_decide_eq_true c64b), decide_eq_true (of_decide_eq_true c64b), c95, Int32.not_le.mpr c95, if_true, if_false, Bool.false_eq_true, not_false_eq_true, not_true_eq_false, decide_true, decide_false, Bool.and_true, Bool.true_and, Bool.and_false, Bool.false_and, Bool.or_true, Bool.true_or, Bool.or_false, Bool.false_or, and_self, and_true, true_and, and_false, false_and, or_true, true_or, or_false, false_or, ne_eq]; done) | (simp only [cFA, cFAS, e, c14, c36b, c47, Int32.not_lt.mp c47, c64b, if_pos (of_decide_eq_true c64b), decide_eq_true (of_decide_eq_true c64b), c95, Int32.not_le.mpr c95, if_true, if_false, Bool.false_eq_true, not_false_eq_true, not_true_eq_false, decide_true, decide_false, Bool.and_true, Bool.true_and, Bool.and_false, Bool.false_and, Bool.or_true, Bool.true_or, Bool.or_false, Bool.false_or, and_self, and_true, true_and, and_false, false_and, or_true, true_or, or_false, false_or, ne_eq]; rfl)
                  have q := ih (i + 1) (cU (cU π 0 (cPA pl s O D i)) 1 (cPA pl s O D i)) (some (.ref (D.2.1 3 i))) (by omega) (by rw [eX]; intro o9 e9; cases e9; exact cU_e)
                  rw [eX] at q
                  exact q
                · refine ax_goto (pc := 98) (tgt := 114) G dX2_chooseAlert_98 rfl ?_
                  refine ax_iincN (pc := 114) (n := 1) G dX2_chooseAlert_114 rfl rfl ic_1 ?_
                  refine ax_goto (pc := 117) (tgt := 4) G dX2_chooseAlert_117 rfl ?_
                  have eX : cFA pl s O (i + 1) = some (o) := by first | (simp only [cFA, cFAS, e, c14, c36b, c47, Int32.not_lt.mp c47, c64b, (of_decide_eq_true c64b), c95, Int32.not_lt.mp c95, if_true, if_false, Bool.false_eq_true, not_false_eq_true, not_true_eq_false, decide_true, decide_false, Bool.and_true, Bool.true_and, Bool.and_false, Bool.false_and, Bool.or_true, Bool.true_or, Bool.or_false, Bool.false_or, and_self, and_true, true_and, and_false, false_and, or_true, true_or, or_false, false_or, ne_eq]; done) | (simp only [cFA, cFAS, e, c14, c36b, c47, Int32.not_lt.mp c47, c64b, (of_decide_eq_true c64b), c95, Int32.not_lt.mp c95, if_true, if_false, Bool.false_eq_true, not_false_eq_true, not_true_eq_false, decide_true, decide_false, Bool.and_true, Bool.true_and, Bool.and_false, Bool.false_and, Bool.or_true, Bool.true_or, Bool.or_false, Bool.false_or, and_self, and_true, true_and, and_false, false_and, or_true, true_or, or_false, false_or, ne_eq]; rfl) | (simp only [cFA, cFAS, e, c14, c36b, c47, Int32.not_lt.mp c47, c64b, if_pos (of_decide_eq_true c64b), decide_eq_true (of_decide_eq_true c64b), c95, Int32.not_lt.mp c95, if_true, if_false, Bool.false_eq_true, not_false_eq_true, not_true_eq_false, decide_true, decide_false, Bool.and_true, Bool.true_and, Bool.and_false, Bool.false_and, Bool.or_true, Bool.true_or, Bool.or_false, Bool.false_or, and_self, and_true, true_and, and_false, false_and, or_true, true_or, or_false, false_or, ne_eq]; done) | (simp only [cFA, cFAS, e, c14, c36b, c47, Int32.not_lt.mp c47, c64b, if_pos (of_decide_eq_true c64b), decide_eq_true (of_decide_eq_true c64b), c95, Int32.not_lt.mp c95, if_true, if_false, Bool.false_eq_true, not_false_eq_true, not_true_eq_false, decide_true, decide_false, Bool.and_true, Bool.true_and, Bool.and_false, Bool.false_and, Bool.or_true, Bool.true_or, Bool.or_false, Bool.false_or, and_self, and_true, true_and, and_false, false_and, or_true, true_or, or_false, false_or, ne_eq]; rfl)
                  have q := ih (i + 1) (cU π 0 (cPA pl s O D i)) (some (.ref (D.2.1 3 i))) (by omega) (by rw [eX]; intro o9 e9; cases e9; exact (cU_n (by decide)).trans (hv _ e))
                  rw [eX] at q
                  exact q
              · have c64b := bI_f c64
                refine ax_goto (pc := 67) (tgt := 114) G dX2_chooseAlert_67 rfl ?_
                refine ax_iincN (pc := 114) (n := 1) G dX2_chooseAlert_114 rfl rfl ic_1 ?_
                refine ax_goto (pc := 117) (tgt := 4) G dX2_chooseAlert_117 rfl ?_
                have eX : cFA pl s O (i + 1) = some (o) := by first | (simp only [cFA, cFAS, e, c14, c36b, c47, Int32.not_lt.mp c47, c64b, (of_decide_eq_false c64b), if_true, if_false, Bool.false_eq_true, not_false_eq_true, not_true_eq_false, decide_true, decide_false, Bool.and_true, Bool.true_and, Bool.and_false, Bool.false_and, Bool.or_true, Bool.true_or, Bool.or_false, Bool.false_or, and_self, and_true, true_and, and_false, false_and, or_true, true_or, or_false, false_or, ne_eq]; done) | (simp only [cFA, cFAS, e, c14, c36b, c47, Int32.not_lt.mp c47, c64b, (of_decide_eq_false c64b), if_true, if_false, Bool.false_eq_true, not_false_eq_true, not_true_eq_false, decide_true, decide_false, Bool.and_true, Bool.true_and, Bool.and_false, Bool.false_and, Bool.or_true, Bool.true_or, Bool.or_false, Bool.false_or, and_self, and_true, true_and, and_false, false_and, or_true, true_or, or_false, false_or, ne_eq]; rfl)
                have q := ih (i + 1) (cU π 0 (cPA pl s O D i)) (some (.ref (D.2.1 3 i))) (by omega) (by rw [eX]; intro o9 e9; cases e9; exact (cU_n (by decide)).trans (hv _ e))
                rw [eX] at q
                exact q
  show ax_W Ω Γ 0 0 (sH h a (s, π, (.ref (D.1 0)), (D.1 8))) 0 [some (.ref a), none, none, none] []
  refine ax_iconst (pc := 0) (v := (-1)) G dX2_chooseAlert_0 (by decide) ?_
  refine ax_istore_n (pc := 1) G dX2_chooseAlert_1 rfl (Nat.le_of_ble_eq_true rfl) rfl ?_
  refine ax_iconst (pc := 2) (v := nI 0) G dX2_chooseAlert_2 ic_0 ?_
  refine ax_istore_n (pc := 3) G dX2_chooseAlert_3 rfl (Nat.le_of_ble_eq_true rfl) rfl ?_
  exact L0 A 0 π none (by omega) (by intro o9 e9; cases e9)

