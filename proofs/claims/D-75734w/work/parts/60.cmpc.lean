/-! THE COMPONENT: a state lays plans -/
theorem alO {g : ax_H} {L A k : Nat} {pl s : pR} {D : cD} (h : cAl g L s A D) (hk : k < A) : g.1 (D.2.1 3 k) = some (.inr (14, [.int (pProp pl s (20 + k)), .int (pLon pl s (20 + k)), .int (pLat pl s (20 + k)), .int (pDur pl s (20 + k)), .int (pOf pl s (20 + k) 5 5), .int (pFrom pl s (20 + k)), .int (s (127 + 10 * k + 6))])) := by
  have h20 : ¬ 20 + k < 20 := by omega
  simp only [pProp, pLon, pLat, pDur, pFrom, pOf, if_neg h20, Nat.add_sub_cancel_left]
  exact h.2 k hk
theorem pTo_al {pl s : pR} {k : Nat} : pFrom pl s (20 + k) + s (127 + 10 * k + 6) = pTo pl s (20 + k) := by
  have h20 : ¬ 20 + k < 20 := by omega
  simp only [pTo, if_neg h20, Nat.add_sub_cancel_left]
theorem pQv {pl s : pR} {N V O A : Nat} (hp : pWP pl N V O) (hs : pWS s A) (k : Nat) (hk : k < 20) : pl (66 + 8 * k + 0) = nI (pQ pl s k) := by
  rw [← pQ_e hp hs (by omega)]
  simp only [pProp, pOf, if_pos hk]
theorem ct_plan {Ω : ax_O} (hA : ax_Amb Ω) {h : ax_H} {a : Nat} {pl s : pR} {π : Nat → cP} {N V O A : Nat} {D : cD} (ha : Ω.2.1.heap.size ≤ a) (hp : pWP pl N V O) (hs : pWS s A) (hE : cEn h a pl s N V O A D) {w k : Nat} (hk : k < 30) (hW : ∀ σ, cWk (sH h a σ) w pl s k) (num st : Int32) : ax_Met Ω yX2_plan 8 0 0 [.ref a, .ref (a + 16), .ref w, .int num, .int st] (sH h a (s, π, (.ref (D.1 0)), (D.1 8))) (.inl (some (.ref (a + 16)))) (sH h a (s, cU π 0 (cPl pl s k O w num (decide (st = 0)) (pLeft s (pQ pl s k))), .ref (D.1 0), D.1 8)) := by
  refine ax_met q1728 q114 (by decide +kernel) (by decide) hA (Nat.le_of_ble_eq_true rfl) (fun Γ G E => ?_)
  have hV9 := hp.lV
  have hA9 := hs.lA
  have hO9 := hp.lO
  show ax_W Ω Γ 0 0 (sH h a (s, π, (.ref (D.1 0)), (D.1 8))) 0 [some (.ref a), some (.ref (a + 16)), some (.ref w), some (.int num), some (.int st)] []
  refine ax_aload_n (pc := 0) G dX2_plan_0 rfl rfl ?_
  refine ax_aload_n (pc := 1) G dX2_plan_1 rfl rfl ?_
  refine sr_get (pc := 2) (v := .ref (D.1 0)) G flX2_80_1 dX2_plan_2 rfl ?_
  refine ax_aload_n (pc := 5) G dX2_plan_5 rfl rfl ?_
  refine ax_iload_n (pc := 6) G dX2_plan_6 rfl rfl ?_
  refine ax_iload (pc := 7) G dX2_plan_7 rfl ?_
  have J17 : ax_W Ω Γ 0 0 (sH h a (s, π, (.ref (D.1 0)), (D.1 8))) 17 [some (.ref a), some (.ref (a + 16)), some (.ref w), some (.int num), some (.int st)] [.int (bI (decide (st = 0))), .int num, .ref w, .ref (D.1 0), .ref (a + 16)] := by
    refine ax_aload_n (pc := 17) G dX2_plan_17 rfl rfl ?_
    refine sr_get (pc := 18) (v := .int (s 0)) G flX2_130_1 dX2_plan_18 rfl ?_
    refine ax_aload_n (pc := 21) G dX2_plan_21 rfl rfl ?_
    refine sr_get (pc := 22) (v := .int (s 3)) G flX2_139_1 dX2_plan_22 rfl ?_
    refine ax_aload_n (pc := 25) G dX2_plan_25 rfl rfl ?_
    refine sr_get (pc := 26) (v := .int (s 1)) G flX2_133_1 dX2_plan_26 rfl ?_
    refine ax_aload_n (pc := 29) G dX2_plan_29 rfl rfl ?_
    refine sr_get (pc := 30) (v := .int (s 2)) G flX2_136_1 dX2_plan_30 rfl ?_
    refine ax_aload_n (pc := 33) G dX2_plan_33 rfl rfl ?_
    refine ax_aload_n (pc := 34) G dX2_plan_34 rfl rfl ?_
    refine wk_proposal (pc := 35) G (hW _) lJX2_167_13 lJX2_167_14 dX2_plan_35 (by decide) (Nat.le_of_ble_eq_true rfl) ?_
    have := pQ_l hp hs (k := k) (by omega)
    refine ax_top (show Value.int (pProp pl s k) = .int (nI (pQ pl s k)) from congrArg Value.int (pQ_e hp hs (by omega))) ?_
    refine ax_cV1 (pc := 40) (kb := 0) (nb := 0) G (ct_left hA (a := a) (pQ pl s k) (by omega)) lVX2_172_1 dX2_plan_40 sH_obj rfl (by decide) (Nat.le_of_ble_eq_true rfl) rfl ?_
    refine ax_cV1 (pc := 43) (kb := 0) (nb := 0) G (ct_layS hA (w := w) (k := k) (r := s) (σ := (s, π, (.ref (D.1 0)), (D.1 8))) (i := 0) (by decide) hp hE (fun σ => hW σ) ha num (decide (st = 0)) (pLeft s (pQ pl s k))) lVX2_176_6 dX2_plan_43 (sH_pl (k := 16) (by decide) (by decide)) rfl (by decide) (Nat.le_of_ble_eq_true rfl) rfl ?_
    show ax_W Ω Γ _ _ (sH h a (s, cU π 0 (cPl pl s k O w num (decide (st = 0)) (pLeft s (pQ pl s k))), (.ref (D.1 0)), (D.1 8))) _ _ _
    exact ax_aretE (pc := 46) G E rfl (Or.inl ⟨_, rfl⟩) (Or.inr ⟨_, rfl⟩) dX2_plan_46 (rfl) (rfl)
  refine ax_if_ne (pc := 9) (tgt := 16) G dX2_plan_9 rfl (fun c9 => ?_) (fun c9 => ?_)
  · refine ax_iconst (pc := 16) (v := nI 0) G dX2_plan_16 ic_0 ?_
    refine ax_top (show (.int (nI 0) : Value) = .int (bI (decide (st = 0))) from congrArg Value.int (by first | (simp only [bI, c9, if_true, if_false, Bool.false_eq_true, not_false_eq_true, not_true_eq_false, decide_true, decide_false, Bool.and_true, Bool.true_and, Bool.and_false, Bool.false_and, Bool.or_true, Bool.true_or, Bool.or_false, Bool.false_or, and_self, and_true, true_and, and_false, false_and, or_true, true_or, or_false, false_or, ne_eq]; done) | (simp only [bI, c9, if_true, if_false, Bool.false_eq_true, not_false_eq_true, not_true_eq_false, decide_true, decide_false, Bool.and_true, Bool.true_and, Bool.and_false, Bool.false_and, Bool.or_true, Bool.true_or, Bool.or_false, Bool.false_or, and_self, and_true, true_and, and_false, false_and, or_true, true_or, or_false, false_or, ne_eq]; rfl))) ?_
    exact J17
  · refine ax_iconst (pc := 12) (v := nI 1) G dX2_plan_12 ic_1 ?_
    refine ax_goto (pc := 13) (tgt := 17) G dX2_plan_13 rfl ?_
    refine ax_top (show (.int (nI 1) : Value) = .int (bI (decide (st = 0))) from congrArg Value.int (by first | (simp only [bI, c9, if_true, if_false, Bool.false_eq_true, not_false_eq_true, not_true_eq_false, decide_true, decide_false, Bool.and_true, Bool.true_and, Bool.and_false, Bool.false_and, Bool.or_true, Bool.true_or, Bool.or_false, Bool.false_or, and_self, and_true, true_and, and_false, false_and, or_true, true_or, or_false, false_or, ne_eq]; done) | (simp only [bI, c9, if_true, if_false, Bool.false_eq_true, not_false_eq_true, not_true_eq_false, decide_true, decide_false, Bool.and_true, Bool.true_and, Bool.and_false, Bool.false_and, Bool.or_true, Bool.true_or, Bool.or_false, Bool.false_or, and_self, and_true, true_and, and_false, false_and, or_true, true_or, or_false, false_or, ne_eq]; rfl) | (simp only [bI, if_pos c9, decide_eq_true c9, if_true, if_false, Bool.false_eq_true, not_false_eq_true, not_true_eq_false, decide_true, decide_false, Bool.and_true, Bool.true_and, Bool.and_false, Bool.false_and, Bool.or_true, Bool.true_or, Bool.or_false, Bool.false_or, and_self, and_true, true_and, and_false, false_and, or_true, true_or, or_false, false_or, ne_eq]; done) | (simp only [bI, if_pos c9, decide_eq_true c9, if_true, if_false, Bool.false_eq_true, not_false_eq_true, not_true_eq_false, decide_true, decide_false, Bool.and_true, Bool.true_and, Bool.and_false, Bool.false_and, Bool.or_true, Bool.true_or, Bool.or_false, Bool.false_or, and_self, and_true, true_and, and_false, false_and, or_true, true_or, or_false, false_or, ne_eq]; rfl))) ?_
    exact J17

theorem ct_planVisit {Ω : ax_O} (hA : ax_Amb Ω) {h : ax_H} {a : Nat} {pl s : pR} {π : Nat → cP} {N V O A : Nat} {D : cD} (ha : Ω.2.1.heap.size ≤ a) (hp : pWP pl N V O) (hs : pWS s A) (hE : cEn h a pl s N V O A D) (v : Nat) (hv : v < V) : ax_Met Ω yX2_planVisit 9 0 0 [.ref a, .int (nI v)] (sH h a (s, π, (.ref (D.1 0)), (D.1 8))) (.inl (some (.ref (a + 16)))) (sH h a (s, cU π 0 (cPV pl s O D v), .ref (D.1 0), D.1 8)) := by
  refine ax_met q1723 q114 (by decide +kernel) (by decide) hA (Nat.le_of_ble_eq_true rfl) (fun Γ G E => ?_)
  have hV9 := hp.lV
  have hA9 := hs.lA
  have hO9 := hp.lO
  show ax_W Ω Γ 0 0 (sH h a (s, π, (.ref (D.1 0)), (D.1 8))) 0 [some (.ref a), some (.int (nI v))] []
  refine ax_aload_n (pc := 0) G dX2_planVisit_0 rfl rfl ?_
  refine ax_aload_n (pc := 1) G dX2_planVisit_1 rfl rfl ?_
  refine sr_get (pc := 2) (v := .ref (a + 16)) G flX2_70_1 dX2_planVisit_2 rfl ?_
  refine ax_aload_n (pc := 5) G dX2_planVisit_5 rfl rfl ?_
  refine sr_get (pc := 6) (v := .ref (D.1 0)) G flX2_80_1 dX2_planVisit_6 rfl ?_
  refine ax_getf (pc := 9) (v := .ref (D.1 2)) G flX2_104_10 dX2_planVisit_9 (((hE (s, π, (.ref (D.1 0)), (D.1 8))).1).1) rfl ?_
  refine ax_iload_n (pc := 12) G dX2_planVisit_12 rfl rfl ?_
  refine ax_cJ1 (pc := 13) (kb := 0) (nb := 0) G (ct_lget hA ((hE (s, π, (.ref (D.1 0)), (D.1 8))).1.2.2.1).1 ((hE (s, π, (.ref (D.1 0)), (D.1 8))).1.2.2.1).2.1 (q := D.2.1 1 v) v (by omega) ((hE (s, π, (.ref (D.1 0)), (D.1 8))).1.2.2.1).2.2.1 ((hE (s, π, (.ref (D.1 0)), (D.1 8))).1.2.2.1).2.2.2.1 (((hE (s, π, (.ref (D.1 0)), (D.1 8))).1.2.2.1).2.2.2.2 v (by omega))) lJX2_95_16 dX2_planVisit_13 (((hE (s, π, (.ref (D.1 0)), (D.1 8))).1.2.2.1).1) rfl (by decide) (Nat.le_of_ble_eq_true rfl) rfl ?_
  refine ax_checkcast (pc := 18) G q1724 ⟨_, rfl, Or.inr q1476⟩ dX2_planVisit_18 (((hE (s, π, (.ref (D.1 0)), (D.1 8))).1.2.2.2.2.1 v (by omega)).choose_spec) ?_
  refine ax_iload_n (pc := 21) G dX2_planVisit_21 rfl rfl ?_
  refine ax_aload_n (pc := 22) G dX2_planVisit_22 rfl rfl ?_
  refine sr_get (pc := 23) (v := .ref (a + 8)) G flX2_43_1 dX2_planVisit_23 rfl ?_
  refine ax_iload_n (pc := 26) G dX2_planVisit_26 rfl rfl ?_
  refine sr_ld (pc := 27) (k := 8) (j := v) (r := 47 + v) G dX2_planVisit_27 (by decide) (by decide) rfl rfl (show v < 20 by omega) ?_
  show ax_W Ω Γ _ _ _ _ _ (.int (s (47 + v)) :: _)
  refine ax_cV1 (pc := 28) (kb := 0) (nb := 0) G (ct_plan hA (π := π) ha hp hs hE (w := D.2.1 1 v) (k := v) (by omega) (fun σ => (hE σ).1.wk (r := s) (k := v) (by omega) (by omega)) (nI v) (s (47 + v))) lVX2_180_1 dX2_planVisit_28 sH_obj rfl (by decide) (Nat.le_of_ble_eq_true rfl) rfl ?_
  show ax_W Ω Γ _ _ (sH h a (s, cU π 0 (cPl pl s v O (D.2.1 1 v) (nI v) (decide ((s (47 + v)) = 0)) (pLeft s (pQ pl s v))), (.ref (D.1 0)), (D.1 8))) _ _ _
  exact ax_aretE (pc := 31) G E rfl (Or.inl ⟨_, rfl⟩) (Or.inr ⟨_, rfl⟩) dX2_planVisit_31 (rfl) (rfl)

theorem pLeft_u0 {s : pR} {b : Int32} {p : Nat} : pLeft (upd s 0 b) p = pLeft s p := by
  unfold pLeft
  rw [pu_ne (by omega), pu_ne (by omega), pu_ne (by omega)]
theorem ct_planAt {Ω : ax_O} (hA : ax_Amb Ω) {h : ax_H} {a : Nat} {pl s : pR} {π : Nat → cP} {N V O A : Nat} {D : cD} (ha : Ω.2.1.heap.size ≤ a) (hp : pWP pl N V O) (hs : pWS s A) (hE : cEn h a pl s N V O A D) (v : Nat) (hv : v < V) (b : Int32) : ax_Met Ω yX2_planAt 9 0 0 [.ref a, .int (nI v), .int b] (sH h a (s, π, (.ref (D.1 0)), (D.1 8))) (.inl (some (.ref (a + 16)))) (sH h a (s, cU π 0 (cPl pl (upd s 0 b) v O (D.2.1 1 v) (nI v) (decide (s (47 + v) = 0)) (pLeft s (pQ pl s v))), .ref (D.1 0), D.1 8)) := by
  refine ax_met q2016 q114 (by decide +kernel) (by decide) hA (Nat.le_of_ble_eq_true rfl) (fun Γ G E => ?_)
  have hV9 := hp.lV
  have hA9 := hs.lA
  have hO9 := hp.lO
  show ax_W Ω Γ 0 0 (sH h a (s, π, (.ref (D.1 0)), (D.1 8))) 0 [some (.ref a), some (.int (nI v)), some (.int b), none] []
  refine ax_aload_n (pc := 0) G dX2_planAt_0 rfl rfl ?_
  refine sr_get (pc := 1) (v := .ref (D.1 0)) G flX2_80_1 dX2_planAt_1 rfl ?_
  refine ax_getf (pc := 4) (v := .ref (D.1 2)) G flX2_104_10 dX2_planAt_4 (((hE (s, π, (.ref (D.1 0)), (D.1 8))).1).1) rfl ?_
  refine ax_iload_n (pc := 7) G dX2_planAt_7 rfl rfl ?_
  refine ax_cJ1 (pc := 8) (kb := 0) (nb := 0) G (ct_lget hA ((hE (s, π, (.ref (D.1 0)), (D.1 8))).1.2.2.1).1 ((hE (s, π, (.ref (D.1 0)), (D.1 8))).1.2.2.1).2.1 (q := D.2.1 1 v) v (by omega) ((hE (s, π, (.ref (D.1 0)), (D.1 8))).1.2.2.1).2.2.1 ((hE (s, π, (.ref (D.1 0)), (D.1 8))).1.2.2.1).2.2.2.1 (((hE (s, π, (.ref (D.1 0)), (D.1 8))).1.2.2.1).2.2.2.2 v (by omega))) lJX2_95_16 dX2_planAt_8 (((hE (s, π, (.ref (D.1 0)), (D.1 8))).1.2.2.1).1) rfl (by decide) (Nat.le_of_ble_eq_true rfl) rfl ?_
  refine ax_checkcast (pc := 13) G q1401 ⟨_, rfl, Or.inl rfl⟩ dX2_planAt_13 (((hE (s, π, (.ref (D.1 0)), (D.1 8))).1.2.2.2.2.1 v (by omega)).choose_spec) ?_
  refine ax_astore_n (pc := 16) G dX2_planAt_16 rfl (Nat.le_of_ble_eq_true rfl) rfl ?_
  refine ax_aload_n (pc := 17) G dX2_planAt_17 rfl rfl ?_
  refine sr_get (pc := 18) (v := .ref (a + 16)) G flX2_70_1 dX2_planAt_18 rfl ?_
  refine ax_aload_n (pc := 21) G dX2_planAt_21 rfl rfl ?_
  refine sr_get (pc := 22) (v := .ref (D.1 0)) G flX2_80_1 dX2_planAt_22 rfl ?_
  refine ax_aload_n (pc := 25) G dX2_planAt_25 rfl rfl ?_
  refine ax_iload_n (pc := 26) G dX2_planAt_26 rfl rfl ?_
  refine ax_aload_n (pc := 27) G dX2_planAt_27 rfl rfl ?_
  refine sr_get (pc := 28) (v := .ref (a + 8)) G flX2_43_1 dX2_planAt_28 rfl ?_
  refine ax_iload_n (pc := 31) G dX2_planAt_31 rfl rfl ?_
  refine sr_ld (pc := 32) (k := 8) (j := v) (r := 47 + v) G dX2_planAt_32 (by decide) (by decide) rfl rfl (show v < 20 by omega) ?_
  show ax_W Ω Γ _ _ _ _ _ (.int (s (47 + v)) :: _)
  have J41 : ax_W Ω Γ 0 0 (sH h a (s, π, (.ref (D.1 0)), (D.1 8))) 41 [some (.ref a), some (.int (nI v)), some (.int b), some (.ref (D.2.1 1 v))] [.int (bI (decide (s (47 + v) = 0))), .int (nI v), .ref (D.2.1 1 v), .ref (D.1 0), .ref (a + 16)] := by
    refine ax_iload_n (pc := 41) G dX2_planAt_41 rfl rfl ?_
    refine ax_aload_n (pc := 42) G dX2_planAt_42 rfl rfl ?_
    refine sr_get (pc := 43) (v := .int (s 3)) G flX2_139_1 dX2_planAt_43 rfl ?_
    refine ax_aload_n (pc := 46) G dX2_planAt_46 rfl rfl ?_
    refine sr_get (pc := 47) (v := .int (s 1)) G flX2_133_1 dX2_planAt_47 rfl ?_
    refine ax_aload_n (pc := 50) G dX2_planAt_50 rfl rfl ?_
    refine sr_get (pc := 51) (v := .int (s 2)) G flX2_136_1 dX2_planAt_51 rfl ?_
    refine ax_aload_n (pc := 54) G dX2_planAt_54 rfl rfl ?_
    refine ax_aload_n (pc := 55) G dX2_planAt_55 rfl rfl ?_
    refine ax_cVU1 (pc := 56) (kb := 0) (nb := 0) G (ct_proposal_13 hA (((hE (s, π, (.ref (D.1 0)), (D.1 8))).1.2.2.2.2.1 v (by omega)).choose_spec)) lVUX2_184_13 dX2_planAt_56 (((hE (s, π, (.ref (D.1 0)), (D.1 8))).1.2.2.2.2.1 v (by omega)).choose_spec) rfl (by decide) (Nat.le_of_ble_eq_true rfl) rfl ?_
    have := pQ_l hp hs (k := v) (by omega)
    refine ax_top (show Value.int (pl (66 + 8 * v + 0)) = .int (nI (pQ pl s v)) from congrArg Value.int (pQv hp hs v (by omega))) ?_
    refine ax_cV1 (pc := 59) (kb := 0) (nb := 0) G (ct_left hA (a := a) (pQ pl s v) (by omega)) lVX2_172_1 dX2_planAt_59 sH_obj rfl (by decide) (Nat.le_of_ble_eq_true rfl) rfl ?_
    refine ax_cV1 (pc := 62) (kb := 0) (nb := 0) G (ct_layS hA (w := D.2.1 1 v) (k := v) (r := upd s 0 b) (σ := (s, π, (.ref (D.1 0)), (D.1 8))) (i := 0) (by decide) hp hE (fun σ => ((hE σ).1.wk (r := s) (k := v) (by omega) (by omega)).im ((pIm.refl s).up (fun _ _ _ _ => by omega)) (by omega)) ha (nI v) (decide (s (47 + v) = 0)) (pLeft s (pQ pl s v))) lVX2_176_6 dX2_planAt_62 (sH_pl (k := 16) (by decide) (by decide)) rfl (by decide) (Nat.le_of_ble_eq_true rfl) rfl ?_
    show ax_W Ω Γ _ _ (sH h a (s, cU π 0 (cPl pl (upd s 0 b) v O (D.2.1 1 v) (nI v) (decide (s (47 + v) = 0)) (pLeft s (pQ pl s v))), (.ref (D.1 0)), (D.1 8))) _ _ _
    exact ax_aretE (pc := 65) G E rfl (Or.inl ⟨_, rfl⟩) (Or.inr ⟨_, rfl⟩) dX2_planAt_65 (rfl) (rfl)
  refine ax_if_ne (pc := 33) (tgt := 40) G dX2_planAt_33 rfl (fun c33 => ?_) (fun c33 => ?_)
  · refine ax_iconst (pc := 40) (v := nI 0) G dX2_planAt_40 ic_0 ?_
    refine ax_top (show (.int (nI 0) : Value) = .int (bI (decide (s (47 + v) = 0))) from congrArg Value.int (by first | (simp only [bI, c33, if_true, if_false, Bool.false_eq_true, not_false_eq_true, not_true_eq_false, decide_true, decide_false, Bool.and_true, Bool.true_and, Bool.and_false, Bool.false_and, Bool.or_true, Bool.true_or, Bool.or_false, Bool.false_or, and_self, and_true, true_and, and_false, false_and, or_true, true_or, or_false, false_or, ne_eq]; done) | (simp only [bI, c33, if_true, if_false, Bool.false_eq_true, not_false_eq_true, not_true_eq_false, decide_true, decide_false, Bool.and_true, Bool.true_and, Bool.and_false, Bool.false_and, Bool.or_true, Bool.true_or, Bool.or_false, Bool.false_or, and_self, and_true, true_and, and_false, false_and, or_true, true_or, or_false, false_or, ne_eq]; rfl))) ?_
    exact J41
  · refine ax_iconst (pc := 36) (v := nI 1) G dX2_planAt_36 ic_1 ?_
    refine ax_goto (pc := 37) (tgt := 41) G dX2_planAt_37 rfl ?_
    refine ax_top (show (.int (nI 1) : Value) = .int (bI (decide (s (47 + v) = 0))) from congrArg Value.int (by first | (simp only [bI, c33, if_true, if_false, Bool.false_eq_true, not_false_eq_true, not_true_eq_false, decide_true, decide_false, Bool.and_true, Bool.true_and, Bool.and_false, Bool.false_and, Bool.or_true, Bool.true_or, Bool.or_false, Bool.false_or, and_self, and_true, true_and, and_false, false_and, or_true, true_or, or_false, false_or, ne_eq]; done) | (simp only [bI, c33, if_true, if_false, Bool.false_eq_true, not_false_eq_true, not_true_eq_false, decide_true, decide_false, Bool.and_true, Bool.true_and, Bool.and_false, Bool.false_and, Bool.or_true, Bool.true_or, Bool.or_false, Bool.false_or, and_self, and_true, true_and, and_false, false_and, or_true, true_or, or_false, false_or, ne_eq]; rfl) | (simp only [bI, if_pos c33, decide_eq_true c33, if_true, if_false, Bool.false_eq_true, not_false_eq_true, not_true_eq_false, decide_true, decide_false, Bool.and_true, Bool.true_and, Bool.and_false, Bool.false_and, Bool.or_true, Bool.true_or, Bool.or_false, Bool.false_or, and_self, and_true, true_and, and_false, false_and, or_true, true_or, or_false, false_or, ne_eq]; done) | (simp only [bI, if_pos c33, decide_eq_true c33, if_true, if_false, Bool.false_eq_true, not_false_eq_true, not_true_eq_false, decide_true, decide_false, Bool.and_true, Bool.true_and, Bool.and_false, Bool.false_and, Bool.or_true, Bool.true_or, Bool.or_false, Bool.false_or, and_self, and_true, true_and, and_false, false_and, or_true, true_or, or_false, false_or, ne_eq]; rfl))) ?_
    exact J41

theorem ct_planAlert {Ω : ax_O} (hA : ax_Amb Ω) {h : ax_H} {a : Nat} {pl s : pR} {π : Nat → cP} {N V O A : Nat} {D : cD} (ha : Ω.2.1.heap.size ≤ a) (hp : pWP pl N V O) (hs : pWS s A) (hE : cEn h a pl s N V O A D) (k : Nat) (hk : k < A) : ax_Met Ω yX2_planAlert 9 0 0 [.ref a, .int (nI k)] (sH h a (s, π, (.ref (D.1 0)), (D.1 8))) (.inl (some (.ref (a + 16)))) (sH h a (s, cU π 0 (cPl pl s (20 + k) O (D.2.1 3 k) (nI k) (decide (s (127 + 10 * k + 7) = 0)) (pLeft s (pQ pl s (20 + k)))), .ref (D.1 0), D.1 8)) := by
  refine ax_met q2005 q114 (by decide +kernel) (by decide) hA (Nat.le_of_ble_eq_true rfl) (fun Γ G E => ?_)
  have hV9 := hp.lV
  have hA9 := hs.lA
  have hO9 := hp.lO
  show ax_W Ω Γ 0 0 (sH h a (s, π, (.ref (D.1 0)), (D.1 8))) 0 [some (.ref a), some (.int (nI k))] []
  refine ax_aload_n (pc := 0) G dX2_planAlert_0 rfl rfl ?_
  refine ax_aload_n (pc := 1) G dX2_planAlert_1 rfl rfl ?_
  refine sr_get (pc := 2) (v := .ref (a + 16)) G flX2_70_1 dX2_planAlert_2 rfl ?_
  refine ax_aload_n (pc := 5) G dX2_planAlert_5 rfl rfl ?_
  refine sr_get (pc := 6) (v := .ref (a + 2)) G flX2_26_1 dX2_planAlert_6 rfl ?_
  refine ax_iload_n (pc := 9) G dX2_planAlert_9 rfl rfl ?_
  refine ax_cJ1 (pc := 10) (kb := 0) (nb := 0) G (ct_lget hA ((hE (s, π, (.ref (D.1 0)), (D.1 8))).2.1).1 ((hE (s, π, (.ref (D.1 0)), (D.1 8))).2.1).2.1 (q := D.2.1 3 k) k (by omega) ((hE (s, π, (.ref (D.1 0)), (D.1 8))).2.1).2.2.1 ((hE (s, π, (.ref (D.1 0)), (D.1 8))).2.1).2.2.2.1 (((hE (s, π, (.ref (D.1 0)), (D.1 8))).2.1).2.2.2.2 k (by omega))) lJX2_95_16 dX2_planAlert_10 (((hE (s, π, (.ref (D.1 0)), (D.1 8))).2.1).1) rfl (by decide) (Nat.le_of_ble_eq_true rfl) rfl ?_
  refine ax_checkcast (pc := 15) G q1724 ⟨_, rfl, Or.inr q1470⟩ dX2_planAlert_15 (alO (pl := pl) ((hE (s, π, (.ref (D.1 0)), (D.1 8))).2) (k := k) (by omega)) ?_
  refine ax_iload_n (pc := 18) G dX2_planAlert_18 rfl rfl ?_
  refine ax_aload_n (pc := 19) G dX2_planAlert_19 rfl rfl ?_
  refine sr_get (pc := 20) (v := .ref (a + 12)) G flX2_55_1 dX2_planAlert_20 rfl ?_
  refine ax_iload_n (pc := 23) G dX2_planAlert_23 rfl rfl ?_
  refine sr_ld (pc := 24) (k := 12) (j := k) (r := 127 + 10 * k + 7) G dX2_planAlert_24 (by decide) (by decide) rfl rfl (show k < 10 by omega) ?_
  show ax_W Ω Γ _ _ _ _ _ (.int (s (127 + 10 * k + 7)) :: _)
  refine ax_cV1 (pc := 25) (kb := 0) (nb := 0) G (ct_plan hA (π := π) ha hp hs hE (w := D.2.1 3 k) (k := 20 + k) (by omega) (fun σ => (hE σ).2.wk (pl := pl) (k := k) (by omega)) (nI k) (s (127 + 10 * k + 7))) lVX2_180_1 dX2_planAlert_25 sH_obj rfl (by decide) (Nat.le_of_ble_eq_true rfl) rfl ?_
  show ax_W Ω Γ _ _ (sH h a (s, cU π 0 (cPl pl s (20 + k) O (D.2.1 3 k) (nI k) (decide ((s (127 + 10 * k + 7)) = 0)) (pLeft s (pQ pl s (20 + k)))), (.ref (D.1 0)), (D.1 8))) _ _ _
  exact ax_aretE (pc := 28) G E rfl (Or.inl ⟨_, rfl⟩) (Or.inr ⟨_, rfl⟩) dX2_planAlert_28 (rfl) (rfl)

theorem ct_isOpen {Ω : ax_O} (hA : ax_Amb Ω) {h : ax_H} {a : Nat} {pl s : pR} {π : Nat → cP} {N V O A : Nat} {D : cD} (ha : Ω.2.1.heap.size ≤ a) (hp : pWP pl N V O) (hs : pWS s A) (hE : cEn h a pl s N V O A D) (k : Nat) (hk : k < A) : ax_Met Ω yX2_isOpen 5 0 0 [.ref a, .int (nI k)] (sH h a (s, π, (.ref (D.1 0)), (D.1 8))) (.inl (some (.int (bI (decide (s (127 + 10 * k + 7) = 0) && decide (s 0 ≤ pTo pl s (20 + k))))))) (sH h a (s, π, (.ref (D.1 0)), (D.1 8))) := by
  refine ax_met q1965 q114 (by decide +kernel) (by decide) hA (Nat.le_of_ble_eq_true rfl) (fun Γ G E => ?_)
  have hV9 := hp.lV
  have hA9 := hs.lA
  have hO9 := hp.lO
  show ax_W Ω Γ 0 0 (sH h a (s, π, (.ref (D.1 0)), (D.1 8))) 0 [some (.ref a), some (.int (nI k))] []
  refine ax_aload_n (pc := 0) G dX2_isOpen_0 rfl rfl ?_
  refine sr_get (pc := 1) (v := .ref (a + 12)) G flX2_55_1 dX2_isOpen_1 rfl ?_
  refine ax_iload_n (pc := 4) G dX2_isOpen_4 rfl rfl ?_
  refine sr_ld (pc := 5) (k := 12) (j := k) (r := 127 + 10 * k + 7) G dX2_isOpen_5 (by decide) (by decide) rfl rfl (show k < 10 by omega) ?_
  show ax_W Ω Γ _ _ _ _ _ (.int (s (127 + 10 * k + 7)) :: _)
  refine ax_if_ne (pc := 6) (tgt := 36) G dX2_isOpen_6 rfl (fun c6 => ?_) (fun c6 => ?_)
  · refine ax_iconst (pc := 36) (v := nI 0) G dX2_isOpen_36 ic_0 ?_
    exact ax_iretE (pc := 37) G E rfl (rfl) dX2_isOpen_37 (by first | (simp only [decide_eq_false ‹¬ s (127 + 10 * k + 7) = 0›]; rfl) | (simp only [decide_eq_true ‹s (127 + 10 * k + 7) = 0›, decide_eq_false (Int32.not_le.mpr ‹pTo pl s (20 + k) < s 0›)]; rfl) | (simp only [decide_eq_true ‹s (127 + 10 * k + 7) = 0›, decide_eq_true (Int32.not_lt.mp ‹¬ pTo pl s (20 + k) < s 0›)]; rfl)) (rfl)
  · refine ax_aload_n (pc := 9) G dX2_isOpen_9 rfl rfl ?_
    refine sr_get (pc := 10) (v := .ref (a + 2)) G flX2_26_1 dX2_isOpen_10 rfl ?_
    refine ax_iload_n (pc := 13) G dX2_isOpen_13 rfl rfl ?_
    refine ax_cJ1 (pc := 14) (kb := 0) (nb := 0) G (ct_lget hA ((hE (s, π, (.ref (D.1 0)), (D.1 8))).2.1).1 ((hE (s, π, (.ref (D.1 0)), (D.1 8))).2.1).2.1 (q := D.2.1 3 k) k (by omega) ((hE (s, π, (.ref (D.1 0)), (D.1 8))).2.1).2.2.1 ((hE (s, π, (.ref (D.1 0)), (D.1 8))).2.1).2.2.2.1 (((hE (s, π, (.ref (D.1 0)), (D.1 8))).2.1).2.2.2.2 k (by omega))) lJX2_95_16 dX2_isOpen_14 (((hE (s, π, (.ref (D.1 0)), (D.1 8))).2.1).1) rfl (by decide) (Nat.le_of_ble_eq_true rfl) rfl ?_
    refine ax_checkcast (pc := 19) G q1961 ⟨_, rfl, Or.inl rfl⟩ dX2_isOpen_19 (alO (pl := pl) ((hE (s, π, (.ref (D.1 0)), (D.1 8))).2) (k := k) (by omega)) ?_
    refine ax_cV1 (pc := 22) (kb := 0) (nb := 0) G (ct_to_14 hA (alO (pl := pl) ((hE (s, π, (.ref (D.1 0)), (D.1 8))).2) (k := k) (by omega))) lVX2_200_14 dX2_isOpen_22 (alO (pl := pl) ((hE (s, π, (.ref (D.1 0)), (D.1 8))).2) (k := k) (by omega)) rfl (by decide) (Nat.le_of_ble_eq_true rfl) rfl ?_
    rw [pTo_al (pl := pl)]
    refine ax_aload_n (pc := 25) G dX2_isOpen_25 rfl rfl ?_
    refine sr_get (pc := 26) (v := .int (s 0)) G flX2_130_1 dX2_isOpen_26 rfl ?_
    refine ax_icmp_lt (pc := 29) (tgt := 36) G dX2_isOpen_29 rfl (fun c29 => ?_) (fun c29 => ?_)
    · refine ax_iconst (pc := 36) (v := nI 0) G dX2_isOpen_36 ic_0 ?_
      exact ax_iretE (pc := 37) G E rfl (rfl) dX2_isOpen_37 (by first | (simp only [decide_eq_false ‹¬ s (127 + 10 * k + 7) = 0›]; rfl) | (simp only [decide_eq_true ‹s (127 + 10 * k + 7) = 0›, decide_eq_false (Int32.not_le.mpr ‹pTo pl s (20 + k) < s 0›)]; rfl) | (simp only [decide_eq_true ‹s (127 + 10 * k + 7) = 0›, decide_eq_true (Int32.not_lt.mp ‹¬ pTo pl s (20 + k) < s 0›)]; rfl)) (rfl)
    · refine ax_iconst (pc := 32) (v := nI 1) G dX2_isOpen_32 ic_1 ?_
      refine ax_goto (pc := 33) (tgt := 37) G dX2_isOpen_33 rfl ?_
      exact ax_iretE (pc := 37) G E rfl (rfl) dX2_isOpen_37 (by first | (simp only [decide_eq_false ‹¬ s (127 + 10 * k + 7) = 0›]; rfl) | (simp only [decide_eq_true ‹s (127 + 10 * k + 7) = 0›, decide_eq_false (Int32.not_le.mpr ‹pTo pl s (20 + k) < s 0›)]; rfl) | (simp only [decide_eq_true ‹s (127 + 10 * k + 7) = 0›, decide_eq_true (Int32.not_lt.mp ‹¬ pTo pl s (20 + k) < s 0›)]; rfl)) (rfl)

