/-! TelescopeQueue: what is asked of plans -/
theorem cq_growth_Y {Ω : ax_O} (hA : ax_Amb Ω) {h : ax_H} {a : Nat} {pl s : pR} {π : Nat → cP} {N V O A : Nat} {D : cD} (ha : Ω.2.1.heap.size ≤ a) (hp : pWP pl N V O) (hs : pWS s A) (hE : cEn h a pl s N V O A D) {X bf tr hi sv lb : Nat} {x1 x2 x3 : Int32} (hX : ∀ σ, (sH h a σ).1 X = some (.inr (0, [.ref bf, .int x1, .int x2, .int x3, .ref a, .ref tr, .ref hi, .ref sv, .ref lb]))) (k : Nat) (hk : k < V)  : ax_Met Ω yX1_growth 20 4 24 [.ref X, .int (nI k)] (sH h a (s, π, (.ref (D.1 0)), (D.1 8))) (.inl (some (.int ((cPV pl s O D k).2 7)))) (sH h a (s, cU π 0 (cPV pl s O D k), .ref (D.1 0), D.1 8)) := by
  refine ax_met q1719 q113 (by decide +kernel) (by decide) hA (Nat.le_of_ble_eq_true rfl) (fun Γ G E => ?_)
  have hV9 := hp.lV
  have hA9 := hs.lA
  have hO9 := hp.lO
  show ax_W Ω Γ 4 24 (sH h a (s, π, (.ref (D.1 0)), (D.1 8))) 0 [some (.ref X), some (.int (nI k))] []
  refine ax_aload_n (pc := 0) G dX1_growth_0 rfl rfl ?_
  refine ax_iload_n (pc := 1) G dX1_growth_1 rfl rfl ?_
  refine ax_cV1 (pc := 2) (kb := 1) (nb := 6) G (cx_withVisitY hA (π := π) ha hp hs hE hX k (by omega)) lVX1_186_0 dX1_growth_2 (hX _) rfl (by decide) (Nat.le_of_ble_eq_true rfl) rfl ?_
  refine ax_iload_n (pc := 5) G dX1_growth_5 rfl rfl ?_
  refine ax_cV1 (pc := 6) (kb := 1) (nb := 6) G (ct_planVisit hA (π := π) ha hp hs hE k (by omega)) lVX1_319_1 dX1_growth_6 sH_obj rfl (by decide) (Nat.le_of_ble_eq_true rfl) rfl ?_
  show ax_W Ω Γ _ _ (sH h a (s, cU π 0 (cPV pl s O D k), (.ref (D.1 0)), (D.1 8))) _ _ _
  refine ax_getf (pc := 9) (v := .int ((cPV pl s O D k).2 7)) G flX1_323_6 dX1_growth_9 (sH_pe (k := 16) (by decide) (by decide) (show (cU π 0 (cPV pl s O D k) : Nat → cP) 0 = (cPV pl s O D k) from cU_e)) rfl ?_
  exact ax_iretE (pc := 12) G E rfl (rfl) dX1_growth_12 (rfl) (rfl)

theorem cq_growth_N {Ω : ax_O} (hA : ax_Amb Ω) {h : ax_H} {X bf tr hi sv lb : Nat} {x1 x2 x3 : Int32} (hX : h.1 X = some (.inr (0, [.ref bf, .int x1, .int x2, .int x3, .null, .ref tr, .ref hi, .ref sv, .ref lb]))) (k : Int32)  : ax_Met Ω yX1_growth 20 4 24 [.ref X, .int k] h (.inr h.2) (ax_add h (.inr (21, []))) := by
  refine ax_met q1719 q113 (by decide +kernel) (by decide) hA (Nat.le_of_ble_eq_true rfl) (fun Γ G E => ?_)
  show ax_W Ω Γ 4 24 h 0 [some (.ref X), some (.int k)] []
  refine ax_aload_n (pc := 0) G dX1_growth_0 rfl rfl ?_
  refine ax_iload_n (pc := 1) G dX1_growth_1 rfl rfl ?_
  refine ax_callV (pc := 2) (kb := 1) (nb := 6) G (cx_withVisitN hA hX k) lVX1_186_0 dX1_growth_2 (hX) rfl (by decide) (Nat.le_of_ble_eq_true rfl) rfl (fun _ e9 => by cases e9) (fun q9 e9 => ?_)
  cases e9
  exact ax_out G E (fun x hx => by cases hx)

theorem cq_growth_B {Ω : ax_O} (hA : ax_Amb Ω) {h : ax_H} {a : Nat} {pl s : pR} {π : Nat → cP} {N V O A : Nat} {D : cD} (ha : Ω.2.1.heap.size ≤ a) (hp : pWP pl N V O) (hs : pWS s A) (hE : cEn h a pl s N V O A D) {X bf tr hi sv lb : Nat} {x1 x2 x3 : Int32} (hX : ∀ σ, (sH h a σ).1 X = some (.inr (0, [.ref bf, .int x1, .int x2, .int x3, .ref a, .ref tr, .ref hi, .ref sv, .ref lb]))) (k : Int32) (hb : pIn k (nI 0) (nI V - nI 1) = false)  : ax_Met Ω yX1_growth 20 4 24 [.ref X, .int k] (sH h a (s, π, (.ref (D.1 0)), (D.1 8))) (.inr (sH h a (s, π, (.ref (D.1 0)), (D.1 8))).2) (ax_add (sH h a (s, π, (.ref (D.1 0)), (D.1 8))) (.inr (22, []))) := by
  refine ax_met q1719 q113 (by decide +kernel) (by decide) hA (Nat.le_of_ble_eq_true rfl) (fun Γ G E => ?_)
  have hV9 := hp.lV
  have hA9 := hs.lA
  have hO9 := hp.lO
  show ax_W Ω Γ 4 24 (sH h a (s, π, (.ref (D.1 0)), (D.1 8))) 0 [some (.ref X), some (.int k)] []
  refine ax_aload_n (pc := 0) G dX1_growth_0 rfl rfl ?_
  refine ax_iload_n (pc := 1) G dX1_growth_1 rfl rfl ?_
  refine ax_callV (pc := 2) (kb := 1) (nb := 6) G (cx_withVisitB hA (π := π) ha hp hs hE hX k hb) lVX1_186_0 dX1_growth_2 (hX _) rfl (by decide) (Nat.le_of_ble_eq_true rfl) rfl (fun _ e9 => by cases e9) (fun q9 e9 => ?_)
  cases e9
  exact ax_out G E (fun x hx => by cases hx)

theorem cq_startIf_Y {Ω : ax_O} (hA : ax_Amb Ω) {h : ax_H} {a : Nat} {pl s : pR} {π : Nat → cP} {N V O A : Nat} {D : cD} (ha : Ω.2.1.heap.size ≤ a) (hp : pWP pl N V O) (hs : pWS s A) (hE : cEn h a pl s N V O A D) {X bf tr hi sv lb : Nat} {x1 x2 x3 : Int32} (hX : ∀ σ, (sH h a σ).1 X = some (.inr (0, [.ref bf, .int x1, .int x2, .int x3, .ref a, .ref tr, .ref hi, .ref sv, .ref lb]))) (k : Nat) (hk : k < V)  : ax_Met Ω yX1_startIf 20 4 24 [.ref X, .int (nI k)] (sH h a (s, π, (.ref (D.1 0)), (D.1 8))) (.inl (some (.int ((cPV pl s O D k).2 5)))) (sH h a (s, cU π 0 (cPV pl s O D k), .ref (D.1 0), D.1 8)) := by
  refine ax_met q1855 q113 (by decide +kernel) (by decide) hA (Nat.le_of_ble_eq_true rfl) (fun Γ G E => ?_)
  have hV9 := hp.lV
  have hA9 := hs.lA
  have hO9 := hp.lO
  show ax_W Ω Γ 4 24 (sH h a (s, π, (.ref (D.1 0)), (D.1 8))) 0 [some (.ref X), some (.int (nI k))] []
  refine ax_aload_n (pc := 0) G dX1_startIf_0 rfl rfl ?_
  refine ax_iload_n (pc := 1) G dX1_startIf_1 rfl rfl ?_
  refine ax_cV1 (pc := 2) (kb := 1) (nb := 6) G (cx_withVisitY hA (π := π) ha hp hs hE hX k (by omega)) lVX1_186_0 dX1_startIf_2 (hX _) rfl (by decide) (Nat.le_of_ble_eq_true rfl) rfl ?_
  refine ax_iload_n (pc := 5) G dX1_startIf_5 rfl rfl ?_
  refine ax_cV1 (pc := 6) (kb := 1) (nb := 6) G (ct_planVisit hA (π := π) ha hp hs hE k (by omega)) lVX1_319_1 dX1_startIf_6 sH_obj rfl (by decide) (Nat.le_of_ble_eq_true rfl) rfl ?_
  show ax_W Ω Γ _ _ (sH h a (s, cU π 0 (cPV pl s O D k), (.ref (D.1 0)), (D.1 8))) _ _ _
  refine ax_getf (pc := 9) (v := .int ((cPV pl s O D k).2 5)) G flX1_329_6 dX1_startIf_9 (sH_pe (k := 16) (by decide) (by decide) (show (cU π 0 (cPV pl s O D k) : Nat → cP) 0 = (cPV pl s O D k) from cU_e)) rfl ?_
  exact ax_iretE (pc := 12) G E rfl (rfl) dX1_startIf_12 (rfl) (rfl)

theorem cq_startIf_N {Ω : ax_O} (hA : ax_Amb Ω) {h : ax_H} {X bf tr hi sv lb : Nat} {x1 x2 x3 : Int32} (hX : h.1 X = some (.inr (0, [.ref bf, .int x1, .int x2, .int x3, .null, .ref tr, .ref hi, .ref sv, .ref lb]))) (k : Int32)  : ax_Met Ω yX1_startIf 20 4 24 [.ref X, .int k] h (.inr h.2) (ax_add h (.inr (21, []))) := by
  refine ax_met q1855 q113 (by decide +kernel) (by decide) hA (Nat.le_of_ble_eq_true rfl) (fun Γ G E => ?_)
  show ax_W Ω Γ 4 24 h 0 [some (.ref X), some (.int k)] []
  refine ax_aload_n (pc := 0) G dX1_startIf_0 rfl rfl ?_
  refine ax_iload_n (pc := 1) G dX1_startIf_1 rfl rfl ?_
  refine ax_callV (pc := 2) (kb := 1) (nb := 6) G (cx_withVisitN hA hX k) lVX1_186_0 dX1_startIf_2 (hX) rfl (by decide) (Nat.le_of_ble_eq_true rfl) rfl (fun _ e9 => by cases e9) (fun q9 e9 => ?_)
  cases e9
  exact ax_out G E (fun x hx => by cases hx)

theorem cq_startIf_B {Ω : ax_O} (hA : ax_Amb Ω) {h : ax_H} {a : Nat} {pl s : pR} {π : Nat → cP} {N V O A : Nat} {D : cD} (ha : Ω.2.1.heap.size ≤ a) (hp : pWP pl N V O) (hs : pWS s A) (hE : cEn h a pl s N V O A D) {X bf tr hi sv lb : Nat} {x1 x2 x3 : Int32} (hX : ∀ σ, (sH h a σ).1 X = some (.inr (0, [.ref bf, .int x1, .int x2, .int x3, .ref a, .ref tr, .ref hi, .ref sv, .ref lb]))) (k : Int32) (hb : pIn k (nI 0) (nI V - nI 1) = false)  : ax_Met Ω yX1_startIf 20 4 24 [.ref X, .int k] (sH h a (s, π, (.ref (D.1 0)), (D.1 8))) (.inr (sH h a (s, π, (.ref (D.1 0)), (D.1 8))).2) (ax_add (sH h a (s, π, (.ref (D.1 0)), (D.1 8))) (.inr (22, []))) := by
  refine ax_met q1855 q113 (by decide +kernel) (by decide) hA (Nat.le_of_ble_eq_true rfl) (fun Γ G E => ?_)
  have hV9 := hp.lV
  have hA9 := hs.lA
  have hO9 := hp.lO
  show ax_W Ω Γ 4 24 (sH h a (s, π, (.ref (D.1 0)), (D.1 8))) 0 [some (.ref X), some (.int k)] []
  refine ax_aload_n (pc := 0) G dX1_startIf_0 rfl rfl ?_
  refine ax_iload_n (pc := 1) G dX1_startIf_1 rfl rfl ?_
  refine ax_callV (pc := 2) (kb := 1) (nb := 6) G (cx_withVisitB hA (π := π) ha hp hs hE hX k hb) lVX1_186_0 dX1_startIf_2 (hX _) rfl (by decide) (Nat.le_of_ble_eq_true rfl) rfl (fun _ e9 => by cases e9) (fun q9 e9 => ?_)
  cases e9
  exact ax_out G E (fun x hx => by cases hx)

theorem cq_reason_Y {Ω : ax_O} (hA : ax_Amb Ω) {h : ax_H} {a : Nat} {pl s : pR} {π : Nat → cP} {N V O A : Nat} {D : cD} (ha : Ω.2.1.heap.size ≤ a) (hp : pWP pl N V O) (hs : pWS s A) (hE : cEn h a pl s N V O A D) {X bf tr hi sv lb : Nat} {x1 x2 x3 : Int32} (hX : ∀ σ, (sH h a σ).1 X = some (.inr (0, [.ref bf, .int x1, .int x2, .int x3, .ref a, .ref tr, .ref hi, .ref sv, .ref lb]))) (k : Nat) (hk : k < V)  : ax_Met Ω yX1_reason 20 4 24 [.ref X, .int (nI k)] (sH h a (s, π, (.ref (D.1 0)), (D.1 8))) (.inl (some (.int ((cPV pl s O D k).2 8)))) (sH h a (s, cU π 0 (cPV pl s O D k), .ref (D.1 0), D.1 8)) := by
  refine ax_met q1862 q113 (by decide +kernel) (by decide) hA (Nat.le_of_ble_eq_true rfl) (fun Γ G E => ?_)
  have hV9 := hp.lV
  have hA9 := hs.lA
  have hO9 := hp.lO
  show ax_W Ω Γ 4 24 (sH h a (s, π, (.ref (D.1 0)), (D.1 8))) 0 [some (.ref X), some (.int (nI k))] []
  refine ax_aload_n (pc := 0) G dX1_reason_0 rfl rfl ?_
  refine ax_iload_n (pc := 1) G dX1_reason_1 rfl rfl ?_
  refine ax_cV1 (pc := 2) (kb := 1) (nb := 6) G (cx_withVisitY hA (π := π) ha hp hs hE hX k (by omega)) lVX1_186_0 dX1_reason_2 (hX _) rfl (by decide) (Nat.le_of_ble_eq_true rfl) rfl ?_
  refine ax_iload_n (pc := 5) G dX1_reason_5 rfl rfl ?_
  refine ax_cV1 (pc := 6) (kb := 1) (nb := 6) G (ct_planVisit hA (π := π) ha hp hs hE k (by omega)) lVX1_319_1 dX1_reason_6 sH_obj rfl (by decide) (Nat.le_of_ble_eq_true rfl) rfl ?_
  show ax_W Ω Γ _ _ (sH h a (s, cU π 0 (cPV pl s O D k), (.ref (D.1 0)), (D.1 8))) _ _ _
  refine ax_getf (pc := 9) (v := .int ((cPV pl s O D k).2 8)) G flX1_332_6 dX1_reason_9 (sH_pe (k := 16) (by decide) (by decide) (show (cU π 0 (cPV pl s O D k) : Nat → cP) 0 = (cPV pl s O D k) from cU_e)) rfl ?_
  exact ax_iretE (pc := 12) G E rfl (rfl) dX1_reason_12 (rfl) (rfl)

theorem cq_reason_N {Ω : ax_O} (hA : ax_Amb Ω) {h : ax_H} {X bf tr hi sv lb : Nat} {x1 x2 x3 : Int32} (hX : h.1 X = some (.inr (0, [.ref bf, .int x1, .int x2, .int x3, .null, .ref tr, .ref hi, .ref sv, .ref lb]))) (k : Int32)  : ax_Met Ω yX1_reason 20 4 24 [.ref X, .int k] h (.inr h.2) (ax_add h (.inr (21, []))) := by
  refine ax_met q1862 q113 (by decide +kernel) (by decide) hA (Nat.le_of_ble_eq_true rfl) (fun Γ G E => ?_)
  show ax_W Ω Γ 4 24 h 0 [some (.ref X), some (.int k)] []
  refine ax_aload_n (pc := 0) G dX1_reason_0 rfl rfl ?_
  refine ax_iload_n (pc := 1) G dX1_reason_1 rfl rfl ?_
  refine ax_callV (pc := 2) (kb := 1) (nb := 6) G (cx_withVisitN hA hX k) lVX1_186_0 dX1_reason_2 (hX) rfl (by decide) (Nat.le_of_ble_eq_true rfl) rfl (fun _ e9 => by cases e9) (fun q9 e9 => ?_)
  cases e9
  exact ax_out G E (fun x hx => by cases hx)

theorem cq_reason_B {Ω : ax_O} (hA : ax_Amb Ω) {h : ax_H} {a : Nat} {pl s : pR} {π : Nat → cP} {N V O A : Nat} {D : cD} (ha : Ω.2.1.heap.size ≤ a) (hp : pWP pl N V O) (hs : pWS s A) (hE : cEn h a pl s N V O A D) {X bf tr hi sv lb : Nat} {x1 x2 x3 : Int32} (hX : ∀ σ, (sH h a σ).1 X = some (.inr (0, [.ref bf, .int x1, .int x2, .int x3, .ref a, .ref tr, .ref hi, .ref sv, .ref lb]))) (k : Int32) (hb : pIn k (nI 0) (nI V - nI 1) = false)  : ax_Met Ω yX1_reason 20 4 24 [.ref X, .int k] (sH h a (s, π, (.ref (D.1 0)), (D.1 8))) (.inr (sH h a (s, π, (.ref (D.1 0)), (D.1 8))).2) (ax_add (sH h a (s, π, (.ref (D.1 0)), (D.1 8))) (.inr (22, []))) := by
  refine ax_met q1862 q113 (by decide +kernel) (by decide) hA (Nat.le_of_ble_eq_true rfl) (fun Γ G E => ?_)
  have hV9 := hp.lV
  have hA9 := hs.lA
  have hO9 := hp.lO
  show ax_W Ω Γ 4 24 (sH h a (s, π, (.ref (D.1 0)), (D.1 8))) 0 [some (.ref X), some (.int k)] []
  refine ax_aload_n (pc := 0) G dX1_reason_0 rfl rfl ?_
  refine ax_iload_n (pc := 1) G dX1_reason_1 rfl rfl ?_
  refine ax_callV (pc := 2) (kb := 1) (nb := 6) G (cx_withVisitB hA (π := π) ha hp hs hE hX k hb) lVX1_186_0 dX1_reason_2 (hX _) rfl (by decide) (Nat.le_of_ble_eq_true rfl) rfl (fun _ e9 => by cases e9) (fun q9 e9 => ?_)
  cases e9
  exact ax_out G E (fun x hx => by cases hx)

theorem cq_needsDump_Y {Ω : ax_O} (hA : ax_Amb Ω) {h : ax_H} {a : Nat} {pl s : pR} {π : Nat → cP} {N V O A : Nat} {D : cD} (ha : Ω.2.1.heap.size ≤ a) (hp : pWP pl N V O) (hs : pWS s A) (hE : cEn h a pl s N V O A D) {X bf tr hi sv lb : Nat} {x1 x2 x3 : Int32} (hX : ∀ σ, (sH h a σ).1 X = some (.inr (0, [.ref bf, .int x1, .int x2, .int x3, .ref a, .ref tr, .ref hi, .ref sv, .ref lb]))) (k : Nat) (hk : k < V)  : ax_Met Ω yX1_needsDump 20 4 24 [.ref X, .int (nI k)] (sH h a (s, π, (.ref (D.1 0)), (D.1 8))) (.inl (some (.int (bI (decide (0 < (cPV pl s O D k).2 3)))))) (sH h a (s, cU π 0 (cPV pl s O D k), .ref (D.1 0), D.1 8)) := by
  refine ax_met q1848 q113 (by decide +kernel) (by decide) hA (Nat.le_of_ble_eq_true rfl) (fun Γ G E => ?_)
  have hV9 := hp.lV
  have hA9 := hs.lA
  have hO9 := hp.lO
  show ax_W Ω Γ 4 24 (sH h a (s, π, (.ref (D.1 0)), (D.1 8))) 0 [some (.ref X), some (.int (nI k))] []
  refine ax_aload_n (pc := 0) G dX1_needsDump_0 rfl rfl ?_
  refine ax_iload_n (pc := 1) G dX1_needsDump_1 rfl rfl ?_
  refine ax_cV1 (pc := 2) (kb := 1) (nb := 6) G (cx_withVisitY hA (π := π) ha hp hs hE hX k (by omega)) lVX1_186_0 dX1_needsDump_2 (hX _) rfl (by decide) (Nat.le_of_ble_eq_true rfl) rfl ?_
  refine ax_iload_n (pc := 5) G dX1_needsDump_5 rfl rfl ?_
  refine ax_cV1 (pc := 6) (kb := 1) (nb := 6) G (ct_planVisit hA (π := π) ha hp hs hE k (by omega)) lVX1_319_1 dX1_needsDump_6 sH_obj rfl (by decide) (Nat.le_of_ble_eq_true rfl) rfl ?_
  show ax_W Ω Γ _ _ (sH h a (s, cU π 0 (cPV pl s O D k), (.ref (D.1 0)), (D.1 8))) _ _ _
  refine ax_getf (pc := 9) (v := .int ((cPV pl s O D k).2 3)) G flX1_328_6 dX1_needsDump_9 (sH_pe (k := 16) (by decide) (by decide) (show (cU π 0 (cPV pl s O D k) : Nat → cP) 0 = (cPV pl s O D k) from cU_e)) rfl ?_
  refine ax_if_le (pc := 12) (tgt := 19) G dX1_needsDump_12 rfl (fun c12 => ?_) (fun c12 => ?_)
  · refine ax_iconst (pc := 19) (v := nI 0) G dX1_needsDump_19 ic_0 ?_
    exact ax_iretE (pc := 20) G E rfl (rfl) dX1_needsDump_20 (by first | (rw [decide_eq_true (Int32.not_le.mp ‹¬ (cPV pl s O D k).2 3 ≤ 0›)]; rfl) | (rw [decide_eq_false (Int32.not_lt.mpr ‹(cPV pl s O D k).2 3 ≤ 0›)]; rfl)) (rfl)
  · refine ax_iconst (pc := 15) (v := nI 1) G dX1_needsDump_15 ic_1 ?_
    refine ax_goto (pc := 16) (tgt := 20) G dX1_needsDump_16 rfl ?_
    exact ax_iretE (pc := 20) G E rfl (rfl) dX1_needsDump_20 (by first | (rw [decide_eq_true (Int32.not_le.mp ‹¬ (cPV pl s O D k).2 3 ≤ 0›)]; rfl) | (rw [decide_eq_false (Int32.not_lt.mpr ‹(cPV pl s O D k).2 3 ≤ 0›)]; rfl)) (rfl)

theorem cq_needsDump_N {Ω : ax_O} (hA : ax_Amb Ω) {h : ax_H} {X bf tr hi sv lb : Nat} {x1 x2 x3 : Int32} (hX : h.1 X = some (.inr (0, [.ref bf, .int x1, .int x2, .int x3, .null, .ref tr, .ref hi, .ref sv, .ref lb]))) (k : Int32)  : ax_Met Ω yX1_needsDump 20 4 24 [.ref X, .int k] h (.inr h.2) (ax_add h (.inr (21, []))) := by
  refine ax_met q1848 q113 (by decide +kernel) (by decide) hA (Nat.le_of_ble_eq_true rfl) (fun Γ G E => ?_)
  show ax_W Ω Γ 4 24 h 0 [some (.ref X), some (.int k)] []
  refine ax_aload_n (pc := 0) G dX1_needsDump_0 rfl rfl ?_
  refine ax_iload_n (pc := 1) G dX1_needsDump_1 rfl rfl ?_
  refine ax_callV (pc := 2) (kb := 1) (nb := 6) G (cx_withVisitN hA hX k) lVX1_186_0 dX1_needsDump_2 (hX) rfl (by decide) (Nat.le_of_ble_eq_true rfl) rfl (fun _ e9 => by cases e9) (fun q9 e9 => ?_)
  cases e9
  exact ax_out G E (fun x hx => by cases hx)

theorem cq_needsDump_B {Ω : ax_O} (hA : ax_Amb Ω) {h : ax_H} {a : Nat} {pl s : pR} {π : Nat → cP} {N V O A : Nat} {D : cD} (ha : Ω.2.1.heap.size ≤ a) (hp : pWP pl N V O) (hs : pWS s A) (hE : cEn h a pl s N V O A D) {X bf tr hi sv lb : Nat} {x1 x2 x3 : Int32} (hX : ∀ σ, (sH h a σ).1 X = some (.inr (0, [.ref bf, .int x1, .int x2, .int x3, .ref a, .ref tr, .ref hi, .ref sv, .ref lb]))) (k : Int32) (hb : pIn k (nI 0) (nI V - nI 1) = false)  : ax_Met Ω yX1_needsDump 20 4 24 [.ref X, .int k] (sH h a (s, π, (.ref (D.1 0)), (D.1 8))) (.inr (sH h a (s, π, (.ref (D.1 0)), (D.1 8))).2) (ax_add (sH h a (s, π, (.ref (D.1 0)), (D.1 8))) (.inr (22, []))) := by
  refine ax_met q1848 q113 (by decide +kernel) (by decide) hA (Nat.le_of_ble_eq_true rfl) (fun Γ G E => ?_)
  have hV9 := hp.lV
  have hA9 := hs.lA
  have hO9 := hp.lO
  show ax_W Ω Γ 4 24 (sH h a (s, π, (.ref (D.1 0)), (D.1 8))) 0 [some (.ref X), some (.int k)] []
  refine ax_aload_n (pc := 0) G dX1_needsDump_0 rfl rfl ?_
  refine ax_iload_n (pc := 1) G dX1_needsDump_1 rfl rfl ?_
  refine ax_callV (pc := 2) (kb := 1) (nb := 6) G (cx_withVisitB hA (π := π) ha hp hs hE hX k hb) lVX1_186_0 dX1_needsDump_2 (hX _) rfl (by decide) (Nat.le_of_ble_eq_true rfl) rfl (fun _ e9 => by cases e9) (fun q9 e9 => ?_)
  cases e9
  exact ax_out G E (fun x hx => by cases hx)

theorem cq_chosen_Y {Ω : ax_O} (hA : ax_Amb Ω) {h : ax_H} {a : Nat} {pl s : pR} {π : Nat → cP} {N V O A : Nat} {D : cD} (ha : Ω.2.1.heap.size ≤ a) (hp : pWP pl N V O) (hs : pWS s A) (hE : cEn h a pl s N V O A D) {X bf tr hi sv lb : Nat} {x1 x2 x3 : Int32} (hX : ∀ σ, (sH h a σ).1 X = some (.inr (0, [.ref bf, .int x1, .int x2, .int x3, .ref a, .ref tr, .ref hi, .ref sv, .ref lb]))) (pol : Nat) (hpol : pol < 4) (hR : ∀ σ, (sH h a σ).1 (D.1 8) = some (.inr (2 + pol, [])))  : ax_MetP Ω yX1_chosen 20 4 24 [.ref X] (sH h a (s, π, (.ref (D.1 0)), (D.1 8))) (ax_Nm (fun v h' => v = some (.int (oI (cCh pl s O pol V))) ∧ ∃ π', h' = sH h a (s, π', .ref (D.1 0), D.1 8))) := by
  refine ax_metP q1869 q113 (by decide +kernel) (by decide) hA (Nat.le_of_ble_eq_true rfl) (fun Γ G E => ?_)
  have hV9 := hp.lV
  have hA9 := hs.lA
  have hO9 := hp.lO
  show ax_W Ω Γ 4 24 (sH h a (s, π, (.ref (D.1 0)), (D.1 8))) 0 [some (.ref X)] []
  refine ax_aload_n (pc := 0) G dX1_chosen_0 rfl rfl ?_
  refine ax_cV1 (pc := 1) (kb := 2) (nb := 12) G (cx_thereY hA (π := π) ha hp hs hE hX) lVX1_79_0 dX1_chosen_1 (hX _) rfl (by decide) (Nat.le_of_ble_eq_true rfl) rfl ?_
  refine ax_nV (pc := 4) (kb := 2) (nb := 12) G (ct_choose hA (π := π) ha hp hs hE pol hpol hR) lVX1_335_1 dX1_chosen_4 sH_obj rfl (by decide) (Nat.le_of_ble_eq_true rfl) rfl (fun v9 h9 q9 => ?_)
  obtain ⟨rfl, π1, rfl, -⟩ := q9
  show ax_W Ω Γ _ _ (sH h a (s, π1, (.ref (D.1 0)), (D.1 8))) _ _ (.int (oI (cCh pl s O pol V)) :: _)
  exact ax_iretP (pc := 7) G E rfl (rfl) dX1_chosen_7 (⟨_, rfl, rfl, _, rfl⟩)

theorem cq_chosen_N {Ω : ax_O} (hA : ax_Amb Ω) {h : ax_H} {X bf tr hi sv lb : Nat} {x1 x2 x3 : Int32} (hX : h.1 X = some (.inr (0, [.ref bf, .int x1, .int x2, .int x3, .null, .ref tr, .ref hi, .ref sv, .ref lb])))  : ax_Met Ω yX1_chosen 20 4 24 [.ref X] h (.inr h.2) (ax_add h (.inr (21, []))) := by
  refine ax_met q1869 q113 (by decide +kernel) (by decide) hA (Nat.le_of_ble_eq_true rfl) (fun Γ G E => ?_)
  show ax_W Ω Γ 4 24 h 0 [some (.ref X)] []
  refine ax_aload_n (pc := 0) G dX1_chosen_0 rfl rfl ?_
  refine ax_callV (pc := 1) (kb := 2) (nb := 12) G (cx_thereN hA hX) lVX1_79_0 dX1_chosen_1 (hX) rfl (by decide) (Nat.le_of_ble_eq_true rfl) rfl (fun _ e9 => by cases e9) (fun q9 e9 => ?_)
  cases e9
  exact ax_out G E (fun x hx => by cases hx)

theorem cq_nextKind_Y {Ω : ax_O} (hA : ax_Amb Ω) {h : ax_H} {a : Nat} {pl s : pR} {π : Nat → cP} {N V O A : Nat} {D : cD} (ha : Ω.2.1.heap.size ≤ a) (hp : pWP pl N V O) (hs : pWS s A) (hE : cEn h a pl s N V O A D) {X bf tr hi sv lb : Nat} {x1 x2 x3 : Int32} (hX : ∀ σ, (sH h a σ).1 X = some (.inr (0, [.ref bf, .int x1, .int x2, .int x3, .ref a, .ref tr, .ref hi, .ref sv, .ref lb]))) (pol : Nat) (hpol : pol < 4) (hR : ∀ σ, (sH h a σ).1 (D.1 8) = some (.inr (2 + pol, [])))  : ax_MetP Ω yX1_nextKind 20 4 24 [.ref X] (sH h a (s, π, (.ref (D.1 0)), (D.1 8))) (ax_Nm (fun v h' => v = some (.int (cNK pl s V O A pol)) ∧ ∃ π', h' = sH h a (s, π', .ref (D.1 0), D.1 8))) := by
  refine ax_metP q1952 q113 (by decide +kernel) (by decide) hA (Nat.le_of_ble_eq_true rfl) (fun Γ G E => ?_)
  have hV9 := hp.lV
  have hA9 := hs.lA
  have hO9 := hp.lO
  show ax_W Ω Γ 4 24 (sH h a (s, π, (.ref (D.1 0)), (D.1 8))) 0 [some (.ref X)] []
  refine ax_aload_n (pc := 0) G dX1_nextKind_0 rfl rfl ?_
  refine ax_cV1 (pc := 1) (kb := 2) (nb := 12) G (cx_thereY hA (π := π) ha hp hs hE hX) lVX1_79_0 dX1_nextKind_1 (hX _) rfl (by decide) (Nat.le_of_ble_eq_true rfl) rfl ?_
  refine ax_nV (pc := 4) (kb := 2) (nb := 12) G (ct_nextKind hA (π := π) ha hp hs hE pol hpol hR) lVX1_338_1 dX1_nextKind_4 sH_obj rfl (by decide) (Nat.le_of_ble_eq_true rfl) rfl (fun v9 h9 q9 => ?_)
  obtain ⟨rfl, π1, rfl⟩ := q9
  show ax_W Ω Γ _ _ (sH h a (s, π1, (.ref (D.1 0)), (D.1 8))) _ _ (.int (cNK pl s V O A pol) :: _)
  exact ax_iretP (pc := 7) G E rfl (rfl) dX1_nextKind_7 (⟨_, rfl, rfl, _, rfl⟩)

theorem cq_nextKind_N {Ω : ax_O} (hA : ax_Amb Ω) {h : ax_H} {X bf tr hi sv lb : Nat} {x1 x2 x3 : Int32} (hX : h.1 X = some (.inr (0, [.ref bf, .int x1, .int x2, .int x3, .null, .ref tr, .ref hi, .ref sv, .ref lb])))  : ax_Met Ω yX1_nextKind 20 4 24 [.ref X] h (.inr h.2) (ax_add h (.inr (21, []))) := by
  refine ax_met q1952 q113 (by decide +kernel) (by decide) hA (Nat.le_of_ble_eq_true rfl) (fun Γ G E => ?_)
  show ax_W Ω Γ 4 24 h 0 [some (.ref X)] []
  refine ax_aload_n (pc := 0) G dX1_nextKind_0 rfl rfl ?_
  refine ax_callV (pc := 1) (kb := 2) (nb := 12) G (cx_thereN hA hX) lVX1_79_0 dX1_nextKind_1 (hX) rfl (by decide) (Nat.le_of_ble_eq_true rfl) rfl (fun _ e9 => by cases e9) (fun q9 e9 => ?_)
  cases e9
  exact ax_out G E (fun x hx => by cases hx)

theorem cq_interrupting_Y {Ω : ax_O} (hA : ax_Amb Ω) {h : ax_H} {a : Nat} {pl s : pR} {π : Nat → cP} {N V O A : Nat} {D : cD} (ha : Ω.2.1.heap.size ≤ a) (hp : pWP pl N V O) (hs : pWS s A) (hE : cEn h a pl s N V O A D) {X bf tr hi sv lb : Nat} {x1 x2 x3 : Int32} (hX : ∀ σ, (sH h a σ).1 X = some (.inr (0, [.ref bf, .int x1, .int x2, .int x3, .ref a, .ref tr, .ref hi, .ref sv, .ref lb]))) (k : Nat) (hk : k < V) (hr : (cPV pl s O D k).2 8 = 0)  : ax_MetP Ω yX1_interrupting 20 4 24 [.ref X, .int (nI k)] (sH h a (s, π, (.ref (D.1 0)), (D.1 8))) (ax_Nm (fun v h' => v = some (.int (oI (cFB pl s O k ((cPV pl s O D k).2 5) ((cPV pl s O D k).2 6) ((cPV pl s O D k).2 3) A))) ∧ ∃ π', h' = sH h a (s, π', .ref (D.1 0), D.1 8))) := by
  refine ax_metP q1992 q113 (by decide +kernel) (by decide) hA (Nat.le_of_ble_eq_true rfl) (fun Γ G E => ?_)
  have hV9 := hp.lV
  have hA9 := hs.lA
  have hO9 := hp.lO
  show ax_W Ω Γ 4 24 (sH h a (s, π, (.ref (D.1 0)), (D.1 8))) 0 [some (.ref X), some (.int (nI k)), none] []
  refine ax_aload_n (pc := 0) G dX1_interrupting_0 rfl rfl ?_
  refine ax_iload_n (pc := 1) G dX1_interrupting_1 rfl rfl ?_
  refine ax_cV1 (pc := 2) (kb := 1) (nb := 6) G (cx_withVisitY hA (π := π) ha hp hs hE hX k (by omega)) lVX1_186_0 dX1_interrupting_2 (hX _) rfl (by decide) (Nat.le_of_ble_eq_true rfl) rfl ?_
  refine ax_iload_n (pc := 5) G dX1_interrupting_5 rfl rfl ?_
  refine ax_cV1 (pc := 6) (kb := 1) (nb := 6) G (ct_planVisit hA (π := π) ha hp hs hE k (by omega)) lVX1_319_1 dX1_interrupting_6 sH_obj rfl (by decide) (Nat.le_of_ble_eq_true rfl) rfl ?_
  show ax_W Ω Γ _ _ (sH h a (s, cU π 0 (cPV pl s O D k), (.ref (D.1 0)), (D.1 8))) _ _ _
  refine ax_astore_n (pc := 9) G dX1_interrupting_9 rfl (Nat.le_of_ble_eq_true rfl) rfl ?_
  refine ax_aload_n (pc := 10) G dX1_interrupting_10 rfl rfl ?_
  refine ax_cV1 (pc := 11) (kb := 1) (nb := 6) G (ct_can hA (P := (cPV pl s O D k)) (sH_pe (k := 16) (by decide) (by decide) (show (cU π 0 (cPV pl s O D k) : Nat → cP) 0 = (cPV pl s O D k) from cU_e))) lVX1_341_6 dX1_interrupting_11 (sH_pe (k := 16) (by decide) (by decide) (show (cU π 0 (cPV pl s O D k) : Nat → cP) 0 = (cPV pl s O D k) from cU_e)) rfl (by decide) (Nat.le_of_ble_eq_true rfl) rfl ?_
  refine ax_cS0 (pc := 14) (kb := 0) (nb := 0) G (ct_argYb hA (B := (decide ((cPV pl s O D k).2 8 = 0))) (decide_eq_true hr)) lSX1_144 dX1_interrupting_14 rfl (by decide) (Nat.le_of_ble_eq_true rfl) rfl ?_
  refine ax_aload_n (pc := 17) G dX1_interrupting_17 rfl rfl ?_
  refine ax_getf (pc := 18) (v := .ref a) G flX1_72_0 dX1_interrupting_18 (hX _) rfl ?_
  refine ax_aload_n (pc := 21) G dX1_interrupting_21 rfl rfl ?_
  refine ax_nV (pc := 22) (kb := 0) (nb := 0) G (ct_interrupting_0 hA (π := cU π 0 (cPV pl s O D k)) ha hp hs hE (w := D.2.1 1 k) (vi := k) (u := (cPV pl s O D k).2) (by omega) (fun σ => (hE σ).1.wk (r := s) (k := k) (by omega) (by omega)) (P0 := (cPV pl s O D k)) (P1 := π 1) cU_e rfl rfl) lVX1_345_1 dX1_interrupting_22 sH_obj rfl (by decide) (Nat.le_of_ble_eq_true rfl) rfl (fun v9 h9 q9 => ?_)
  obtain ⟨rfl, π1, rfl, -, -⟩ := q9
  show ax_W Ω Γ _ _ (sH h a (s, π1, (.ref (D.1 0)), (D.1 8))) _ _ (.int (oI (cFB pl s O k ((cPV pl s O D k).2 5) ((cPV pl s O D k).2 6) ((cPV pl s O D k).2 3) A)) :: _)
  exact ax_iretP (pc := 25) G E rfl (rfl) dX1_interrupting_25 (⟨_, rfl, rfl, _, rfl⟩)

theorem cq_interrupting_N {Ω : ax_O} (hA : ax_Amb Ω) {h : ax_H} {X bf tr hi sv lb : Nat} {x1 x2 x3 : Int32} (hX : h.1 X = some (.inr (0, [.ref bf, .int x1, .int x2, .int x3, .null, .ref tr, .ref hi, .ref sv, .ref lb]))) (k : Int32)  : ax_Met Ω yX1_interrupting 20 4 24 [.ref X, .int k] h (.inr h.2) (ax_add h (.inr (21, []))) := by
  refine ax_met q1992 q113 (by decide +kernel) (by decide) hA (Nat.le_of_ble_eq_true rfl) (fun Γ G E => ?_)
  show ax_W Ω Γ 4 24 h 0 [some (.ref X), some (.int k), none] []
  refine ax_aload_n (pc := 0) G dX1_interrupting_0 rfl rfl ?_
  refine ax_iload_n (pc := 1) G dX1_interrupting_1 rfl rfl ?_
  refine ax_callV (pc := 2) (kb := 1) (nb := 6) G (cx_withVisitN hA hX k) lVX1_186_0 dX1_interrupting_2 (hX) rfl (by decide) (Nat.le_of_ble_eq_true rfl) rfl (fun _ e9 => by cases e9) (fun q9 e9 => ?_)
  cases e9
  exact ax_out G E (fun x hx => by cases hx)

theorem cq_interrupting_B {Ω : ax_O} (hA : ax_Amb Ω) {h : ax_H} {a : Nat} {pl s : pR} {π : Nat → cP} {N V O A : Nat} {D : cD} (ha : Ω.2.1.heap.size ≤ a) (hp : pWP pl N V O) (hs : pWS s A) (hE : cEn h a pl s N V O A D) {X bf tr hi sv lb : Nat} {x1 x2 x3 : Int32} (hX : ∀ σ, (sH h a σ).1 X = some (.inr (0, [.ref bf, .int x1, .int x2, .int x3, .ref a, .ref tr, .ref hi, .ref sv, .ref lb]))) (k : Int32) (hb : pIn k (nI 0) (nI V - nI 1) = false)  : ax_Met Ω yX1_interrupting 20 4 24 [.ref X, .int k] (sH h a (s, π, (.ref (D.1 0)), (D.1 8))) (.inr (sH h a (s, π, (.ref (D.1 0)), (D.1 8))).2) (ax_add (sH h a (s, π, (.ref (D.1 0)), (D.1 8))) (.inr (22, []))) := by
  refine ax_met q1992 q113 (by decide +kernel) (by decide) hA (Nat.le_of_ble_eq_true rfl) (fun Γ G E => ?_)
  have hV9 := hp.lV
  have hA9 := hs.lA
  have hO9 := hp.lO
  show ax_W Ω Γ 4 24 (sH h a (s, π, (.ref (D.1 0)), (D.1 8))) 0 [some (.ref X), some (.int k), none] []
  refine ax_aload_n (pc := 0) G dX1_interrupting_0 rfl rfl ?_
  refine ax_iload_n (pc := 1) G dX1_interrupting_1 rfl rfl ?_
  refine ax_callV (pc := 2) (kb := 1) (nb := 6) G (cx_withVisitB hA (π := π) ha hp hs hE hX k hb) lVX1_186_0 dX1_interrupting_2 (hX _) rfl (by decide) (Nat.le_of_ble_eq_true rfl) rfl (fun _ e9 => by cases e9) (fun q9 e9 => ?_)
  cases e9
  exact ax_out G E (fun x hx => by cases hx)

theorem cq_interrupting_C {Ω : ax_O} (hA : ax_Amb Ω) {h : ax_H} {a : Nat} {pl s : pR} {π : Nat → cP} {N V O A : Nat} {D : cD} (ha : Ω.2.1.heap.size ≤ a) (hp : pWP pl N V O) (hs : pWS s A) (hE : cEn h a pl s N V O A D) {X bf tr hi sv lb : Nat} {x1 x2 x3 : Int32} (hX : ∀ σ, (sH h a σ).1 X = some (.inr (0, [.ref bf, .int x1, .int x2, .int x3, .ref a, .ref tr, .ref hi, .ref sv, .ref lb]))) (k : Nat) (hk : k < V) (hr : ¬ (cPV pl s O D k).2 8 = 0)  : ax_Met Ω yX1_interrupting 20 4 24 [.ref X, .int (nI k)] (sH h a (s, π, (.ref (D.1 0)), (D.1 8))) (.inr (sH h a (s, cU π 0 (cPV pl s O D k), .ref (D.1 0), D.1 8)).2) (ax_add (sH h a (s, cU π 0 (cPV pl s O D k), .ref (D.1 0), D.1 8)) (.inr (20, []))) := by
  refine ax_met q1992 q113 (by decide +kernel) (by decide) hA (Nat.le_of_ble_eq_true rfl) (fun Γ G E => ?_)
  have hV9 := hp.lV
  have hA9 := hs.lA
  have hO9 := hp.lO
  show ax_W Ω Γ 4 24 (sH h a (s, π, (.ref (D.1 0)), (D.1 8))) 0 [some (.ref X), some (.int (nI k)), none] []
  refine ax_aload_n (pc := 0) G dX1_interrupting_0 rfl rfl ?_
  refine ax_iload_n (pc := 1) G dX1_interrupting_1 rfl rfl ?_
  refine ax_cV1 (pc := 2) (kb := 1) (nb := 6) G (cx_withVisitY hA (π := π) ha hp hs hE hX k (by omega)) lVX1_186_0 dX1_interrupting_2 (hX _) rfl (by decide) (Nat.le_of_ble_eq_true rfl) rfl ?_
  refine ax_iload_n (pc := 5) G dX1_interrupting_5 rfl rfl ?_
  refine ax_cV1 (pc := 6) (kb := 1) (nb := 6) G (ct_planVisit hA (π := π) ha hp hs hE k (by omega)) lVX1_319_1 dX1_interrupting_6 sH_obj rfl (by decide) (Nat.le_of_ble_eq_true rfl) rfl ?_
  show ax_W Ω Γ _ _ (sH h a (s, cU π 0 (cPV pl s O D k), (.ref (D.1 0)), (D.1 8))) _ _ _
  refine ax_astore_n (pc := 9) G dX1_interrupting_9 rfl (Nat.le_of_ble_eq_true rfl) rfl ?_
  refine ax_aload_n (pc := 10) G dX1_interrupting_10 rfl rfl ?_
  refine ax_cV1 (pc := 11) (kb := 1) (nb := 6) G (ct_can hA (P := (cPV pl s O D k)) (sH_pe (k := 16) (by decide) (by decide) (show (cU π 0 (cPV pl s O D k) : Nat → cP) 0 = (cPV pl s O D k) from cU_e))) lVX1_341_6 dX1_interrupting_11 (sH_pe (k := 16) (by decide) (by decide) (show (cU π 0 (cPV pl s O D k) : Nat → cP) 0 = (cPV pl s O D k) from cU_e)) rfl (by decide) (Nat.le_of_ble_eq_true rfl) rfl ?_
  refine ax_callS (pc := 14) (kb := 0) (nb := 0) G (ct_argNb hA (B := (decide ((cPV pl s O D k).2 8 = 0))) (decide_eq_false hr)) lSX1_144 dX1_interrupting_14 rfl (by decide) (Nat.le_of_ble_eq_true rfl) rfl (fun _ e9 => by cases e9) (fun q9 e9 => ?_)
  cases e9
  exact ax_out G E (fun x hx => by cases hx)

theorem cq_alertReason_Y {Ω : ax_O} (hA : ax_Amb Ω) {h : ax_H} {a : Nat} {pl s : pR} {π : Nat → cP} {N V O A : Nat} {D : cD} (ha : Ω.2.1.heap.size ≤ a) (hp : pWP pl N V O) (hs : pWS s A) (hE : cEn h a pl s N V O A D) {X bf tr hi sv lb : Nat} {x1 x2 x3 : Int32} (hX : ∀ σ, (sH h a σ).1 X = some (.inr (0, [.ref bf, .int x1, .int x2, .int x3, .ref a, .ref tr, .ref hi, .ref sv, .ref lb]))) (k : Nat) (hk : k < A)  : ax_MetP Ω yX1_alertReason 20 4 24 [.ref X, .int (nI k)] (sH h a (s, π, (.ref (D.1 0)), (D.1 8))) (ax_Nm (fun v h' => v = some (.int (if s 0 < s (127 + 10 * k + 1) then nI 8 else (cPl pl s (20 + k) O (D.2.1 3 k) (nI k) (decide (s (127 + 10 * k + 7) = 0)) (pLeft s (pQ pl s (20 + k)))).2 8)) ∧ ∃ π', h' = sH h a (s, π', .ref (D.1 0), D.1 8))) := by
  refine ax_metP q2001 q113 (by decide +kernel) (by decide) hA (Nat.le_of_ble_eq_true rfl) (fun Γ G E => ?_)
  have hV9 := hp.lV
  have hA9 := hs.lA
  have hO9 := hp.lO
  show ax_W Ω Γ 4 24 (sH h a (s, π, (.ref (D.1 0)), (D.1 8))) 0 [some (.ref X), some (.int (nI k)), none] []
  refine ax_aload_n (pc := 0) G dX1_alertReason_0 rfl rfl ?_
  refine ax_iload_n (pc := 1) G dX1_alertReason_1 rfl rfl ?_
  refine ax_cV1 (pc := 2) (kb := 1) (nb := 6) G (cx_withAlertY hA (π := π) ha hp hs hE hX k (by omega)) lVX1_219_0 dX1_alertReason_2 (hX _) rfl (by decide) (Nat.le_of_ble_eq_true rfl) rfl ?_
  refine ax_astore_n (pc := 5) G dX1_alertReason_5 rfl (Nat.le_of_ble_eq_true rfl) rfl ?_
  refine ax_aload_n (pc := 6) G dX1_alertReason_6 rfl rfl ?_
  refine sr_get (pc := 7) (v := .ref (a + 2)) G flX1_100_1 dX1_alertReason_7 rfl ?_
  refine ax_iload_n (pc := 10) G dX1_alertReason_10 rfl rfl ?_
  refine ax_cJ1 (pc := 11) (kb := 1) (nb := 6) G (ct_lget hA ((hE (s, π, (.ref (D.1 0)), (D.1 8))).2.1).1 ((hE (s, π, (.ref (D.1 0)), (D.1 8))).2.1).2.1 (q := D.2.1 3 k) k (by omega) ((hE (s, π, (.ref (D.1 0)), (D.1 8))).2.1).2.2.1 ((hE (s, π, (.ref (D.1 0)), (D.1 8))).2.1).2.2.2.1 (((hE (s, π, (.ref (D.1 0)), (D.1 8))).2.1).2.2.2.2 k (by omega))) lJX1_7_16 dX1_alertReason_11 (((hE (s, π, (.ref (D.1 0)), (D.1 8))).2.1).1) rfl (by decide) (Nat.le_of_ble_eq_true rfl) rfl ?_
  refine ax_checkcast (pc := 16) G q1569 ⟨_, rfl, Or.inl rfl⟩ dX1_alertReason_16 ((hE (s, π, (.ref (D.1 0)), (D.1 8))).2.2 k (by omega)) ?_
  refine ax_getf (pc := 19) (v := .int (s (127 + 10 * k + 1))) G flX1_227_14 dX1_alertReason_19 ((hE (s, π, (.ref (D.1 0)), (D.1 8))).2.2 k (by omega)) rfl ?_
  refine ax_aload_n (pc := 22) G dX1_alertReason_22 rfl rfl ?_
  refine sr_get (pc := 23) (v := .int (s 0)) G flX1_243_1 dX1_alertReason_23 rfl ?_
  refine ax_icmp_le (pc := 26) (tgt := 32) G dX1_alertReason_26 rfl (fun c26 => ?_) (fun c26 => ?_)
  · refine ax_aload_n (pc := 32) G dX1_alertReason_32 rfl rfl ?_
    refine ax_iload_n (pc := 33) G dX1_alertReason_33 rfl rfl ?_
    refine ax_cV1 (pc := 34) (kb := 1) (nb := 6) G (ct_planAlert hA (π := π) ha hp hs hE k (by omega)) lVX1_349_1 dX1_alertReason_34 sH_obj rfl (by decide) (Nat.le_of_ble_eq_true rfl) rfl ?_
    show ax_W Ω Γ _ _ (sH h a (s, cU π 0 (cPl pl s (20 + k) O (D.2.1 3 k) (nI k) (decide (s (127 + 10 * k + 7) = 0)) (pLeft s (pQ pl s (20 + k)))), (.ref (D.1 0)), (D.1 8))) _ _ _
    refine ax_getf (pc := 37) (v := .int ((cPl pl s (20 + k) O (D.2.1 3 k) (nI k) (decide (s (127 + 10 * k + 7) = 0)) (pLeft s (pQ pl s (20 + k)))).2 8)) G flX1_332_6 dX1_alertReason_37 (sH_pe (k := 16) (by decide) (by decide) (show (cU π 0 (cPl pl s (20 + k) O (D.2.1 3 k) (nI k) (decide (s (127 + 10 * k + 7) = 0)) (pLeft s (pQ pl s (20 + k)))) : Nat → cP) 0 = (cPl pl s (20 + k) O (D.2.1 3 k) (nI k) (decide (s (127 + 10 * k + 7) = 0)) (pLeft s (pQ pl s (20 + k)))) from cU_e)) rfl ?_
    exact ax_iretP (pc := 40) G E rfl (rfl) dX1_alertReason_40 (⟨_, rfl, by rw [if_neg (Int32.not_lt.mpr c26)], _, rfl⟩)
  · refine ax_bipush (pc := 29) (v := nI 8) G dX1_alertReason_29 ib_8 ?_
    exact ax_iretP (pc := 31) G E rfl (rfl) dX1_alertReason_31 (⟨_, rfl, by rw [if_pos (Int32.not_le.mp c26)], _, rfl⟩)

theorem cq_alertReason_N {Ω : ax_O} (hA : ax_Amb Ω) {h : ax_H} {X bf tr hi sv lb : Nat} {x1 x2 x3 : Int32} (hX : h.1 X = some (.inr (0, [.ref bf, .int x1, .int x2, .int x3, .null, .ref tr, .ref hi, .ref sv, .ref lb]))) (k : Int32)  : ax_Met Ω yX1_alertReason 20 4 24 [.ref X, .int k] h (.inr h.2) (ax_add h (.inr (21, []))) := by
  refine ax_met q2001 q113 (by decide +kernel) (by decide) hA (Nat.le_of_ble_eq_true rfl) (fun Γ G E => ?_)
  show ax_W Ω Γ 4 24 h 0 [some (.ref X), some (.int k), none] []
  refine ax_aload_n (pc := 0) G dX1_alertReason_0 rfl rfl ?_
  refine ax_iload_n (pc := 1) G dX1_alertReason_1 rfl rfl ?_
  refine ax_callV (pc := 2) (kb := 1) (nb := 6) G (cx_withAlertN hA hX k) lVX1_219_0 dX1_alertReason_2 (hX) rfl (by decide) (Nat.le_of_ble_eq_true rfl) rfl (fun _ e9 => by cases e9) (fun q9 e9 => ?_)
  cases e9
  exact ax_out G E (fun x hx => by cases hx)

theorem cq_alertReason_B {Ω : ax_O} (hA : ax_Amb Ω) {h : ax_H} {a : Nat} {pl s : pR} {π : Nat → cP} {N V O A : Nat} {D : cD} (ha : Ω.2.1.heap.size ≤ a) (hp : pWP pl N V O) (hs : pWS s A) (hE : cEn h a pl s N V O A D) {X bf tr hi sv lb : Nat} {x1 x2 x3 : Int32} (hX : ∀ σ, (sH h a σ).1 X = some (.inr (0, [.ref bf, .int x1, .int x2, .int x3, .ref a, .ref tr, .ref hi, .ref sv, .ref lb]))) (k : Int32) (hb : pIn k (nI 0) (nI A - nI 1) = false)  : ax_Met Ω yX1_alertReason 20 4 24 [.ref X, .int k] (sH h a (s, π, (.ref (D.1 0)), (D.1 8))) (.inr (sH h a (s, π, (.ref (D.1 0)), (D.1 8))).2) (ax_add (sH h a (s, π, (.ref (D.1 0)), (D.1 8))) (.inr (22, []))) := by
  refine ax_met q2001 q113 (by decide +kernel) (by decide) hA (Nat.le_of_ble_eq_true rfl) (fun Γ G E => ?_)
  have hV9 := hp.lV
  have hA9 := hs.lA
  have hO9 := hp.lO
  show ax_W Ω Γ 4 24 (sH h a (s, π, (.ref (D.1 0)), (D.1 8))) 0 [some (.ref X), some (.int k), none] []
  refine ax_aload_n (pc := 0) G dX1_alertReason_0 rfl rfl ?_
  refine ax_iload_n (pc := 1) G dX1_alertReason_1 rfl rfl ?_
  refine ax_callV (pc := 2) (kb := 1) (nb := 6) G (cx_withAlertB hA (π := π) ha hp hs hE hX k hb) lVX1_219_0 dX1_alertReason_2 (hX _) rfl (by decide) (Nat.le_of_ble_eq_true rfl) rfl (fun _ e9 => by cases e9) (fun q9 e9 => ?_)
  cases e9
  exact ax_out G E (fun x hx => by cases hx)

theorem cq_latestBegin_Y {Ω : ax_O} (hA : ax_Amb Ω) {h : ax_H} {a : Nat} {pl s : pR} {π : Nat → cP} {N V O A : Nat} {D : cD} (ha : Ω.2.1.heap.size ≤ a) (hp : pWP pl N V O) (hs : pWS s A) (hE : cEn h a pl s N V O A D) {X bf tr hi sv lb : Nat} {x1 x2 x3 : Int32} (hX : ∀ σ, (sH h a σ).1 X = some (.inr (0, [.ref bf, .int x1, .int x2, .int x3, .ref a, .ref tr, .ref hi, .ref sv, .ref lb]))) {H T : Nat} (hH : pl 0 = nI H) (hH2 : H ≤ 2000) (hT : s 0 = nI T) (hTH : T ≤ H) (k : Nat) (hk : k < V)  : ax_MetP Ω yX1_latestBegin 20 4 24 [.ref X, .int (nI k)] (sH h a (s, π, (.ref (D.1 0)), (D.1 8))) (ax_Nm (fun v h' => v = some (.int (cLate pl s O D k T (H - T + 1))) ∧ ∃ π', h' = sH h a (s, π', .ref (D.1 0), D.1 8))) := by
  refine ax_metP q2012 q113 (by decide +kernel) (by decide) hA (Nat.le_of_ble_eq_true rfl) (fun Γ G E => ?_)
  have hV9 := hp.lV
  have hA9 := hs.lA
  have hO9 := hp.lO
  have L0 : ∀ (n : Nat) (π : Nat → cP), T + n ≤ H + 1 → cLate pl s O D k T n = cLate pl s O D k T (H - T + 1) → ax_W Ω Γ 1 6 (sH h a (s, π, (.ref (D.1 0)), (D.1 8))) 14 [some (.ref X), some (.int (nI k)), some (.ref a), some (.int (nI (T + n) - nI 1))] [] := by
    intro n
    induction n with
    | zero =>
      intro π hi hv
      rw [show nI (T + 0) - nI 1 = nI T - nI 1 from rfl]
      refine ax_iload_n (pc := 14) G dX1_latestBegin_14 rfl rfl ?_
      refine ax_aload_n (pc := 15) G dX1_latestBegin_15 rfl rfl ?_
      refine sr_get (pc := 16) (v := .int (s 0)) G flX1_243_1 dX1_latestBegin_16 rfl ?_
      refine ax_top (show Value.int (s 0) = .int (nI T) from congrArg Value.int (hT)) ?_
      refine ax_icmp_lt (pc := 19) (tgt := 42) G dX1_latestBegin_19 rfl (fun _ => ?_) (fun c9 => absurd (by exact lt_pred (by omega)) c9)
      refine ax_iconst (pc := 42) (v := (-1)) G dX1_latestBegin_42 (by decide) ?_
      exact ax_iretP (pc := 43) G E rfl (rfl) dX1_latestBegin_43 (⟨_, rfl, by rw [← hv]; rfl, _, rfl⟩)
    | succ n ih =>
      intro π hi hv
      rw [show nI (T + (n + 1)) - nI 1 = nI (T + n) from nI_sub (by omega)]
      refine ax_iload_n (pc := 14) G dX1_latestBegin_14 rfl rfl ?_
      refine ax_aload_n (pc := 15) G dX1_latestBegin_15 rfl rfl ?_
      refine sr_get (pc := 16) (v := .int (s 0)) G flX1_243_1 dX1_latestBegin_16 rfl ?_
      refine ax_top (show Value.int (s 0) = .int (nI T) from congrArg Value.int (hT)) ?_
      refine ax_icmp_ltN (pc := 19) (tgt := 42) G dX1_latestBegin_19 rfl (by omega) (by omega) (fun c19 => ?_) (fun c19 => ?_)
      · omega
      · refine ax_aload_n (pc := 22) G dX1_latestBegin_22 rfl rfl ?_
        refine ax_iload_n (pc := 23) G dX1_latestBegin_23 rfl rfl ?_
        refine ax_iload_n (pc := 24) G dX1_latestBegin_24 rfl rfl ?_
        refine ax_cV1 (pc := 25) (kb := 1) (nb := 6) G (ct_planAt hA (π := π) ha hp hs hE k (by omega) (nI (T + n))) lVX1_352_1 dX1_latestBegin_25 sH_obj rfl (by decide) (Nat.le_of_ble_eq_true rfl) rfl ?_
        show ax_W Ω Γ _ _ (sH h a (s, cU π 0 (cPl pl (upd s 0 (nI (T + n))) k O (D.2.1 1 k) (nI k) (decide (s (47 + k) = 0)) (pLeft s (pQ pl s k))), (.ref (D.1 0)), (D.1 8))) _ _ _
        refine ax_cV1 (pc := 28) (kb := 1) (nb := 6) G (ct_can hA (P := (cPl pl (upd s 0 (nI (T + n))) k O (D.2.1 1 k) (nI k) (decide (s (47 + k) = 0)) (pLeft s (pQ pl s k)))) (sH_pe (k := 16) (by decide) (by decide) (show (cU π 0 (cPl pl (upd s 0 (nI (T + n))) k O (D.2.1 1 k) (nI k) (decide (s (47 + k) = 0)) (pLeft s (pQ pl s k))) : Nat → cP) 0 = (cPl pl (upd s 0 (nI (T + n))) k O (D.2.1 1 k) (nI k) (decide (s (47 + k) = 0)) (pLeft s (pQ pl s k))) from cU_e))) lVX1_341_6 dX1_latestBegin_28 (sH_pe (k := 16) (by decide) (by decide) (show (cU π 0 (cPl pl (upd s 0 (nI (T + n))) k O (D.2.1 1 k) (nI k) (decide (s (47 + k) = 0)) (pLeft s (pQ pl s k))) : Nat → cP) 0 = (cPl pl (upd s 0 (nI (T + n))) k O (D.2.1 1 k) (nI k) (decide (s (47 + k) = 0)) (pLeft s (pQ pl s k))) from cU_e)) rfl (by decide) (Nat.le_of_ble_eq_true rfl) rfl ?_
        refine ax_if_eq (pc := 31) (tgt := 36) G dX1_latestBegin_31 rfl (fun c31 => ?_) (fun c31 => ?_)
        · have c31b := bI_f c31
          refine ax_iinc (pc := 36) (v := (nI (T + n)) + (-1)) G dX1_latestBegin_36 rfl rfl rfl ?_
          refine ax_goto (pc := 39) (tgt := 14) G dX1_latestBegin_39 rfl ?_
          rw [show nI (T + n) + (-1) = nI (T + n) - nI 1 from by rw [Int32.sub_eq_add_neg]; rfl]
          exact ih _ (by omega) (by rw [cLate, if_neg (of_decide_eq_false c31b)] at hv; exact hv)
        · have c31b := bI_t c31
          refine ax_iload_n (pc := 34) G dX1_latestBegin_34 rfl rfl ?_
          exact ax_iretP (pc := 35) G E rfl (rfl) dX1_latestBegin_35 (⟨_, rfl, by rw [← hv, cLate, if_pos (of_decide_eq_true c31b)], _, rfl⟩)
  show ax_W Ω Γ 4 24 (sH h a (s, π, (.ref (D.1 0)), (D.1 8))) 0 [some (.ref X), some (.int (nI k)), none, none] []
  refine ax_aload_n (pc := 0) G dX1_latestBegin_0 rfl rfl ?_
  refine ax_iload_n (pc := 1) G dX1_latestBegin_1 rfl rfl ?_
  refine ax_cV1 (pc := 2) (kb := 1) (nb := 6) G (cx_withVisitY hA (π := π) ha hp hs hE hX k (by omega)) lVX1_186_0 dX1_latestBegin_2 (hX _) rfl (by decide) (Nat.le_of_ble_eq_true rfl) rfl ?_
  refine ax_astore_n (pc := 5) G dX1_latestBegin_5 rfl (Nat.le_of_ble_eq_true rfl) rfl ?_
  refine ax_aload_n (pc := 6) G dX1_latestBegin_6 rfl rfl ?_
  refine sr_get (pc := 7) (v := .ref (D.1 0)) G flX1_83_1 dX1_latestBegin_7 rfl ?_
  refine ax_getf (pc := 10) (v := .int (pl 0)) G flX1_256_10 dX1_latestBegin_10 (((hE (s, π, (.ref (D.1 0)), (D.1 8))).1).1) rfl ?_
  refine ax_top (show Value.int (pl 0) = .int (nI H) from congrArg Value.int (hH)) ?_
  refine ax_istore_n (pc := 13) G dX1_latestBegin_13 rfl (Nat.le_of_ble_eq_true rfl) rfl ?_
  rw [show nI H = nI (T + (H - T + 1)) - nI 1 from ((nI_sub (by omega)).trans (congrArg nI (by omega))).symm]
  exact L0 (H - T + 1) _ (by omega) rfl

theorem cq_latestBegin_N {Ω : ax_O} (hA : ax_Amb Ω) {h : ax_H} {X bf tr hi sv lb : Nat} {x1 x2 x3 : Int32} (hX : h.1 X = some (.inr (0, [.ref bf, .int x1, .int x2, .int x3, .null, .ref tr, .ref hi, .ref sv, .ref lb]))) (k : Int32)  : ax_Met Ω yX1_latestBegin 20 4 24 [.ref X, .int k] h (.inr h.2) (ax_add h (.inr (21, []))) := by
  refine ax_met q2012 q113 (by decide +kernel) (by decide) hA (Nat.le_of_ble_eq_true rfl) (fun Γ G E => ?_)
  show ax_W Ω Γ 4 24 h 0 [some (.ref X), some (.int k), none, none] []
  refine ax_aload_n (pc := 0) G dX1_latestBegin_0 rfl rfl ?_
  refine ax_iload_n (pc := 1) G dX1_latestBegin_1 rfl rfl ?_
  refine ax_callV (pc := 2) (kb := 1) (nb := 6) G (cx_withVisitN hA hX k) lVX1_186_0 dX1_latestBegin_2 (hX) rfl (by decide) (Nat.le_of_ble_eq_true rfl) rfl (fun _ e9 => by cases e9) (fun q9 e9 => ?_)
  cases e9
  exact ax_out G E (fun x hx => by cases hx)

theorem cq_latestBegin_B {Ω : ax_O} (hA : ax_Amb Ω) {h : ax_H} {a : Nat} {pl s : pR} {π : Nat → cP} {N V O A : Nat} {D : cD} (ha : Ω.2.1.heap.size ≤ a) (hp : pWP pl N V O) (hs : pWS s A) (hE : cEn h a pl s N V O A D) {X bf tr hi sv lb : Nat} {x1 x2 x3 : Int32} (hX : ∀ σ, (sH h a σ).1 X = some (.inr (0, [.ref bf, .int x1, .int x2, .int x3, .ref a, .ref tr, .ref hi, .ref sv, .ref lb]))) (k : Int32) (hb : pIn k (nI 0) (nI V - nI 1) = false)  : ax_Met Ω yX1_latestBegin 20 4 24 [.ref X, .int k] (sH h a (s, π, (.ref (D.1 0)), (D.1 8))) (.inr (sH h a (s, π, (.ref (D.1 0)), (D.1 8))).2) (ax_add (sH h a (s, π, (.ref (D.1 0)), (D.1 8))) (.inr (22, []))) := by
  refine ax_met q2012 q113 (by decide +kernel) (by decide) hA (Nat.le_of_ble_eq_true rfl) (fun Γ G E => ?_)
  have hV9 := hp.lV
  have hA9 := hs.lA
  have hO9 := hp.lO
  show ax_W Ω Γ 4 24 (sH h a (s, π, (.ref (D.1 0)), (D.1 8))) 0 [some (.ref X), some (.int k), none, none] []
  refine ax_aload_n (pc := 0) G dX1_latestBegin_0 rfl rfl ?_
  refine ax_iload_n (pc := 1) G dX1_latestBegin_1 rfl rfl ?_
  refine ax_callV (pc := 2) (kb := 1) (nb := 6) G (cx_withVisitB hA (π := π) ha hp hs hE hX k hb) lVX1_186_0 dX1_latestBegin_2 (hX _) rfl (by decide) (Nat.le_of_ble_eq_true rfl) rfl (fun _ e9 => by cases e9) (fun q9 e9 => ?_)
  cases e9
  exact ax_out G E (fun x hx => by cases hx)

theorem cq_longest_Y {Ω : ax_O} (hA : ax_Amb Ω) {h : ax_H} {a : Nat} {pl s : pR} {π : Nat → cP} {N V O A : Nat} {D : cD} (ha : Ω.2.1.heap.size ≤ a) (hp : pWP pl N V O) (hs : pWS s A) (hE : cEn h a pl s N V O A D) {X bf tr hi sv lb : Nat} {x1 x2 x3 : Int32} (hX : ∀ σ, (sH h a σ).1 X = some (.inr (0, [.ref bf, .int x1, .int x2, .int x3, .ref a, .ref tr, .ref hi, .ref sv, .ref lb]))) {L : Nat} (hL : s 16 = nI L) (hl : L ≤ 100) (k : Nat) (hk : k ≤ 4)  : ax_Met Ω yX1_longest 20 4 24 [.ref X, .int (nI k)] (sH h a (s, π, (.ref (D.1 0)), (D.1 8))) (.inl (some (.int ((cLong s (nI k) L).1)))) (sH h a (s, π, (.ref (D.1 0)), (D.1 8))) := by
  refine ax_met q2068 q113 (by decide +kernel) (by decide) hA (Nat.le_of_ble_eq_true rfl) (fun Γ G E => ?_)
  have hV9 := hp.lV
  have hA9 := hs.lA
  have hO9 := hp.lO
  have L0 : ∀ (n i : Nat), i + n = L → ax_W Ω Γ 1 6 (sH h a (s, π, (.ref (D.1 0)), (D.1 8))) 24 [some (.ref X), some (.int (nI k)), some (.int ((cLong s (nI k) i).1)), some (.int ((cLong s (nI k) i).2)), some (.int (nI i)), none] [] := by
    intro n
    induction n with
    | zero =>
      intro i hi
      have hi9 : L = i := by omega
      subst hi9
      refine ax_iload (pc := 24) G dX1_longest_24 rfl ?_
      refine ax_aload_n (pc := 26) G dX1_longest_26 rfl rfl ?_
      refine ax_getf (pc := 27) (v := .ref a) G flX1_72_0 dX1_longest_27 (hX _) rfl ?_
      refine sr_get (pc := 30) (v := .int (s 16)) G flX1_369_1 dX1_longest_30 rfl ?_
      refine ax_top (show Value.int (s 16) = .int (nI L) from congrArg Value.int (hL)) ?_
      refine ax_icmp_geN (pc := 33) (tgt := 104) G dX1_longest_33 rfl (by omega) (by omega) (fun c33 => ?_) (fun c33 => ?_)
      · refine ax_iload_n (pc := 104) G dX1_longest_104 rfl rfl ?_
        exact ax_iretE (pc := 105) G E rfl (rfl) dX1_longest_105 (rfl) (rfl)
      · omega
    | succ n ih =>
      intro i hi
      have q := ih (i + 1) (by omega)
      refine ax_iload (pc := 24) G dX1_longest_24 rfl ?_
      refine ax_aload_n (pc := 26) G dX1_longest_26 rfl rfl ?_
      refine ax_getf (pc := 27) (v := .ref a) G flX1_72_0 dX1_longest_27 (hX _) rfl ?_
      refine sr_get (pc := 30) (v := .int (s 16)) G flX1_369_1 dX1_longest_30 rfl ?_
      refine ax_top (show Value.int (s 16) = .int (nI L) from congrArg Value.int (hL)) ?_
      refine ax_icmp_geN (pc := 33) (tgt := 104) G dX1_longest_33 rfl (by omega) (by omega) (fun c33 => ?_) (fun c33 => ?_)
      · omega
      · refine ax_aload_n (pc := 36) G dX1_longest_36 rfl rfl ?_
        refine ax_getf (pc := 37) (v := .ref a) G flX1_72_0 dX1_longest_37 (hX _) rfl ?_
        refine sr_get (pc := 40) (v := .ref (a + 15)) G flX1_374_1 dX1_longest_40 rfl ?_
        refine ax_iconst (pc := 43) (v := nI 4) G dX1_longest_43 ic_4 ?_
        refine ax_iload (pc := 44) G dX1_longest_44 rfl ?_
        refine ax_imulN (pc := 46) G dX1_longest_46 ?_
        refine ax_iconst (pc := 47) (v := nI 3) G dX1_longest_47 ic_3 ?_
        refine ax_iaddN (pc := 48) G dX1_longest_48 ?_
        refine sr_ld (pc := 49) (k := 15) (j := 4 * i + 3) (r := 227 + (4 * i + 3)) G dX1_longest_49 (by decide) (by decide) rfl rfl (show 4 * i + 3 < 400 by omega) ?_
        show ax_W Ω Γ _ _ _ _ _ (.int (s (227 + (4 * i + 3))) :: _)
        refine ax_aload_n (pc := 50) G dX1_longest_50 rfl rfl ?_
        refine ax_getf (pc := 51) (v := .ref a) G flX1_72_0 dX1_longest_51 (hX _) rfl ?_
        refine sr_get (pc := 54) (v := .ref (a + 15)) G flX1_374_1 dX1_longest_54 rfl ?_
        refine ax_iconst (pc := 57) (v := nI 4) G dX1_longest_57 ic_4 ?_
        refine ax_iload (pc := 58) G dX1_longest_58 rfl ?_
        refine ax_imulN (pc := 60) G dX1_longest_60 ?_
        refine ax_iconst (pc := 61) (v := nI 2) G dX1_longest_61 ic_2 ?_
        refine ax_iaddN (pc := 62) G dX1_longest_62 ?_
        refine sr_ld (pc := 63) (k := 15) (j := 4 * i + 2) (r := 227 + (4 * i + 2)) G dX1_longest_63 (by decide) (by decide) rfl rfl (show 4 * i + 2 < 400 by omega) ?_
        show ax_W Ω Γ _ _ _ _ _ (.int (s (227 + (4 * i + 2))) :: _)
        refine ax_isub (pc := 64) G dX1_longest_64 ?_
        refine ax_istore (pc := 65) G dX1_longest_65 (Nat.le_of_ble_eq_true rfl) rfl ?_
        refine ax_aload_n (pc := 67) G dX1_longest_67 rfl rfl ?_
        refine ax_getf (pc := 68) (v := .ref a) G flX1_72_0 dX1_longest_68 (hX _) rfl ?_
        refine sr_get (pc := 71) (v := .ref (a + 15)) G flX1_374_1 dX1_longest_71 rfl ?_
        refine ax_iconst (pc := 74) (v := nI 4) G dX1_longest_74 ic_4 ?_
        refine ax_iload (pc := 75) G dX1_longest_75 rfl ?_
        refine ax_imulN (pc := 77) G dX1_longest_77 ?_
        refine sr_ld (pc := 78) (k := 15) (j := 4 * i) (r := 227 + 4 * i) G dX1_longest_78 (by decide) (by decide) rfl rfl (show 4 * i < 400 by omega) ?_
        show ax_W Ω Γ _ _ _ _ _ (.int (s (227 + 4 * i)) :: _)
        refine ax_iload_n (pc := 79) G dX1_longest_79 rfl rfl ?_
        refine ax_icmp_ne (pc := 80) (tgt := 98) G dX1_longest_80 rfl (fun c80 => ?_) (fun c80 => ?_)
        · refine ax_iincN (pc := 98) (n := 1) G dX1_longest_98 rfl rfl ic_1 ?_
          refine ax_goto (pc := 101) (tgt := 24) G dX1_longest_101 rfl ?_
          rw [show cLong s (nI k) (i + 1) = cLong s (nI k) i from by rw [cLong, if_neg c80]] at q
          exact ax_last (xs := [some (.ref X), some (.int (nI k)), some (.int ((cLong s (nI k) i).1)), some (.int ((cLong s (nI k) i).2)), some (.int (nI (i + 1)))]) q
        · refine ax_iload (pc := 83) G dX1_longest_83 rfl ?_
          refine ax_iload_n (pc := 85) G dX1_longest_85 rfl rfl ?_
          refine ax_icmp_gt (pc := 86) (tgt := 92) G dX1_longest_86 rfl (fun c86 => ?_) (fun c86 => ?_)
          · refine ax_iload (pc := 92) G dX1_longest_92 rfl ?_
            refine ax_istore_n (pc := 94) G dX1_longest_94 rfl (Nat.le_of_ble_eq_true rfl) rfl ?_
            refine ax_iload (pc := 95) G dX1_longest_95 rfl ?_
            refine ax_istore_n (pc := 97) G dX1_longest_97 rfl (Nat.le_of_ble_eq_true rfl) rfl ?_
            refine ax_iincN (pc := 98) (n := 1) G dX1_longest_98 rfl rfl ic_1 ?_
            refine ax_goto (pc := 101) (tgt := 24) G dX1_longest_101 rfl ?_
            rw [show cLong s (nI k) (i + 1) = (nI i, s (227 + (4 * i + 3)) - s (227 + (4 * i + 2))) from by rw [cLong, if_pos c80, if_neg (Int32.not_le.mpr c86)]] at q
            exact ax_last (xs := [some (.ref X), some (.int (nI k)), some (.int (nI i)), some (.int ((s (227 + (4 * i + 3))) - (s (227 + (4 * i + 2))))), some (.int (nI (i + 1)))]) q
          · refine ax_goto (pc := 89) (tgt := 98) G dX1_longest_89 rfl ?_
            refine ax_iincN (pc := 98) (n := 1) G dX1_longest_98 rfl rfl ic_1 ?_
            refine ax_goto (pc := 101) (tgt := 24) G dX1_longest_101 rfl ?_
            rw [show cLong s (nI k) (i + 1) = cLong s (nI k) i from by rw [cLong, if_pos c80, if_pos (Int32.not_lt.mp c86)]] at q
            exact ax_last (xs := [some (.ref X), some (.int (nI k)), some (.int ((cLong s (nI k) i).1)), some (.int ((cLong s (nI k) i).2)), some (.int (nI (i + 1)))]) q
  show ax_W Ω Γ 4 24 (sH h a (s, π, (.ref (D.1 0)), (D.1 8))) 0 [some (.ref X), some (.int (nI k)), none, none, none, none] []
  refine ax_aload_n (pc := 0) G dX1_longest_0 rfl rfl ?_
  refine ax_cV1 (pc := 1) (kb := 2) (nb := 12) G (cx_thereY hA (π := π) ha hp hs hE hX) lVX1_79_0 dX1_longest_1 (hX _) rfl (by decide) (Nat.le_of_ble_eq_true rfl) rfl ?_
  refine ax_pop (pc := 4) G dX1_longest_4 rfl ?_
  refine ax_iload_n (pc := 5) G dX1_longest_5 rfl rfl ?_
  refine ax_i2l (pc := 6) G dX1_longest_6 rfl ?_
  refine ax_lconst (pc := 7) (v := 0) G dX1_longest_7 rfl ?_
  refine ax_ldc2 (pc := 8) G q2069 dX1_longest_8 ?_
  refine ax_cS1 (pc := 11) (kb := 2) (nb := 12) G (ct_in hA ((nI k).toInt64) 0 4) lSX1_62 dX1_longest_11 rfl (by decide) (Nat.le_of_ble_eq_true rfl) rfl ?_
  rw [cIn_k (A := 0) (B := 4) (a := (nI 0)) (b := (nI 4)) (nI k) (by decide) (by decide)]
  refine ax_cS0 (pc := 14) (kb := 1) (nb := 6) G (ct_argYb hA (B := (pIn (nI k) (nI 0) (nI 4))) (px_y hk (by omega))) lSX1_144 dX1_longest_14 rfl (by decide) (Nat.le_of_ble_eq_true rfl) rfl ?_
  refine ax_iconst (pc := 17) (v := (-1)) G dX1_longest_17 (by decide) ?_
  refine ax_istore_n (pc := 18) G dX1_longest_18 rfl (Nat.le_of_ble_eq_true rfl) rfl ?_
  refine ax_iconst (pc := 19) (v := (-1)) G dX1_longest_19 (by decide) ?_
  refine ax_istore_n (pc := 20) G dX1_longest_20 rfl (Nat.le_of_ble_eq_true rfl) rfl ?_
  refine ax_iconst (pc := 21) (v := nI 0) G dX1_longest_21 ic_0 ?_
  refine ax_istore (pc := 22) G dX1_longest_22 (Nat.le_of_ble_eq_true rfl) rfl ?_
  exact L0 L 0 (by omega)

theorem cq_longest_N {Ω : ax_O} (hA : ax_Amb Ω) {h : ax_H} {X bf tr hi sv lb : Nat} {x1 x2 x3 : Int32} (hX : h.1 X = some (.inr (0, [.ref bf, .int x1, .int x2, .int x3, .null, .ref tr, .ref hi, .ref sv, .ref lb]))) (k : Int32)  : ax_Met Ω yX1_longest 20 4 24 [.ref X, .int k] h (.inr h.2) (ax_add h (.inr (21, []))) := by
  refine ax_met q2068 q113 (by decide +kernel) (by decide) hA (Nat.le_of_ble_eq_true rfl) (fun Γ G E => ?_)
  show ax_W Ω Γ 4 24 h 0 [some (.ref X), some (.int k), none, none, none, none] []
  refine ax_aload_n (pc := 0) G dX1_longest_0 rfl rfl ?_
  refine ax_callV (pc := 1) (kb := 2) (nb := 12) G (cx_thereN hA hX) lVX1_79_0 dX1_longest_1 (hX) rfl (by decide) (Nat.le_of_ble_eq_true rfl) rfl (fun _ e9 => by cases e9) (fun q9 e9 => ?_)
  cases e9
  exact ax_out G E (fun x hx => by cases hx)

theorem cq_longest_B {Ω : ax_O} (hA : ax_Amb Ω) {h : ax_H} {a : Nat} {pl s : pR} {π : Nat → cP} {N V O A : Nat} {D : cD} (ha : Ω.2.1.heap.size ≤ a) (hp : pWP pl N V O) (hs : pWS s A) (hE : cEn h a pl s N V O A D) {X bf tr hi sv lb : Nat} {x1 x2 x3 : Int32} (hX : ∀ σ, (sH h a σ).1 X = some (.inr (0, [.ref bf, .int x1, .int x2, .int x3, .ref a, .ref tr, .ref hi, .ref sv, .ref lb]))) (k : Int32) (hb : pIn k (nI 0) (nI 4) = false)  : ax_Met Ω yX1_longest 20 4 24 [.ref X, .int k] (sH h a (s, π, (.ref (D.1 0)), (D.1 8))) (.inr (sH h a (s, π, (.ref (D.1 0)), (D.1 8))).2) (ax_add (sH h a (s, π, (.ref (D.1 0)), (D.1 8))) (.inr (20, []))) := by
  refine ax_met q2068 q113 (by decide +kernel) (by decide) hA (Nat.le_of_ble_eq_true rfl) (fun Γ G E => ?_)
  have hV9 := hp.lV
  have hA9 := hs.lA
  have hO9 := hp.lO
  show ax_W Ω Γ 4 24 (sH h a (s, π, (.ref (D.1 0)), (D.1 8))) 0 [some (.ref X), some (.int k), none, none, none, none] []
  refine ax_aload_n (pc := 0) G dX1_longest_0 rfl rfl ?_
  refine ax_cV1 (pc := 1) (kb := 2) (nb := 12) G (cx_thereY hA (π := π) ha hp hs hE hX) lVX1_79_0 dX1_longest_1 (hX _) rfl (by decide) (Nat.le_of_ble_eq_true rfl) rfl ?_
  refine ax_pop (pc := 4) G dX1_longest_4 rfl ?_
  refine ax_iload_n (pc := 5) G dX1_longest_5 rfl rfl ?_
  refine ax_i2l (pc := 6) G dX1_longest_6 rfl ?_
  refine ax_lconst (pc := 7) (v := 0) G dX1_longest_7 rfl ?_
  refine ax_ldc2 (pc := 8) G q2069 dX1_longest_8 ?_
  refine ax_cS1 (pc := 11) (kb := 2) (nb := 12) G (ct_in hA k.toInt64 0 4) lSX1_62 dX1_longest_11 rfl (by decide) (Nat.le_of_ble_eq_true rfl) rfl ?_
  rw [cIn_k (A := 0) (B := 4) (a := (nI 0)) (b := (nI 4)) k (by decide) (by decide)]
  refine ax_callS (pc := 14) (kb := 1) (nb := 6) G (ct_argNb hA (B := (pIn k (nI 0) (nI 4))) (hb)) lSX1_144 dX1_longest_14 rfl (by decide) (Nat.le_of_ble_eq_true rfl) rfl (fun _ e9 => by cases e9) (fun q9 e9 => ?_)
  cases e9
  exact ax_out G E (fun x hx => by cases hx)

