/-! TelescopeQueue: what is asked -/
theorem cq_buffered {Ω : ax_O} (hA : ax_Amb Ω) {h : ax_H} {X bf tr hi sv lb : Nat} {x1 x2 x3 : Int32} {stv : Value} (hX : h.1 X = some (.inr (0, [.ref bf, .int x1, .int x2, .int x3, stv, .ref tr, .ref hi, .ref sv, .ref lb])))  : ax_Met Ω yX1_buffered 20 0 0 [.ref X] h (.inl (some (.int x1))) h := by
  refine ax_met q783 q113 (by decide +kernel) (by decide) hA (Nat.le_of_ble_eq_true rfl) (fun Γ G E => ?_)
  show ax_W Ω Γ 0 0 h 0 [some (.ref X)] []
  refine ax_aload_n (pc := 0) G dX1_buffered_0 rfl rfl ?_
  refine ax_getf (pc := 1) (v := .int x1) G flX1_109_0 dX1_buffered_1 (hX) rfl ?_
  exact ax_iretE (pc := 4) G E rfl (rfl) dX1_buffered_4 (rfl) (rfl)

theorem cq_parseError {Ω : ax_O} (hA : ax_Amb Ω) {h : ax_H} {X bf tr hi sv lb : Nat} {x1 x2 x3 : Int32} {stv : Value} (hX : h.1 X = some (.inr (0, [.ref bf, .int x1, .int x2, .int x3, stv, .ref tr, .ref hi, .ref sv, .ref lb])))  : ax_Met Ω yX1_parseError 20 0 0 [.ref X] h (.inl (some (.int x2))) h := by
  refine ax_met q775 q113 (by decide +kernel) (by decide) hA (Nat.le_of_ble_eq_true rfl) (fun Γ G E => ?_)
  show ax_W Ω Γ 0 0 h 0 [some (.ref X)] []
  refine ax_aload_n (pc := 0) G dX1_parseError_0 rfl rfl ?_
  refine ax_getf (pc := 1) (v := .int x2) G flX1_116_0 dX1_parseError_1 (hX) rfl ?_
  exact ax_iretE (pc := 4) G E rfl (rfl) dX1_parseError_4 (rfl) (rfl)

theorem cq_errorPosition {Ω : ax_O} (hA : ax_Amb Ω) {h : ax_H} {X bf tr hi sv lb : Nat} {x1 x2 x3 : Int32} {stv : Value} (hX : h.1 X = some (.inr (0, [.ref bf, .int x1, .int x2, .int x3, stv, .ref tr, .ref hi, .ref sv, .ref lb])))  : ax_Met Ω yX1_errorPosition 20 0 0 [.ref X] h (.inl (some (.int x3))) h := by
  refine ax_met q779 q113 (by decide +kernel) (by decide) hA (Nat.le_of_ble_eq_true rfl) (fun Γ G E => ?_)
  show ax_W Ω Γ 0 0 h 0 [some (.ref X)] []
  refine ax_aload_n (pc := 0) G dX1_errorPosition_0 rfl rfl ?_
  refine ax_getf (pc := 1) (v := .int x3) G flX1_28_0 dX1_errorPosition_1 (hX) rfl ?_
  exact ax_iretE (pc := 4) G E rfl (rfl) dX1_errorPosition_4 (rfl) (rfl)

theorem cq_proposals_Y {Ω : ax_O} (hA : ax_Amb Ω) {h : ax_H} {a : Nat} {pl s : pR} {π : Nat → cP} {N V O A : Nat} {D : cD} (ha : Ω.2.1.heap.size ≤ a) (hp : pWP pl N V O) (hs : pWS s A) (hE : cEn h a pl s N V O A D) {X bf tr hi sv lb : Nat} {x1 x2 x3 : Int32} (hX : ∀ σ, (sH h a σ).1 X = some (.inr (0, [.ref bf, .int x1, .int x2, .int x3, .ref a, .ref tr, .ref hi, .ref sv, .ref lb])))  : ax_Met Ω yX1_proposals 20 4 24 [.ref X] (sH h a (s, π, (.ref (D.1 0)), (D.1 8))) (.inl (some (.int (nI N)))) (sH h a (s, π, (.ref (D.1 0)), (D.1 8))) := by
  refine ax_met q787 q113 (by decide +kernel) (by decide) hA (Nat.le_of_ble_eq_true rfl) (fun Γ G E => ?_)
  have hV9 := hp.lV
  have hA9 := hs.lA
  have hO9 := hp.lO
  show ax_W Ω Γ 4 24 (sH h a (s, π, (.ref (D.1 0)), (D.1 8))) 0 [some (.ref X)] []
  refine ax_aload_n (pc := 0) G dX1_proposals_0 rfl rfl ?_
  refine ax_getf (pc := 1) (v := .ref a) G flX1_72_0 dX1_proposals_1 (hX _) rfl ?_
  refine ax_ifnonnull (pc := 4) (tgt := 11) G dX1_proposals_4 rfl ?_
  refine ax_aload_n (pc := 11) G dX1_proposals_11 rfl rfl ?_
  refine ax_getf (pc := 12) (v := .ref a) G flX1_72_0 dX1_proposals_12 (hX _) rfl ?_
  refine sr_get (pc := 15) (v := .ref (D.1 0)) G flX1_83_1 dX1_proposals_15 rfl ?_
  refine ax_getf (pc := 18) (v := .ref (D.1 1)) G flX1_87_10 dX1_proposals_18 (((hE (s, π, (.ref (D.1 0)), (D.1 8))).1).1) rfl ?_
  refine ax_cJ1 (pc := 21) (kb := 4) (nb := 24) G (ct_lsize hA (((hE (s, π, (.ref (D.1 0)), (D.1 8))).1).2.1).1) lJX1_1_16 dX1_proposals_21 ((((hE (s, π, (.ref (D.1 0)), (D.1 8))).1).2.1).1) rfl (by decide) (Nat.le_of_ble_eq_true rfl) rfl ?_
  exact ax_iretE (pc := 26) G E rfl (rfl) dX1_proposals_26 (rfl) (rfl)

theorem cq_proposals_N {Ω : ax_O} (hA : ax_Amb Ω) {h : ax_H} {X bf tr hi sv lb : Nat} {x1 x2 x3 : Int32} (hX : h.1 X = some (.inr (0, [.ref bf, .int x1, .int x2, .int x3, .null, .ref tr, .ref hi, .ref sv, .ref lb])))  : ax_Met Ω yX1_proposals 20 4 24 [.ref X] h (.inl (some (.int (nI 0)))) h := by
  refine ax_met q787 q113 (by decide +kernel) (by decide) hA (Nat.le_of_ble_eq_true rfl) (fun Γ G E => ?_)
  show ax_W Ω Γ 4 24 h 0 [some (.ref X)] []
  refine ax_aload_n (pc := 0) G dX1_proposals_0 rfl rfl ?_
  refine ax_getf (pc := 1) (v := .null) G flX1_72_0 dX1_proposals_1 (hX) rfl ?_
  refine ax_ifnonnullN (pc := 4) G dX1_proposals_4 ?_
  refine ax_iconst (pc := 7) (v := nI 0) G dX1_proposals_7 ic_0 ?_
  refine ax_goto (pc := 8) (tgt := 26) G dX1_proposals_8 rfl ?_
  exact ax_iretE (pc := 26) G E rfl (rfl) dX1_proposals_26 (rfl) (rfl)

theorem cq_visits_Y {Ω : ax_O} (hA : ax_Amb Ω) {h : ax_H} {a : Nat} {pl s : pR} {π : Nat → cP} {N V O A : Nat} {D : cD} (ha : Ω.2.1.heap.size ≤ a) (hp : pWP pl N V O) (hs : pWS s A) (hE : cEn h a pl s N V O A D) {X bf tr hi sv lb : Nat} {x1 x2 x3 : Int32} (hX : ∀ σ, (sH h a σ).1 X = some (.inr (0, [.ref bf, .int x1, .int x2, .int x3, .ref a, .ref tr, .ref hi, .ref sv, .ref lb])))  : ax_Met Ω yX1_visits 20 4 24 [.ref X] (sH h a (s, π, (.ref (D.1 0)), (D.1 8))) (.inl (some (.int (nI V)))) (sH h a (s, π, (.ref (D.1 0)), (D.1 8))) := by
  refine ax_met q801 q113 (by decide +kernel) (by decide) hA (Nat.le_of_ble_eq_true rfl) (fun Γ G E => ?_)
  have hV9 := hp.lV
  have hA9 := hs.lA
  have hO9 := hp.lO
  show ax_W Ω Γ 4 24 (sH h a (s, π, (.ref (D.1 0)), (D.1 8))) 0 [some (.ref X)] []
  refine ax_aload_n (pc := 0) G dX1_visits_0 rfl rfl ?_
  refine ax_getf (pc := 1) (v := .ref a) G flX1_72_0 dX1_visits_1 (hX _) rfl ?_
  refine ax_ifnonnull (pc := 4) (tgt := 11) G dX1_visits_4 rfl ?_
  refine ax_aload_n (pc := 11) G dX1_visits_11 rfl rfl ?_
  refine ax_getf (pc := 12) (v := .ref a) G flX1_72_0 dX1_visits_12 (hX _) rfl ?_
  refine sr_get (pc := 15) (v := .ref (D.1 0)) G flX1_83_1 dX1_visits_15 rfl ?_
  refine ax_getf (pc := 18) (v := .ref (D.1 2)) G flX1_97_10 dX1_visits_18 (((hE (s, π, (.ref (D.1 0)), (D.1 8))).1).1) rfl ?_
  refine ax_cJ1 (pc := 21) (kb := 4) (nb := 24) G (ct_lsize hA ((hE (s, π, (.ref (D.1 0)), (D.1 8))).1.2.2.1).1) lJX1_1_16 dX1_visits_21 (((hE (s, π, (.ref (D.1 0)), (D.1 8))).1.2.2.1).1) rfl (by decide) (Nat.le_of_ble_eq_true rfl) rfl ?_
  exact ax_iretE (pc := 26) G E rfl (rfl) dX1_visits_26 (rfl) (rfl)

theorem cq_visits_N {Ω : ax_O} (hA : ax_Amb Ω) {h : ax_H} {X bf tr hi sv lb : Nat} {x1 x2 x3 : Int32} (hX : h.1 X = some (.inr (0, [.ref bf, .int x1, .int x2, .int x3, .null, .ref tr, .ref hi, .ref sv, .ref lb])))  : ax_Met Ω yX1_visits 20 4 24 [.ref X] h (.inl (some (.int (nI 0)))) h := by
  refine ax_met q801 q113 (by decide +kernel) (by decide) hA (Nat.le_of_ble_eq_true rfl) (fun Γ G E => ?_)
  show ax_W Ω Γ 4 24 h 0 [some (.ref X)] []
  refine ax_aload_n (pc := 0) G dX1_visits_0 rfl rfl ?_
  refine ax_getf (pc := 1) (v := .null) G flX1_72_0 dX1_visits_1 (hX) rfl ?_
  refine ax_ifnonnullN (pc := 4) G dX1_visits_4 ?_
  refine ax_iconst (pc := 7) (v := nI 0) G dX1_visits_7 ic_0 ?_
  refine ax_goto (pc := 8) (tgt := 26) G dX1_visits_8 rfl ?_
  exact ax_iretE (pc := 26) G E rfl (rfl) dX1_visits_26 (rfl) (rfl)

theorem cq_alerts_Y {Ω : ax_O} (hA : ax_Amb Ω) {h : ax_H} {a : Nat} {pl s : pR} {π : Nat → cP} {N V O A : Nat} {D : cD} (ha : Ω.2.1.heap.size ≤ a) (hp : pWP pl N V O) (hs : pWS s A) (hE : cEn h a pl s N V O A D) {X bf tr hi sv lb : Nat} {x1 x2 x3 : Int32} (hX : ∀ σ, (sH h a σ).1 X = some (.inr (0, [.ref bf, .int x1, .int x2, .int x3, .ref a, .ref tr, .ref hi, .ref sv, .ref lb])))  : ax_Met Ω yX1_alerts 20 4 24 [.ref X] (sH h a (s, π, (.ref (D.1 0)), (D.1 8))) (.inl (some (.int (nI A)))) (sH h a (s, π, (.ref (D.1 0)), (D.1 8))) := by
  refine ax_met q805 q113 (by decide +kernel) (by decide) hA (Nat.le_of_ble_eq_true rfl) (fun Γ G E => ?_)
  have hV9 := hp.lV
  have hA9 := hs.lA
  have hO9 := hp.lO
  show ax_W Ω Γ 4 24 (sH h a (s, π, (.ref (D.1 0)), (D.1 8))) 0 [some (.ref X)] []
  refine ax_aload_n (pc := 0) G dX1_alerts_0 rfl rfl ?_
  refine ax_getf (pc := 1) (v := .ref a) G flX1_72_0 dX1_alerts_1 (hX _) rfl ?_
  refine ax_ifnonnull (pc := 4) (tgt := 11) G dX1_alerts_4 rfl ?_
  refine ax_aload_n (pc := 11) G dX1_alerts_11 rfl rfl ?_
  refine ax_getf (pc := 12) (v := .ref a) G flX1_72_0 dX1_alerts_12 (hX _) rfl ?_
  refine sr_get (pc := 15) (v := .ref (a + 2)) G flX1_100_1 dX1_alerts_15 rfl ?_
  refine ax_cJ1 (pc := 18) (kb := 4) (nb := 24) G (ct_lsize hA ((hE (s, π, (.ref (D.1 0)), (D.1 8))).2.1).1) lJX1_1_16 dX1_alerts_18 (((hE (s, π, (.ref (D.1 0)), (D.1 8))).2.1).1) rfl (by decide) (Nat.le_of_ble_eq_true rfl) rfl ?_
  exact ax_iretE (pc := 23) G E rfl (rfl) dX1_alerts_23 (rfl) (rfl)

theorem cq_alerts_N {Ω : ax_O} (hA : ax_Amb Ω) {h : ax_H} {X bf tr hi sv lb : Nat} {x1 x2 x3 : Int32} (hX : h.1 X = some (.inr (0, [.ref bf, .int x1, .int x2, .int x3, .null, .ref tr, .ref hi, .ref sv, .ref lb])))  : ax_Met Ω yX1_alerts 20 4 24 [.ref X] h (.inl (some (.int (nI 0)))) h := by
  refine ax_met q805 q113 (by decide +kernel) (by decide) hA (Nat.le_of_ble_eq_true rfl) (fun Γ G E => ?_)
  show ax_W Ω Γ 4 24 h 0 [some (.ref X)] []
  refine ax_aload_n (pc := 0) G dX1_alerts_0 rfl rfl ?_
  refine ax_getf (pc := 1) (v := .null) G flX1_72_0 dX1_alerts_1 (hX) rfl ?_
  refine ax_ifnonnullN (pc := 4) G dX1_alerts_4 ?_
  refine ax_iconst (pc := 7) (v := nI 0) G dX1_alerts_7 ic_0 ?_
  refine ax_goto (pc := 8) (tgt := 23) G dX1_alerts_8 rfl ?_
  exact ax_iretE (pc := 23) G E rfl (rfl) dX1_alerts_23 (rfl) (rfl)

theorem cq_entries_Y {Ω : ax_O} (hA : ax_Amb Ω) {h : ax_H} {a : Nat} {pl s : pR} {π : Nat → cP} {N V O A : Nat} {D : cD} (ha : Ω.2.1.heap.size ≤ a) (hp : pWP pl N V O) (hs : pWS s A) (hE : cEn h a pl s N V O A D) {X bf tr hi sv lb : Nat} {x1 x2 x3 : Int32} (hX : ∀ σ, (sH h a σ).1 X = some (.inr (0, [.ref bf, .int x1, .int x2, .int x3, .ref a, .ref tr, .ref hi, .ref sv, .ref lb])))  : ax_Met Ω yX1_entries 20 4 24 [.ref X] (sH h a (s, π, (.ref (D.1 0)), (D.1 8))) (.inl (some (.int (s 16)))) (sH h a (s, π, (.ref (D.1 0)), (D.1 8))) := by
  refine ax_met q809 q113 (by decide +kernel) (by decide) hA (Nat.le_of_ble_eq_true rfl) (fun Γ G E => ?_)
  have hV9 := hp.lV
  have hA9 := hs.lA
  have hO9 := hp.lO
  show ax_W Ω Γ 4 24 (sH h a (s, π, (.ref (D.1 0)), (D.1 8))) 0 [some (.ref X)] []
  refine ax_aload_n (pc := 0) G dX1_entries_0 rfl rfl ?_
  refine ax_getf (pc := 1) (v := .ref a) G flX1_72_0 dX1_entries_1 (hX _) rfl ?_
  refine ax_ifnonnull (pc := 4) (tgt := 11) G dX1_entries_4 rfl ?_
  refine ax_aload_n (pc := 11) G dX1_entries_11 rfl rfl ?_
  refine ax_getf (pc := 12) (v := .ref a) G flX1_72_0 dX1_entries_12 (hX _) rfl ?_
  refine sr_get (pc := 15) (v := .int (s 16)) G flX1_369_1 dX1_entries_15 rfl ?_
  exact ax_iretE (pc := 18) G E rfl (rfl) dX1_entries_18 (rfl) (rfl)

theorem cq_entries_N {Ω : ax_O} (hA : ax_Amb Ω) {h : ax_H} {X bf tr hi sv lb : Nat} {x1 x2 x3 : Int32} (hX : h.1 X = some (.inr (0, [.ref bf, .int x1, .int x2, .int x3, .null, .ref tr, .ref hi, .ref sv, .ref lb])))  : ax_Met Ω yX1_entries 20 4 24 [.ref X] h (.inl (some (.int (nI 0)))) h := by
  refine ax_met q809 q113 (by decide +kernel) (by decide) hA (Nat.le_of_ble_eq_true rfl) (fun Γ G E => ?_)
  show ax_W Ω Γ 4 24 h 0 [some (.ref X)] []
  refine ax_aload_n (pc := 0) G dX1_entries_0 rfl rfl ?_
  refine ax_getf (pc := 1) (v := .null) G flX1_72_0 dX1_entries_1 (hX) rfl ?_
  refine ax_ifnonnullN (pc := 4) G dX1_entries_4 ?_
  refine ax_iconst (pc := 7) (v := nI 0) G dX1_entries_7 ic_0 ?_
  refine ax_goto (pc := 8) (tgt := 18) G dX1_entries_8 rfl ?_
  exact ax_iretE (pc := 18) G E rfl (rfl) dX1_entries_18 (rfl) (rfl)

theorem cq_stateOf_Y {Ω : ax_O} (hA : ax_Amb Ω) {h : ax_H} {a : Nat} {pl s : pR} {π : Nat → cP} {N V O A : Nat} {D : cD} (ha : Ω.2.1.heap.size ≤ a) (hp : pWP pl N V O) (hs : pWS s A) (hE : cEn h a pl s N V O A D) {X bf tr hi sv lb : Nat} {x1 x2 x3 : Int32} (hX : ∀ σ, (sH h a σ).1 X = some (.inr (0, [.ref bf, .int x1, .int x2, .int x3, .ref a, .ref tr, .ref hi, .ref sv, .ref lb]))) (k : Nat) (hk : k < V)  : ax_Met Ω yX1_stateOf 20 4 24 [.ref X, .int (nI k)] (sH h a (s, π, (.ref (D.1 0)), (D.1 8))) (.inl (some (.int (s (47 + k))))) (sH h a (s, π, (.ref (D.1 0)), (D.1 8))) := by
  refine ax_met q1543 q113 (by decide +kernel) (by decide) hA (Nat.le_of_ble_eq_true rfl) (fun Γ G E => ?_)
  have hV9 := hp.lV
  have hA9 := hs.lA
  have hO9 := hp.lO
  show ax_W Ω Γ 4 24 (sH h a (s, π, (.ref (D.1 0)), (D.1 8))) 0 [some (.ref X), some (.int (nI k))] []
  refine ax_aload_n (pc := 0) G dX1_stateOf_0 rfl rfl ?_
  refine ax_iload_n (pc := 1) G dX1_stateOf_1 rfl rfl ?_
  refine ax_cV1 (pc := 2) (kb := 1) (nb := 6) G (cx_withVisitY hA (π := π) ha hp hs hE hX k (by omega)) lVX1_186_0 dX1_stateOf_2 (hX _) rfl (by decide) (Nat.le_of_ble_eq_true rfl) rfl ?_
  refine sr_get (pc := 5) (v := .ref (a + 8)) G flX1_161_1 dX1_stateOf_5 rfl ?_
  refine ax_iload_n (pc := 8) G dX1_stateOf_8 rfl rfl ?_
  refine sr_ld (pc := 9) (k := 8) (j := k) (r := 47 + k) G dX1_stateOf_9 (by decide) (by decide) rfl rfl (show k < 20 by omega) ?_
  show ax_W Ω Γ _ _ _ _ _ (.int (s (47 + k)) :: _)
  exact ax_iretE (pc := 10) G E rfl (rfl) dX1_stateOf_10 (rfl) (rfl)

theorem cq_stateOf_N {Ω : ax_O} (hA : ax_Amb Ω) {h : ax_H} {X bf tr hi sv lb : Nat} {x1 x2 x3 : Int32} (hX : h.1 X = some (.inr (0, [.ref bf, .int x1, .int x2, .int x3, .null, .ref tr, .ref hi, .ref sv, .ref lb]))) (k : Int32)  : ax_Met Ω yX1_stateOf 20 4 24 [.ref X, .int k] h (.inr h.2) (ax_add h (.inr (21, []))) := by
  refine ax_met q1543 q113 (by decide +kernel) (by decide) hA (Nat.le_of_ble_eq_true rfl) (fun Γ G E => ?_)
  show ax_W Ω Γ 4 24 h 0 [some (.ref X), some (.int k)] []
  refine ax_aload_n (pc := 0) G dX1_stateOf_0 rfl rfl ?_
  refine ax_iload_n (pc := 1) G dX1_stateOf_1 rfl rfl ?_
  refine ax_callV (pc := 2) (kb := 1) (nb := 6) G (cx_withVisitN hA hX k) lVX1_186_0 dX1_stateOf_2 (hX) rfl (by decide) (Nat.le_of_ble_eq_true rfl) rfl (fun _ e9 => by cases e9) (fun q9 e9 => ?_)
  cases e9
  exact ax_out G E (fun x hx => by cases hx)

theorem cq_stateOf_B {Ω : ax_O} (hA : ax_Amb Ω) {h : ax_H} {a : Nat} {pl s : pR} {π : Nat → cP} {N V O A : Nat} {D : cD} (ha : Ω.2.1.heap.size ≤ a) (hp : pWP pl N V O) (hs : pWS s A) (hE : cEn h a pl s N V O A D) {X bf tr hi sv lb : Nat} {x1 x2 x3 : Int32} (hX : ∀ σ, (sH h a σ).1 X = some (.inr (0, [.ref bf, .int x1, .int x2, .int x3, .ref a, .ref tr, .ref hi, .ref sv, .ref lb]))) (k : Int32) (hb : pIn k (nI 0) (nI V - nI 1) = false)  : ax_Met Ω yX1_stateOf 20 4 24 [.ref X, .int k] (sH h a (s, π, (.ref (D.1 0)), (D.1 8))) (.inr (sH h a (s, π, (.ref (D.1 0)), (D.1 8))).2) (ax_add (sH h a (s, π, (.ref (D.1 0)), (D.1 8))) (.inr (22, []))) := by
  refine ax_met q1543 q113 (by decide +kernel) (by decide) hA (Nat.le_of_ble_eq_true rfl) (fun Γ G E => ?_)
  have hV9 := hp.lV
  have hA9 := hs.lA
  have hO9 := hp.lO
  show ax_W Ω Γ 4 24 (sH h a (s, π, (.ref (D.1 0)), (D.1 8))) 0 [some (.ref X), some (.int k)] []
  refine ax_aload_n (pc := 0) G dX1_stateOf_0 rfl rfl ?_
  refine ax_iload_n (pc := 1) G dX1_stateOf_1 rfl rfl ?_
  refine ax_callV (pc := 2) (kb := 1) (nb := 6) G (cx_withVisitB hA (π := π) ha hp hs hE hX k hb) lVX1_186_0 dX1_stateOf_2 (hX _) rfl (by decide) (Nat.le_of_ble_eq_true rfl) rfl (fun _ e9 => by cases e9) (fun q9 e9 => ?_)
  cases e9
  exact ax_out G E (fun x hx => by cases hx)

theorem cq_aborts_Y {Ω : ax_O} (hA : ax_Amb Ω) {h : ax_H} {a : Nat} {pl s : pR} {π : Nat → cP} {N V O A : Nat} {D : cD} (ha : Ω.2.1.heap.size ≤ a) (hp : pWP pl N V O) (hs : pWS s A) (hE : cEn h a pl s N V O A D) {X bf tr hi sv lb : Nat} {x1 x2 x3 : Int32} (hX : ∀ σ, (sH h a σ).1 X = some (.inr (0, [.ref bf, .int x1, .int x2, .int x3, .ref a, .ref tr, .ref hi, .ref sv, .ref lb]))) (k : Nat) (hk : k < V)  : ax_Met Ω yX1_aborts 20 4 24 [.ref X, .int (nI k)] (sH h a (s, π, (.ref (D.1 0)), (D.1 8))) (.inl (some (.int (s (67 + k))))) (sH h a (s, π, (.ref (D.1 0)), (D.1 8))) := by
  refine ax_met q1550 q113 (by decide +kernel) (by decide) hA (Nat.le_of_ble_eq_true rfl) (fun Γ G E => ?_)
  have hV9 := hp.lV
  have hA9 := hs.lA
  have hO9 := hp.lO
  show ax_W Ω Γ 4 24 (sH h a (s, π, (.ref (D.1 0)), (D.1 8))) 0 [some (.ref X), some (.int (nI k))] []
  refine ax_aload_n (pc := 0) G dX1_aborts_0 rfl rfl ?_
  refine ax_iload_n (pc := 1) G dX1_aborts_1 rfl rfl ?_
  refine ax_cV1 (pc := 2) (kb := 1) (nb := 6) G (cx_withVisitY hA (π := π) ha hp hs hE hX k (by omega)) lVX1_186_0 dX1_aborts_2 (hX _) rfl (by decide) (Nat.le_of_ble_eq_true rfl) rfl ?_
  refine sr_get (pc := 5) (v := .ref (a + 9)) G flX1_213_1 dX1_aborts_5 rfl ?_
  refine ax_iload_n (pc := 8) G dX1_aborts_8 rfl rfl ?_
  refine sr_ld (pc := 9) (k := 9) (j := k) (r := 67 + k) G dX1_aborts_9 (by decide) (by decide) rfl rfl (show k < 20 by omega) ?_
  show ax_W Ω Γ _ _ _ _ _ (.int (s (67 + k)) :: _)
  exact ax_iretE (pc := 10) G E rfl (rfl) dX1_aborts_10 (rfl) (rfl)

theorem cq_aborts_N {Ω : ax_O} (hA : ax_Amb Ω) {h : ax_H} {X bf tr hi sv lb : Nat} {x1 x2 x3 : Int32} (hX : h.1 X = some (.inr (0, [.ref bf, .int x1, .int x2, .int x3, .null, .ref tr, .ref hi, .ref sv, .ref lb]))) (k : Int32)  : ax_Met Ω yX1_aborts 20 4 24 [.ref X, .int k] h (.inr h.2) (ax_add h (.inr (21, []))) := by
  refine ax_met q1550 q113 (by decide +kernel) (by decide) hA (Nat.le_of_ble_eq_true rfl) (fun Γ G E => ?_)
  show ax_W Ω Γ 4 24 h 0 [some (.ref X), some (.int k)] []
  refine ax_aload_n (pc := 0) G dX1_aborts_0 rfl rfl ?_
  refine ax_iload_n (pc := 1) G dX1_aborts_1 rfl rfl ?_
  refine ax_callV (pc := 2) (kb := 1) (nb := 6) G (cx_withVisitN hA hX k) lVX1_186_0 dX1_aborts_2 (hX) rfl (by decide) (Nat.le_of_ble_eq_true rfl) rfl (fun _ e9 => by cases e9) (fun q9 e9 => ?_)
  cases e9
  exact ax_out G E (fun x hx => by cases hx)

theorem cq_aborts_B {Ω : ax_O} (hA : ax_Amb Ω) {h : ax_H} {a : Nat} {pl s : pR} {π : Nat → cP} {N V O A : Nat} {D : cD} (ha : Ω.2.1.heap.size ≤ a) (hp : pWP pl N V O) (hs : pWS s A) (hE : cEn h a pl s N V O A D) {X bf tr hi sv lb : Nat} {x1 x2 x3 : Int32} (hX : ∀ σ, (sH h a σ).1 X = some (.inr (0, [.ref bf, .int x1, .int x2, .int x3, .ref a, .ref tr, .ref hi, .ref sv, .ref lb]))) (k : Int32) (hb : pIn k (nI 0) (nI V - nI 1) = false)  : ax_Met Ω yX1_aborts 20 4 24 [.ref X, .int k] (sH h a (s, π, (.ref (D.1 0)), (D.1 8))) (.inr (sH h a (s, π, (.ref (D.1 0)), (D.1 8))).2) (ax_add (sH h a (s, π, (.ref (D.1 0)), (D.1 8))) (.inr (22, []))) := by
  refine ax_met q1550 q113 (by decide +kernel) (by decide) hA (Nat.le_of_ble_eq_true rfl) (fun Γ G E => ?_)
  have hV9 := hp.lV
  have hA9 := hs.lA
  have hO9 := hp.lO
  show ax_W Ω Γ 4 24 (sH h a (s, π, (.ref (D.1 0)), (D.1 8))) 0 [some (.ref X), some (.int k)] []
  refine ax_aload_n (pc := 0) G dX1_aborts_0 rfl rfl ?_
  refine ax_iload_n (pc := 1) G dX1_aborts_1 rfl rfl ?_
  refine ax_callV (pc := 2) (kb := 1) (nb := 6) G (cx_withVisitB hA (π := π) ha hp hs hE hX k hb) lVX1_186_0 dX1_aborts_2 (hX _) rfl (by decide) (Nat.le_of_ble_eq_true rfl) rfl (fun _ e9 => by cases e9) (fun q9 e9 => ?_)
  cases e9
  exact ax_out G E (fun x hx => by cases hx)

theorem cq_startOf_Y {Ω : ax_O} (hA : ax_Amb Ω) {h : ax_H} {a : Nat} {pl s : pR} {π : Nat → cP} {N V O A : Nat} {D : cD} (ha : Ω.2.1.heap.size ≤ a) (hp : pWP pl N V O) (hs : pWS s A) (hE : cEn h a pl s N V O A D) {X bf tr hi sv lb : Nat} {x1 x2 x3 : Int32} (hX : ∀ σ, (sH h a σ).1 X = some (.inr (0, [.ref bf, .int x1, .int x2, .int x3, .ref a, .ref tr, .ref hi, .ref sv, .ref lb]))) (k : Nat) (hk : k < V)  : ax_Met Ω yX1_startOf 20 4 24 [.ref X, .int (nI k)] (sH h a (s, π, (.ref (D.1 0)), (D.1 8))) (.inl (some (.int (s (87 + k))))) (sH h a (s, π, (.ref (D.1 0)), (D.1 8))) := by
  refine ax_met q1557 q113 (by decide +kernel) (by decide) hA (Nat.le_of_ble_eq_true rfl) (fun Γ G E => ?_)
  have hV9 := hp.lV
  have hA9 := hs.lA
  have hO9 := hp.lO
  show ax_W Ω Γ 4 24 (sH h a (s, π, (.ref (D.1 0)), (D.1 8))) 0 [some (.ref X), some (.int (nI k))] []
  refine ax_aload_n (pc := 0) G dX1_startOf_0 rfl rfl ?_
  refine ax_iload_n (pc := 1) G dX1_startOf_1 rfl rfl ?_
  refine ax_cV1 (pc := 2) (kb := 1) (nb := 6) G (cx_withVisitY hA (π := π) ha hp hs hE hX k (by omega)) lVX1_186_0 dX1_startOf_2 (hX _) rfl (by decide) (Nat.le_of_ble_eq_true rfl) rfl ?_
  refine sr_get (pc := 5) (v := .ref (a + 10)) G flX1_216_1 dX1_startOf_5 rfl ?_
  refine ax_iload_n (pc := 8) G dX1_startOf_8 rfl rfl ?_
  refine sr_ld (pc := 9) (k := 10) (j := k) (r := 87 + k) G dX1_startOf_9 (by decide) (by decide) rfl rfl (show k < 20 by omega) ?_
  show ax_W Ω Γ _ _ _ _ _ (.int (s (87 + k)) :: _)
  exact ax_iretE (pc := 10) G E rfl (rfl) dX1_startOf_10 (rfl) (rfl)

theorem cq_startOf_N {Ω : ax_O} (hA : ax_Amb Ω) {h : ax_H} {X bf tr hi sv lb : Nat} {x1 x2 x3 : Int32} (hX : h.1 X = some (.inr (0, [.ref bf, .int x1, .int x2, .int x3, .null, .ref tr, .ref hi, .ref sv, .ref lb]))) (k : Int32)  : ax_Met Ω yX1_startOf 20 4 24 [.ref X, .int k] h (.inr h.2) (ax_add h (.inr (21, []))) := by
  refine ax_met q1557 q113 (by decide +kernel) (by decide) hA (Nat.le_of_ble_eq_true rfl) (fun Γ G E => ?_)
  show ax_W Ω Γ 4 24 h 0 [some (.ref X), some (.int k)] []
  refine ax_aload_n (pc := 0) G dX1_startOf_0 rfl rfl ?_
  refine ax_iload_n (pc := 1) G dX1_startOf_1 rfl rfl ?_
  refine ax_callV (pc := 2) (kb := 1) (nb := 6) G (cx_withVisitN hA hX k) lVX1_186_0 dX1_startOf_2 (hX) rfl (by decide) (Nat.le_of_ble_eq_true rfl) rfl (fun _ e9 => by cases e9) (fun q9 e9 => ?_)
  cases e9
  exact ax_out G E (fun x hx => by cases hx)

theorem cq_startOf_B {Ω : ax_O} (hA : ax_Amb Ω) {h : ax_H} {a : Nat} {pl s : pR} {π : Nat → cP} {N V O A : Nat} {D : cD} (ha : Ω.2.1.heap.size ≤ a) (hp : pWP pl N V O) (hs : pWS s A) (hE : cEn h a pl s N V O A D) {X bf tr hi sv lb : Nat} {x1 x2 x3 : Int32} (hX : ∀ σ, (sH h a σ).1 X = some (.inr (0, [.ref bf, .int x1, .int x2, .int x3, .ref a, .ref tr, .ref hi, .ref sv, .ref lb]))) (k : Int32) (hb : pIn k (nI 0) (nI V - nI 1) = false)  : ax_Met Ω yX1_startOf 20 4 24 [.ref X, .int k] (sH h a (s, π, (.ref (D.1 0)), (D.1 8))) (.inr (sH h a (s, π, (.ref (D.1 0)), (D.1 8))).2) (ax_add (sH h a (s, π, (.ref (D.1 0)), (D.1 8))) (.inr (22, []))) := by
  refine ax_met q1557 q113 (by decide +kernel) (by decide) hA (Nat.le_of_ble_eq_true rfl) (fun Γ G E => ?_)
  have hV9 := hp.lV
  have hA9 := hs.lA
  have hO9 := hp.lO
  show ax_W Ω Γ 4 24 (sH h a (s, π, (.ref (D.1 0)), (D.1 8))) 0 [some (.ref X), some (.int k)] []
  refine ax_aload_n (pc := 0) G dX1_startOf_0 rfl rfl ?_
  refine ax_iload_n (pc := 1) G dX1_startOf_1 rfl rfl ?_
  refine ax_callV (pc := 2) (kb := 1) (nb := 6) G (cx_withVisitB hA (π := π) ha hp hs hE hX k hb) lVX1_186_0 dX1_startOf_2 (hX _) rfl (by decide) (Nat.le_of_ble_eq_true rfl) rfl (fun _ e9 => by cases e9) (fun q9 e9 => ?_)
  cases e9
  exact ax_out G E (fun x hx => by cases hx)

theorem cq_alertState_Y {Ω : ax_O} (hA : ax_Amb Ω) {h : ax_H} {a : Nat} {pl s : pR} {π : Nat → cP} {N V O A : Nat} {D : cD} (ha : Ω.2.1.heap.size ≤ a) (hp : pWP pl N V O) (hs : pWS s A) (hE : cEn h a pl s N V O A D) {X bf tr hi sv lb : Nat} {x1 x2 x3 : Int32} (hX : ∀ σ, (sH h a σ).1 X = some (.inr (0, [.ref bf, .int x1, .int x2, .int x3, .ref a, .ref tr, .ref hi, .ref sv, .ref lb]))) (k : Nat) (hk : k < A)  : ax_Met Ω yX1_alertState 20 4 24 [.ref X, .int (nI k)] (sH h a (s, π, (.ref (D.1 0)), (D.1 8))) (.inl (some (.int (s (127 + 10 * k + 7))))) (sH h a (s, π, (.ref (D.1 0)), (D.1 8))) := by
  refine ax_met q1592 q113 (by decide +kernel) (by decide) hA (Nat.le_of_ble_eq_true rfl) (fun Γ G E => ?_)
  have hV9 := hp.lV
  have hA9 := hs.lA
  have hO9 := hp.lO
  show ax_W Ω Γ 4 24 (sH h a (s, π, (.ref (D.1 0)), (D.1 8))) 0 [some (.ref X), some (.int (nI k))] []
  refine ax_aload_n (pc := 0) G dX1_alertState_0 rfl rfl ?_
  refine ax_iload_n (pc := 1) G dX1_alertState_1 rfl rfl ?_
  refine ax_cV1 (pc := 2) (kb := 1) (nb := 6) G (cx_withAlertY hA (π := π) ha hp hs hE hX k (by omega)) lVX1_219_0 dX1_alertState_2 (hX _) rfl (by decide) (Nat.le_of_ble_eq_true rfl) rfl ?_
  refine sr_get (pc := 5) (v := .ref (a + 12)) G flX1_237_1 dX1_alertState_5 rfl ?_
  refine ax_iload_n (pc := 8) G dX1_alertState_8 rfl rfl ?_
  refine sr_ld (pc := 9) (k := 12) (j := k) (r := 127 + 10 * k + 7) G dX1_alertState_9 (by decide) (by decide) rfl rfl (show k < 10 by omega) ?_
  show ax_W Ω Γ _ _ _ _ _ (.int (s (127 + 10 * k + 7)) :: _)
  exact ax_iretE (pc := 10) G E rfl (rfl) dX1_alertState_10 (rfl) (rfl)

theorem cq_alertState_N {Ω : ax_O} (hA : ax_Amb Ω) {h : ax_H} {X bf tr hi sv lb : Nat} {x1 x2 x3 : Int32} (hX : h.1 X = some (.inr (0, [.ref bf, .int x1, .int x2, .int x3, .null, .ref tr, .ref hi, .ref sv, .ref lb]))) (k : Int32)  : ax_Met Ω yX1_alertState 20 4 24 [.ref X, .int k] h (.inr h.2) (ax_add h (.inr (21, []))) := by
  refine ax_met q1592 q113 (by decide +kernel) (by decide) hA (Nat.le_of_ble_eq_true rfl) (fun Γ G E => ?_)
  show ax_W Ω Γ 4 24 h 0 [some (.ref X), some (.int k)] []
  refine ax_aload_n (pc := 0) G dX1_alertState_0 rfl rfl ?_
  refine ax_iload_n (pc := 1) G dX1_alertState_1 rfl rfl ?_
  refine ax_callV (pc := 2) (kb := 1) (nb := 6) G (cx_withAlertN hA hX k) lVX1_219_0 dX1_alertState_2 (hX) rfl (by decide) (Nat.le_of_ble_eq_true rfl) rfl (fun _ e9 => by cases e9) (fun q9 e9 => ?_)
  cases e9
  exact ax_out G E (fun x hx => by cases hx)

theorem cq_alertState_B {Ω : ax_O} (hA : ax_Amb Ω) {h : ax_H} {a : Nat} {pl s : pR} {π : Nat → cP} {N V O A : Nat} {D : cD} (ha : Ω.2.1.heap.size ≤ a) (hp : pWP pl N V O) (hs : pWS s A) (hE : cEn h a pl s N V O A D) {X bf tr hi sv lb : Nat} {x1 x2 x3 : Int32} (hX : ∀ σ, (sH h a σ).1 X = some (.inr (0, [.ref bf, .int x1, .int x2, .int x3, .ref a, .ref tr, .ref hi, .ref sv, .ref lb]))) (k : Int32) (hb : pIn k (nI 0) (nI A - nI 1) = false)  : ax_Met Ω yX1_alertState 20 4 24 [.ref X, .int k] (sH h a (s, π, (.ref (D.1 0)), (D.1 8))) (.inr (sH h a (s, π, (.ref (D.1 0)), (D.1 8))).2) (ax_add (sH h a (s, π, (.ref (D.1 0)), (D.1 8))) (.inr (22, []))) := by
  refine ax_met q1592 q113 (by decide +kernel) (by decide) hA (Nat.le_of_ble_eq_true rfl) (fun Γ G E => ?_)
  have hV9 := hp.lV
  have hA9 := hs.lA
  have hO9 := hp.lO
  show ax_W Ω Γ 4 24 (sH h a (s, π, (.ref (D.1 0)), (D.1 8))) 0 [some (.ref X), some (.int k)] []
  refine ax_aload_n (pc := 0) G dX1_alertState_0 rfl rfl ?_
  refine ax_iload_n (pc := 1) G dX1_alertState_1 rfl rfl ?_
  refine ax_callV (pc := 2) (kb := 1) (nb := 6) G (cx_withAlertB hA (π := π) ha hp hs hE hX k hb) lVX1_219_0 dX1_alertState_2 (hX _) rfl (by decide) (Nat.le_of_ble_eq_true rfl) rfl (fun _ e9 => by cases e9) (fun q9 e9 => ?_)
  cases e9
  exact ax_out G E (fun x hx => by cases hx)

theorem cq_now_Y {Ω : ax_O} (hA : ax_Amb Ω) {h : ax_H} {a : Nat} {pl s : pR} {π : Nat → cP} {N V O A : Nat} {D : cD} (ha : Ω.2.1.heap.size ≤ a) (hp : pWP pl N V O) (hs : pWS s A) (hE : cEn h a pl s N V O A D) {X bf tr hi sv lb : Nat} {x1 x2 x3 : Int32} (hX : ∀ σ, (sH h a σ).1 X = some (.inr (0, [.ref bf, .int x1, .int x2, .int x3, .ref a, .ref tr, .ref hi, .ref sv, .ref lb])))  : ax_Met Ω yX1_now 20 4 24 [.ref X] (sH h a (s, π, (.ref (D.1 0)), (D.1 8))) (.inl (some (.int (s 0)))) (sH h a (s, π, (.ref (D.1 0)), (D.1 8))) := by
  refine ax_met q1613 q113 (by decide +kernel) (by decide) hA (Nat.le_of_ble_eq_true rfl) (fun Γ G E => ?_)
  have hV9 := hp.lV
  have hA9 := hs.lA
  have hO9 := hp.lO
  show ax_W Ω Γ 4 24 (sH h a (s, π, (.ref (D.1 0)), (D.1 8))) 0 [some (.ref X)] []
  refine ax_aload_n (pc := 0) G dX1_now_0 rfl rfl ?_
  refine ax_cV1 (pc := 1) (kb := 2) (nb := 12) G (cx_thereY hA (π := π) ha hp hs hE hX) lVX1_79_0 dX1_now_1 (hX _) rfl (by decide) (Nat.le_of_ble_eq_true rfl) rfl ?_
  refine sr_get (pc := 4) (v := .int (s 0)) G flX1_243_1 dX1_now_4 rfl ?_
  exact ax_iretE (pc := 7) G E rfl (rfl) dX1_now_7 (rfl) (rfl)

theorem cq_now_N {Ω : ax_O} (hA : ax_Amb Ω) {h : ax_H} {X bf tr hi sv lb : Nat} {x1 x2 x3 : Int32} (hX : h.1 X = some (.inr (0, [.ref bf, .int x1, .int x2, .int x3, .null, .ref tr, .ref hi, .ref sv, .ref lb])))  : ax_Met Ω yX1_now 20 4 24 [.ref X] h (.inr h.2) (ax_add h (.inr (21, []))) := by
  refine ax_met q1613 q113 (by decide +kernel) (by decide) hA (Nat.le_of_ble_eq_true rfl) (fun Γ G E => ?_)
  show ax_W Ω Γ 4 24 h 0 [some (.ref X)] []
  refine ax_aload_n (pc := 0) G dX1_now_0 rfl rfl ?_
  refine ax_callV (pc := 1) (kb := 2) (nb := 12) G (cx_thereN hA hX) lVX1_79_0 dX1_now_1 (hX) rfl (by decide) (Nat.le_of_ble_eq_true rfl) rfl (fun _ e9 => by cases e9) (fun q9 e9 => ?_)
  cases e9
  exact ax_out G E (fun x hx => by cases hx)

theorem cq_momentum_Y {Ω : ax_O} (hA : ax_Amb Ω) {h : ax_H} {a : Nat} {pl s : pR} {π : Nat → cP} {N V O A : Nat} {D : cD} (ha : Ω.2.1.heap.size ≤ a) (hp : pWP pl N V O) (hs : pWS s A) (hE : cEn h a pl s N V O A D) {X bf tr hi sv lb : Nat} {x1 x2 x3 : Int32} (hX : ∀ σ, (sH h a σ).1 X = some (.inr (0, [.ref bf, .int x1, .int x2, .int x3, .ref a, .ref tr, .ref hi, .ref sv, .ref lb])))  : ax_Met Ω yX1_momentum 20 4 24 [.ref X] (sH h a (s, π, (.ref (D.1 0)), (D.1 8))) (.inl (some (.int (s 3)))) (sH h a (s, π, (.ref (D.1 0)), (D.1 8))) := by
  refine ax_met q1627 q113 (by decide +kernel) (by decide) hA (Nat.le_of_ble_eq_true rfl) (fun Γ G E => ?_)
  have hV9 := hp.lV
  have hA9 := hs.lA
  have hO9 := hp.lO
  show ax_W Ω Γ 4 24 (sH h a (s, π, (.ref (D.1 0)), (D.1 8))) 0 [some (.ref X)] []
  refine ax_aload_n (pc := 0) G dX1_momentum_0 rfl rfl ?_
  refine ax_cV1 (pc := 1) (kb := 2) (nb := 12) G (cx_thereY hA (π := π) ha hp hs hE hX) lVX1_79_0 dX1_momentum_1 (hX _) rfl (by decide) (Nat.le_of_ble_eq_true rfl) rfl ?_
  refine sr_get (pc := 4) (v := .int (s 3)) G flX1_248_1 dX1_momentum_4 rfl ?_
  exact ax_iretE (pc := 7) G E rfl (rfl) dX1_momentum_7 (rfl) (rfl)

theorem cq_momentum_N {Ω : ax_O} (hA : ax_Amb Ω) {h : ax_H} {X bf tr hi sv lb : Nat} {x1 x2 x3 : Int32} (hX : h.1 X = some (.inr (0, [.ref bf, .int x1, .int x2, .int x3, .null, .ref tr, .ref hi, .ref sv, .ref lb])))  : ax_Met Ω yX1_momentum 20 4 24 [.ref X] h (.inr h.2) (ax_add h (.inr (21, []))) := by
  refine ax_met q1627 q113 (by decide +kernel) (by decide) hA (Nat.le_of_ble_eq_true rfl) (fun Γ G E => ?_)
  show ax_W Ω Γ 4 24 h 0 [some (.ref X)] []
  refine ax_aload_n (pc := 0) G dX1_momentum_0 rfl rfl ?_
  refine ax_callV (pc := 1) (kb := 2) (nb := 12) G (cx_thereN hA hX) lVX1_79_0 dX1_momentum_1 (hX) rfl (by decide) (Nat.le_of_ble_eq_true rfl) rfl (fun _ e9 => by cases e9) (fun q9 e9 => ?_)
  cases e9
  exact ax_out G E (fun x hx => by cases hx)

theorem cq_sinceCalibration_Y {Ω : ax_O} (hA : ax_Amb Ω) {h : ax_H} {a : Nat} {pl s : pR} {π : Nat → cP} {N V O A : Nat} {D : cD} (ha : Ω.2.1.heap.size ≤ a) (hp : pWP pl N V O) (hs : pWS s A) (hE : cEn h a pl s N V O A D) {X bf tr hi sv lb : Nat} {x1 x2 x3 : Int32} (hX : ∀ σ, (sH h a σ).1 X = some (.inr (0, [.ref bf, .int x1, .int x2, .int x3, .ref a, .ref tr, .ref hi, .ref sv, .ref lb])))  : ax_Met Ω yX1_sinceCalibration 20 4 24 [.ref X] (sH h a (s, π, (.ref (D.1 0)), (D.1 8))) (.inl (some (.int (s 0 - s 4)))) (sH h a (s, π, (.ref (D.1 0)), (D.1 8))) := by
  refine ax_met q1634 q113 (by decide +kernel) (by decide) hA (Nat.le_of_ble_eq_true rfl) (fun Γ G E => ?_)
  have hV9 := hp.lV
  have hA9 := hs.lA
  have hO9 := hp.lO
  show ax_W Ω Γ 4 24 (sH h a (s, π, (.ref (D.1 0)), (D.1 8))) 0 [some (.ref X)] []
  refine ax_aload_n (pc := 0) G dX1_sinceCalibration_0 rfl rfl ?_
  refine ax_cV1 (pc := 1) (kb := 2) (nb := 12) G (cx_thereY hA (π := π) ha hp hs hE hX) lVX1_79_0 dX1_sinceCalibration_1 (hX _) rfl (by decide) (Nat.le_of_ble_eq_true rfl) rfl ?_
  refine sr_get (pc := 4) (v := .int (s 0)) G flX1_243_1 dX1_sinceCalibration_4 rfl ?_
  refine ax_aload_n (pc := 7) G dX1_sinceCalibration_7 rfl rfl ?_
  refine ax_getf (pc := 8) (v := .ref a) G flX1_72_0 dX1_sinceCalibration_8 (hX _) rfl ?_
  refine sr_get (pc := 11) (v := .int (s 4)) G flX1_251_1 dX1_sinceCalibration_11 rfl ?_
  refine ax_isub (pc := 14) G dX1_sinceCalibration_14 ?_
  exact ax_iretE (pc := 15) G E rfl (rfl) dX1_sinceCalibration_15 (rfl) (rfl)

theorem cq_sinceCalibration_N {Ω : ax_O} (hA : ax_Amb Ω) {h : ax_H} {X bf tr hi sv lb : Nat} {x1 x2 x3 : Int32} (hX : h.1 X = some (.inr (0, [.ref bf, .int x1, .int x2, .int x3, .null, .ref tr, .ref hi, .ref sv, .ref lb])))  : ax_Met Ω yX1_sinceCalibration 20 4 24 [.ref X] h (.inr h.2) (ax_add h (.inr (21, []))) := by
  refine ax_met q1634 q113 (by decide +kernel) (by decide) hA (Nat.le_of_ble_eq_true rfl) (fun Γ G E => ?_)
  show ax_W Ω Γ 4 24 h 0 [some (.ref X)] []
  refine ax_aload_n (pc := 0) G dX1_sinceCalibration_0 rfl rfl ?_
  refine ax_callV (pc := 1) (kb := 2) (nb := 12) G (cx_thereN hA hX) lVX1_79_0 dX1_sinceCalibration_1 (hX) rfl (by decide) (Nat.le_of_ble_eq_true rfl) rfl (fun _ e9 => by cases e9) (fun q9 e9 => ?_)
  cases e9
  exact ax_out G E (fun x hx => by cases hx)

theorem px_y {k n : Nat} (h : k ≤ n) (hn : n ≤ 100000) : pIn (nI k) (nI 0) (nI n) = true := by
  unfold pIn
  rw [decide_eq_true (show nI 0 ≤ nI k from nI_le (by omega) (by omega)), decide_eq_true (show nI k ≤ nI n from nI_le (by omega) (by omega))]; rfl
theorem cq_pointing_0 {Ω : ax_O} (hA : ax_Amb Ω) {h : ax_H} {a : Nat} {pl s : pR} {π : Nat → cP} {N V O A : Nat} {D : cD} (ha : Ω.2.1.heap.size ≤ a) (hp : pWP pl N V O) (hs : pWS s A) (hE : cEn h a pl s N V O A D) {X bf tr hi sv lb : Nat} {x1 x2 x3 : Int32} (hX : ∀ σ, (sH h a σ).1 X = some (.inr (0, [.ref bf, .int x1, .int x2, .int x3, .ref a, .ref tr, .ref hi, .ref sv, .ref lb])))  : ax_Met Ω yX1_pointing 20 4 24 [.ref X, .int (nI 0)] (sH h a (s, π, (.ref (D.1 0)), (D.1 8))) (.inl (some (.int (s 1)))) (sH h a (s, π, (.ref (D.1 0)), (D.1 8))) := by
  refine ax_met q1620 q113 (by decide +kernel) (by decide) hA (Nat.le_of_ble_eq_true rfl) (fun Γ G E => ?_)
  have hV9 := hp.lV
  have hA9 := hs.lA
  have hO9 := hp.lO
  show ax_W Ω Γ 4 24 (sH h a (s, π, (.ref (D.1 0)), (D.1 8))) 0 [some (.ref X), some (.int (nI 0))] []
  refine ax_aload_n (pc := 0) G dX1_pointing_0 rfl rfl ?_
  refine ax_cV1 (pc := 1) (kb := 2) (nb := 12) G (cx_thereY hA (π := π) ha hp hs hE hX) lVX1_79_0 dX1_pointing_1 (hX _) rfl (by decide) (Nat.le_of_ble_eq_true rfl) rfl ?_
  refine ax_pop (pc := 4) G dX1_pointing_4 rfl ?_
  refine ax_iload_n (pc := 5) G dX1_pointing_5 rfl rfl ?_
  refine ax_i2l (pc := 6) G dX1_pointing_6 rfl ?_
  refine ax_lconst (pc := 7) (v := 0) G dX1_pointing_7 rfl ?_
  refine ax_lconst (pc := 8) (v := 1) G dX1_pointing_8 rfl ?_
  refine ax_cS1 (pc := 9) (kb := 2) (nb := 12) G (ct_in hA ((nI 0).toInt64) 0 1) lSX1_62 dX1_pointing_9 rfl (by decide) (Nat.le_of_ble_eq_true rfl) rfl ?_
  rw [cIn_k (A := 0) (B := 1) (a := (nI 0)) (b := (nI 1)) (nI 0) (by decide) (by decide)]
  refine ax_cS0 (pc := 12) (kb := 1) (nb := 6) G (ct_argYb hA (B := (pIn (nI 0) (nI 0) (nI 1))) (by decide)) lSX1_144 dX1_pointing_12 rfl (by decide) (Nat.le_of_ble_eq_true rfl) rfl ?_
  refine ax_iload_n (pc := 15) G dX1_pointing_15 rfl rfl ?_
  refine ax_if_ne (pc := 16) (tgt := 29) G dX1_pointing_16 rfl (fun c9 => absurd rfl c9) (fun _ => ?_)
  refine ax_aload_n (pc := 19) G dX1_pointing_19 rfl rfl ?_
  refine ax_getf (pc := 20) (v := .ref a) G flX1_72_0 dX1_pointing_20 (hX _) rfl ?_
  refine sr_get (pc := 23) (v := .int (s 1)) G flX1_244_1 dX1_pointing_23 rfl ?_
  refine ax_goto (pc := 26) (tgt := 36) G dX1_pointing_26 rfl ?_
  exact ax_iretE (pc := 36) G E rfl (rfl) dX1_pointing_36 (rfl) (rfl)

theorem cq_pointing_1 {Ω : ax_O} (hA : ax_Amb Ω) {h : ax_H} {a : Nat} {pl s : pR} {π : Nat → cP} {N V O A : Nat} {D : cD} (ha : Ω.2.1.heap.size ≤ a) (hp : pWP pl N V O) (hs : pWS s A) (hE : cEn h a pl s N V O A D) {X bf tr hi sv lb : Nat} {x1 x2 x3 : Int32} (hX : ∀ σ, (sH h a σ).1 X = some (.inr (0, [.ref bf, .int x1, .int x2, .int x3, .ref a, .ref tr, .ref hi, .ref sv, .ref lb])))  : ax_Met Ω yX1_pointing 20 4 24 [.ref X, .int (nI 1)] (sH h a (s, π, (.ref (D.1 0)), (D.1 8))) (.inl (some (.int (s 2)))) (sH h a (s, π, (.ref (D.1 0)), (D.1 8))) := by
  refine ax_met q1620 q113 (by decide +kernel) (by decide) hA (Nat.le_of_ble_eq_true rfl) (fun Γ G E => ?_)
  have hV9 := hp.lV
  have hA9 := hs.lA
  have hO9 := hp.lO
  show ax_W Ω Γ 4 24 (sH h a (s, π, (.ref (D.1 0)), (D.1 8))) 0 [some (.ref X), some (.int (nI 1))] []
  refine ax_aload_n (pc := 0) G dX1_pointing_0 rfl rfl ?_
  refine ax_cV1 (pc := 1) (kb := 2) (nb := 12) G (cx_thereY hA (π := π) ha hp hs hE hX) lVX1_79_0 dX1_pointing_1 (hX _) rfl (by decide) (Nat.le_of_ble_eq_true rfl) rfl ?_
  refine ax_pop (pc := 4) G dX1_pointing_4 rfl ?_
  refine ax_iload_n (pc := 5) G dX1_pointing_5 rfl rfl ?_
  refine ax_i2l (pc := 6) G dX1_pointing_6 rfl ?_
  refine ax_lconst (pc := 7) (v := 0) G dX1_pointing_7 rfl ?_
  refine ax_lconst (pc := 8) (v := 1) G dX1_pointing_8 rfl ?_
  refine ax_cS1 (pc := 9) (kb := 2) (nb := 12) G (ct_in hA ((nI 1).toInt64) 0 1) lSX1_62 dX1_pointing_9 rfl (by decide) (Nat.le_of_ble_eq_true rfl) rfl ?_
  rw [cIn_k (A := 0) (B := 1) (a := (nI 0)) (b := (nI 1)) (nI 1) (by decide) (by decide)]
  refine ax_cS0 (pc := 12) (kb := 1) (nb := 6) G (ct_argYb hA (B := (pIn (nI 1) (nI 0) (nI 1))) (by decide)) lSX1_144 dX1_pointing_12 rfl (by decide) (Nat.le_of_ble_eq_true rfl) rfl ?_
  refine ax_iload_n (pc := 15) G dX1_pointing_15 rfl rfl ?_
  refine ax_if_ne (pc := 16) (tgt := 29) G dX1_pointing_16 rfl (fun _ => ?_) (fun c9 => absurd c9 (by decide))
  refine ax_aload_n (pc := 29) G dX1_pointing_29 rfl rfl ?_
  refine ax_getf (pc := 30) (v := .ref a) G flX1_72_0 dX1_pointing_30 (hX _) rfl ?_
  refine sr_get (pc := 33) (v := .int (s 2)) G flX1_246_1 dX1_pointing_33 rfl ?_
  exact ax_iretE (pc := 36) G E rfl (rfl) dX1_pointing_36 (rfl) (rfl)

theorem cq_pointing_N {Ω : ax_O} (hA : ax_Amb Ω) {h : ax_H} {X bf tr hi sv lb : Nat} {x1 x2 x3 : Int32} (hX : h.1 X = some (.inr (0, [.ref bf, .int x1, .int x2, .int x3, .null, .ref tr, .ref hi, .ref sv, .ref lb]))) (w : Int32)  : ax_Met Ω yX1_pointing 20 4 24 [.ref X, .int w] h (.inr h.2) (ax_add h (.inr (21, []))) := by
  refine ax_met q1620 q113 (by decide +kernel) (by decide) hA (Nat.le_of_ble_eq_true rfl) (fun Γ G E => ?_)
  show ax_W Ω Γ 4 24 h 0 [some (.ref X), some (.int w)] []
  refine ax_aload_n (pc := 0) G dX1_pointing_0 rfl rfl ?_
  refine ax_callV (pc := 1) (kb := 2) (nb := 12) G (cx_thereN hA hX) lVX1_79_0 dX1_pointing_1 (hX) rfl (by decide) (Nat.le_of_ble_eq_true rfl) rfl (fun _ e9 => by cases e9) (fun q9 e9 => ?_)
  cases e9
  exact ax_out G E (fun x hx => by cases hx)

theorem cq_pointing_B {Ω : ax_O} (hA : ax_Amb Ω) {h : ax_H} {a : Nat} {pl s : pR} {π : Nat → cP} {N V O A : Nat} {D : cD} (ha : Ω.2.1.heap.size ≤ a) (hp : pWP pl N V O) (hs : pWS s A) (hE : cEn h a pl s N V O A D) {X bf tr hi sv lb : Nat} {x1 x2 x3 : Int32} (hX : ∀ σ, (sH h a σ).1 X = some (.inr (0, [.ref bf, .int x1, .int x2, .int x3, .ref a, .ref tr, .ref hi, .ref sv, .ref lb]))) (w : Int32) (hb : pIn w (nI 0) (nI 1) = false)  : ax_Met Ω yX1_pointing 20 4 24 [.ref X, .int w] (sH h a (s, π, (.ref (D.1 0)), (D.1 8))) (.inr (sH h a (s, π, (.ref (D.1 0)), (D.1 8))).2) (ax_add (sH h a (s, π, (.ref (D.1 0)), (D.1 8))) (.inr (20, []))) := by
  refine ax_met q1620 q113 (by decide +kernel) (by decide) hA (Nat.le_of_ble_eq_true rfl) (fun Γ G E => ?_)
  have hV9 := hp.lV
  have hA9 := hs.lA
  have hO9 := hp.lO
  show ax_W Ω Γ 4 24 (sH h a (s, π, (.ref (D.1 0)), (D.1 8))) 0 [some (.ref X), some (.int w)] []
  refine ax_aload_n (pc := 0) G dX1_pointing_0 rfl rfl ?_
  refine ax_cV1 (pc := 1) (kb := 2) (nb := 12) G (cx_thereY hA (π := π) ha hp hs hE hX) lVX1_79_0 dX1_pointing_1 (hX _) rfl (by decide) (Nat.le_of_ble_eq_true rfl) rfl ?_
  refine ax_pop (pc := 4) G dX1_pointing_4 rfl ?_
  refine ax_iload_n (pc := 5) G dX1_pointing_5 rfl rfl ?_
  refine ax_i2l (pc := 6) G dX1_pointing_6 rfl ?_
  refine ax_lconst (pc := 7) (v := 0) G dX1_pointing_7 rfl ?_
  refine ax_lconst (pc := 8) (v := 1) G dX1_pointing_8 rfl ?_
  refine ax_cS1 (pc := 9) (kb := 2) (nb := 12) G (ct_in hA w.toInt64 0 1) lSX1_62 dX1_pointing_9 rfl (by decide) (Nat.le_of_ble_eq_true rfl) rfl ?_
  rw [cIn_k (A := 0) (B := 1) (a := (nI 0)) (b := (nI 1)) w (by decide) (by decide)]
  refine ax_callS (pc := 12) (kb := 1) (nb := 6) G (ct_argNb hA (B := (pIn w (nI 0) (nI 1))) (hb)) lSX1_144 dX1_pointing_12 rfl (by decide) (Nat.le_of_ble_eq_true rfl) rfl (fun _ e9 => by cases e9) (fun q9 e9 => ?_)
  cases e9
  exact ax_out G E (fun x hx => by cases hx)

theorem cq_total_Y {Ω : ax_O} (hA : ax_Amb Ω) {h : ax_H} {a : Nat} {pl s : pR} {π : Nat → cP} {N V O A : Nat} {D : cD} (ha : Ω.2.1.heap.size ≤ a) (hp : pWP pl N V O) (hs : pWS s A) (hE : cEn h a pl s N V O A D) {X bf tr hi sv lb : Nat} {x1 x2 x3 : Int32} (hX : ∀ σ, (sH h a σ).1 X = some (.inr (0, [.ref bf, .int x1, .int x2, .int x3, .ref a, .ref tr, .ref hi, .ref sv, .ref lb]))) (k : Nat) (hk : k ≤ 7)  : ax_Met Ω yX1_total 20 4 24 [.ref X, .int (nI k)] (sH h a (s, π, (.ref (D.1 0)), (D.1 8))) (.inl (some (.int (s (6 + k))))) (sH h a (s, π, (.ref (D.1 0)), (D.1 8))) := by
  refine ax_met q2024 q113 (by decide +kernel) (by decide) hA (Nat.le_of_ble_eq_true rfl) (fun Γ G E => ?_)
  have hV9 := hp.lV
  have hA9 := hs.lA
  have hO9 := hp.lO
  show ax_W Ω Γ 4 24 (sH h a (s, π, (.ref (D.1 0)), (D.1 8))) 0 [some (.ref X), some (.int (nI k))] []
  refine ax_aload_n (pc := 0) G dX1_total_0 rfl rfl ?_
  refine ax_cV1 (pc := 1) (kb := 2) (nb := 12) G (cx_thereY hA (π := π) ha hp hs hE hX) lVX1_79_0 dX1_total_1 (hX _) rfl (by decide) (Nat.le_of_ble_eq_true rfl) rfl ?_
  refine ax_pop (pc := 4) G dX1_total_4 rfl ?_
  refine ax_iload_n (pc := 5) G dX1_total_5 rfl rfl ?_
  refine ax_i2l (pc := 6) G dX1_total_6 rfl ?_
  refine ax_lconst (pc := 7) (v := 0) G dX1_total_7 rfl ?_
  refine ax_ldc2 (pc := 8) G q1452 dX1_total_8 ?_
  refine ax_cS1 (pc := 11) (kb := 2) (nb := 12) G (ct_in hA ((nI k).toInt64) 0 7) lSX1_62 dX1_total_11 rfl (by decide) (Nat.le_of_ble_eq_true rfl) rfl ?_
  rw [cIn_k (A := 0) (B := 7) (a := (nI 0)) (b := (nI 7)) (nI k) (by decide) (by decide)]
  refine ax_cS0 (pc := 14) (kb := 1) (nb := 6) G (ct_argYb hA (B := (pIn (nI k) (nI 0) (nI 7))) (px_y hk (by omega))) lSX1_144 dX1_total_14 rfl (by decide) (Nat.le_of_ble_eq_true rfl) rfl ?_
  refine ax_aload_n (pc := 17) G dX1_total_17 rfl rfl ?_
  refine ax_getf (pc := 18) (v := .ref a) G flX1_72_0 dX1_total_18 (hX _) rfl ?_
  refine sr_get (pc := 21) (v := .ref (a + 14)) G flX1_356_1 dX1_total_21 rfl ?_
  refine ax_iload_n (pc := 24) G dX1_total_24 rfl rfl ?_
  refine sr_ld (pc := 25) (k := 14) (j := k) (r := 6 + k) G dX1_total_25 (by decide) (by decide) rfl rfl (show k < 8 by omega) ?_
  show ax_W Ω Γ _ _ _ _ _ (.int (s (6 + k)) :: _)
  exact ax_iretE (pc := 26) G E rfl (rfl) dX1_total_26 (rfl) (rfl)

theorem cq_total_N {Ω : ax_O} (hA : ax_Amb Ω) {h : ax_H} {X bf tr hi sv lb : Nat} {x1 x2 x3 : Int32} (hX : h.1 X = some (.inr (0, [.ref bf, .int x1, .int x2, .int x3, .null, .ref tr, .ref hi, .ref sv, .ref lb]))) (w : Int32)  : ax_Met Ω yX1_total 20 4 24 [.ref X, .int w] h (.inr h.2) (ax_add h (.inr (21, []))) := by
  refine ax_met q2024 q113 (by decide +kernel) (by decide) hA (Nat.le_of_ble_eq_true rfl) (fun Γ G E => ?_)
  show ax_W Ω Γ 4 24 h 0 [some (.ref X), some (.int w)] []
  refine ax_aload_n (pc := 0) G dX1_total_0 rfl rfl ?_
  refine ax_callV (pc := 1) (kb := 2) (nb := 12) G (cx_thereN hA hX) lVX1_79_0 dX1_total_1 (hX) rfl (by decide) (Nat.le_of_ble_eq_true rfl) rfl (fun _ e9 => by cases e9) (fun q9 e9 => ?_)
  cases e9
  exact ax_out G E (fun x hx => by cases hx)

theorem cq_total_B {Ω : ax_O} (hA : ax_Amb Ω) {h : ax_H} {a : Nat} {pl s : pR} {π : Nat → cP} {N V O A : Nat} {D : cD} (ha : Ω.2.1.heap.size ≤ a) (hp : pWP pl N V O) (hs : pWS s A) (hE : cEn h a pl s N V O A D) {X bf tr hi sv lb : Nat} {x1 x2 x3 : Int32} (hX : ∀ σ, (sH h a σ).1 X = some (.inr (0, [.ref bf, .int x1, .int x2, .int x3, .ref a, .ref tr, .ref hi, .ref sv, .ref lb]))) (w : Int32) (hb : pIn w (nI 0) (nI 7) = false)  : ax_Met Ω yX1_total 20 4 24 [.ref X, .int w] (sH h a (s, π, (.ref (D.1 0)), (D.1 8))) (.inr (sH h a (s, π, (.ref (D.1 0)), (D.1 8))).2) (ax_add (sH h a (s, π, (.ref (D.1 0)), (D.1 8))) (.inr (20, []))) := by
  refine ax_met q2024 q113 (by decide +kernel) (by decide) hA (Nat.le_of_ble_eq_true rfl) (fun Γ G E => ?_)
  have hV9 := hp.lV
  have hA9 := hs.lA
  have hO9 := hp.lO
  show ax_W Ω Γ 4 24 (sH h a (s, π, (.ref (D.1 0)), (D.1 8))) 0 [some (.ref X), some (.int w)] []
  refine ax_aload_n (pc := 0) G dX1_total_0 rfl rfl ?_
  refine ax_cV1 (pc := 1) (kb := 2) (nb := 12) G (cx_thereY hA (π := π) ha hp hs hE hX) lVX1_79_0 dX1_total_1 (hX _) rfl (by decide) (Nat.le_of_ble_eq_true rfl) rfl ?_
  refine ax_pop (pc := 4) G dX1_total_4 rfl ?_
  refine ax_iload_n (pc := 5) G dX1_total_5 rfl rfl ?_
  refine ax_i2l (pc := 6) G dX1_total_6 rfl ?_
  refine ax_lconst (pc := 7) (v := 0) G dX1_total_7 rfl ?_
  refine ax_ldc2 (pc := 8) G q1452 dX1_total_8 ?_
  refine ax_cS1 (pc := 11) (kb := 2) (nb := 12) G (ct_in hA w.toInt64 0 7) lSX1_62 dX1_total_11 rfl (by decide) (Nat.le_of_ble_eq_true rfl) rfl ?_
  rw [cIn_k (A := 0) (B := 7) (a := (nI 0)) (b := (nI 7)) w (by decide) (by decide)]
  refine ax_callS (pc := 14) (kb := 1) (nb := 6) G (ct_argNb hA (B := (pIn w (nI 0) (nI 7))) (hb)) lSX1_144 dX1_total_14 rfl (by decide) (Nat.le_of_ble_eq_true rfl) rfl (fun _ e9 => by cases e9) (fun q9 e9 => ?_)
  cases e9
  exact ax_out G E (fun x hx => by cases hx)

theorem cq_setting_0 {Ω : ax_O} (hA : ax_Amb Ω) {h : ax_H} {a : Nat} {pl s : pR} {π : Nat → cP} {N V O A : Nat} {D : cD} (ha : Ω.2.1.heap.size ≤ a) (hp : pWP pl N V O) (hs : pWS s A) (hE : cEn h a pl s N V O A D) {X bf tr hi sv lb : Nat} {x1 x2 x3 : Int32} (hX : ∀ σ, (sH h a σ).1 X = some (.inr (0, [.ref bf, .int x1, .int x2, .int x3, .ref a, .ref tr, .ref hi, .ref sv, .ref lb])))  : ax_Met Ω yX1_setting 20 4 24 [.ref X, .int (nI 0)] (sH h a (s, π, (.ref (D.1 0)), (D.1 8))) (.inl (some (.int (pl 0)))) (sH h a (s, π, (.ref (D.1 0)), (D.1 8))) := by
  refine ax_met q1641 q113 (by decide +kernel) (by decide) hA (Nat.le_of_ble_eq_true rfl) (fun Γ G E => ?_)
  have hV9 := hp.lV
  have hA9 := hs.lA
  have hO9 := hp.lO
  show ax_W Ω Γ 4 24 (sH h a (s, π, (.ref (D.1 0)), (D.1 8))) 0 [some (.ref X), some (.int (nI 0)), none] []
  refine ax_aload_n (pc := 0) G dX1_setting_0 rfl rfl ?_
  refine ax_cV1 (pc := 1) (kb := 2) (nb := 12) G (cx_thereY hA (π := π) ha hp hs hE hX) lVX1_79_0 dX1_setting_1 (hX _) rfl (by decide) (Nat.le_of_ble_eq_true rfl) rfl ?_
  refine sr_get (pc := 4) (v := .ref (D.1 0)) G flX1_83_1 dX1_setting_4 rfl ?_
  refine ax_astore_n (pc := 7) G dX1_setting_7 rfl (Nat.le_of_ble_eq_true rfl) rfl ?_
  refine ax_iload_n (pc := 8) G dX1_setting_8 rfl rfl ?_
  refine ax_i2l (pc := 9) G dX1_setting_9 rfl ?_
  refine ax_lconst (pc := 10) (v := 0) G dX1_setting_10 rfl ?_
  refine ax_ldc2 (pc := 11) G q1642 dX1_setting_11 ?_
  refine ax_cS1 (pc := 14) (kb := 2) (nb := 12) G (ct_in hA ((nI 0).toInt64) 0 10) lSX1_62 dX1_setting_14 rfl (by decide) (Nat.le_of_ble_eq_true rfl) rfl ?_
  rw [cIn_k (A := 0) (B := 10) (a := (nI 0)) (b := (nI 10)) (nI 0) (by decide) (by decide)]
  refine ax_cS0 (pc := 17) (kb := 1) (nb := 6) G (ct_argYb hA (B := (pIn (nI 0) (nI 0) (nI 10))) (by decide)) lSX1_144 dX1_setting_17 rfl (by decide) (Nat.le_of_ble_eq_true rfl) rfl ?_
  refine ax_iload_n (pc := 20) G dX1_setting_20 rfl rfl ?_
  refine ax_tabIn (pc := 21) (tgt := 76) G dX1_setting_21 (by decide) (by decide) (by decide) rfl rfl ?_
  refine ax_aload_n (pc := 76) G dX1_setting_76 rfl rfl ?_
  refine ax_getf (pc := 77) (v := .int (pl 0)) G flX1_256_10 dX1_setting_77 (((hE (s, π, (.ref (D.1 0)), (D.1 8))).1).1) rfl ?_
  refine ax_goto (pc := 80) (tgt := 156) G dX1_setting_80 rfl ?_
  exact ax_iretE (pc := 156) G E rfl (rfl) dX1_setting_156 (rfl) (rfl)

theorem cq_setting_1 {Ω : ax_O} (hA : ax_Amb Ω) {h : ax_H} {a : Nat} {pl s : pR} {π : Nat → cP} {N V O A : Nat} {D : cD} (ha : Ω.2.1.heap.size ≤ a) (hp : pWP pl N V O) (hs : pWS s A) (hE : cEn h a pl s N V O A D) {X bf tr hi sv lb : Nat} {x1 x2 x3 : Int32} (hX : ∀ σ, (sH h a σ).1 X = some (.inr (0, [.ref bf, .int x1, .int x2, .int x3, .ref a, .ref tr, .ref hi, .ref sv, .ref lb])))  : ax_Met Ω yX1_setting 20 4 24 [.ref X, .int (nI 1)] (sH h a (s, π, (.ref (D.1 0)), (D.1 8))) (.inl (some (.int (pl 1)))) (sH h a (s, π, (.ref (D.1 0)), (D.1 8))) := by
  refine ax_met q1641 q113 (by decide +kernel) (by decide) hA (Nat.le_of_ble_eq_true rfl) (fun Γ G E => ?_)
  have hV9 := hp.lV
  have hA9 := hs.lA
  have hO9 := hp.lO
  show ax_W Ω Γ 4 24 (sH h a (s, π, (.ref (D.1 0)), (D.1 8))) 0 [some (.ref X), some (.int (nI 1)), none] []
  refine ax_aload_n (pc := 0) G dX1_setting_0 rfl rfl ?_
  refine ax_cV1 (pc := 1) (kb := 2) (nb := 12) G (cx_thereY hA (π := π) ha hp hs hE hX) lVX1_79_0 dX1_setting_1 (hX _) rfl (by decide) (Nat.le_of_ble_eq_true rfl) rfl ?_
  refine sr_get (pc := 4) (v := .ref (D.1 0)) G flX1_83_1 dX1_setting_4 rfl ?_
  refine ax_astore_n (pc := 7) G dX1_setting_7 rfl (Nat.le_of_ble_eq_true rfl) rfl ?_
  refine ax_iload_n (pc := 8) G dX1_setting_8 rfl rfl ?_
  refine ax_i2l (pc := 9) G dX1_setting_9 rfl ?_
  refine ax_lconst (pc := 10) (v := 0) G dX1_setting_10 rfl ?_
  refine ax_ldc2 (pc := 11) G q1642 dX1_setting_11 ?_
  refine ax_cS1 (pc := 14) (kb := 2) (nb := 12) G (ct_in hA ((nI 1).toInt64) 0 10) lSX1_62 dX1_setting_14 rfl (by decide) (Nat.le_of_ble_eq_true rfl) rfl ?_
  rw [cIn_k (A := 0) (B := 10) (a := (nI 0)) (b := (nI 10)) (nI 1) (by decide) (by decide)]
  refine ax_cS0 (pc := 17) (kb := 1) (nb := 6) G (ct_argYb hA (B := (pIn (nI 1) (nI 0) (nI 10))) (by decide)) lSX1_144 dX1_setting_17 rfl (by decide) (Nat.le_of_ble_eq_true rfl) rfl ?_
  refine ax_iload_n (pc := 20) G dX1_setting_20 rfl rfl ?_
  refine ax_tabIn (pc := 21) (tgt := 83) G dX1_setting_21 (by decide) (by decide) (by decide) rfl rfl ?_
  refine ax_aload_n (pc := 83) G dX1_setting_83 rfl rfl ?_
  refine ax_getf (pc := 84) (v := .int (pl 1)) G flX1_259_10 dX1_setting_84 (((hE (s, π, (.ref (D.1 0)), (D.1 8))).1).1) rfl ?_
  refine ax_goto (pc := 87) (tgt := 156) G dX1_setting_87 rfl ?_
  exact ax_iretE (pc := 156) G E rfl (rfl) dX1_setting_156 (rfl) (rfl)

theorem cq_setting_2 {Ω : ax_O} (hA : ax_Amb Ω) {h : ax_H} {a : Nat} {pl s : pR} {π : Nat → cP} {N V O A : Nat} {D : cD} (ha : Ω.2.1.heap.size ≤ a) (hp : pWP pl N V O) (hs : pWS s A) (hE : cEn h a pl s N V O A D) {X bf tr hi sv lb : Nat} {x1 x2 x3 : Int32} (hX : ∀ σ, (sH h a σ).1 X = some (.inr (0, [.ref bf, .int x1, .int x2, .int x3, .ref a, .ref tr, .ref hi, .ref sv, .ref lb])))  : ax_Met Ω yX1_setting 20 4 24 [.ref X, .int (nI 2)] (sH h a (s, π, (.ref (D.1 0)), (D.1 8))) (.inl (some (.int (pl 2)))) (sH h a (s, π, (.ref (D.1 0)), (D.1 8))) := by
  refine ax_met q1641 q113 (by decide +kernel) (by decide) hA (Nat.le_of_ble_eq_true rfl) (fun Γ G E => ?_)
  have hV9 := hp.lV
  have hA9 := hs.lA
  have hO9 := hp.lO
  show ax_W Ω Γ 4 24 (sH h a (s, π, (.ref (D.1 0)), (D.1 8))) 0 [some (.ref X), some (.int (nI 2)), none] []
  refine ax_aload_n (pc := 0) G dX1_setting_0 rfl rfl ?_
  refine ax_cV1 (pc := 1) (kb := 2) (nb := 12) G (cx_thereY hA (π := π) ha hp hs hE hX) lVX1_79_0 dX1_setting_1 (hX _) rfl (by decide) (Nat.le_of_ble_eq_true rfl) rfl ?_
  refine sr_get (pc := 4) (v := .ref (D.1 0)) G flX1_83_1 dX1_setting_4 rfl ?_
  refine ax_astore_n (pc := 7) G dX1_setting_7 rfl (Nat.le_of_ble_eq_true rfl) rfl ?_
  refine ax_iload_n (pc := 8) G dX1_setting_8 rfl rfl ?_
  refine ax_i2l (pc := 9) G dX1_setting_9 rfl ?_
  refine ax_lconst (pc := 10) (v := 0) G dX1_setting_10 rfl ?_
  refine ax_ldc2 (pc := 11) G q1642 dX1_setting_11 ?_
  refine ax_cS1 (pc := 14) (kb := 2) (nb := 12) G (ct_in hA ((nI 2).toInt64) 0 10) lSX1_62 dX1_setting_14 rfl (by decide) (Nat.le_of_ble_eq_true rfl) rfl ?_
  rw [cIn_k (A := 0) (B := 10) (a := (nI 0)) (b := (nI 10)) (nI 2) (by decide) (by decide)]
  refine ax_cS0 (pc := 17) (kb := 1) (nb := 6) G (ct_argYb hA (B := (pIn (nI 2) (nI 0) (nI 10))) (by decide)) lSX1_144 dX1_setting_17 rfl (by decide) (Nat.le_of_ble_eq_true rfl) rfl ?_
  refine ax_iload_n (pc := 20) G dX1_setting_20 rfl rfl ?_
  refine ax_tabIn (pc := 21) (tgt := 90) G dX1_setting_21 (by decide) (by decide) (by decide) rfl rfl ?_
  refine ax_aload_n (pc := 90) G dX1_setting_90 rfl rfl ?_
  refine ax_getf (pc := 91) (v := .int (pl 2)) G flX1_262_10 dX1_setting_91 (((hE (s, π, (.ref (D.1 0)), (D.1 8))).1).1) rfl ?_
  refine ax_goto (pc := 94) (tgt := 156) G dX1_setting_94 rfl ?_
  exact ax_iretE (pc := 156) G E rfl (rfl) dX1_setting_156 (rfl) (rfl)

theorem cq_setting_3 {Ω : ax_O} (hA : ax_Amb Ω) {h : ax_H} {a : Nat} {pl s : pR} {π : Nat → cP} {N V O A : Nat} {D : cD} (ha : Ω.2.1.heap.size ≤ a) (hp : pWP pl N V O) (hs : pWS s A) (hE : cEn h a pl s N V O A D) {X bf tr hi sv lb : Nat} {x1 x2 x3 : Int32} (hX : ∀ σ, (sH h a σ).1 X = some (.inr (0, [.ref bf, .int x1, .int x2, .int x3, .ref a, .ref tr, .ref hi, .ref sv, .ref lb])))  : ax_Met Ω yX1_setting 20 4 24 [.ref X, .int (nI 3)] (sH h a (s, π, (.ref (D.1 0)), (D.1 8))) (.inl (some (.int (pl 3)))) (sH h a (s, π, (.ref (D.1 0)), (D.1 8))) := by
  refine ax_met q1641 q113 (by decide +kernel) (by decide) hA (Nat.le_of_ble_eq_true rfl) (fun Γ G E => ?_)
  have hV9 := hp.lV
  have hA9 := hs.lA
  have hO9 := hp.lO
  show ax_W Ω Γ 4 24 (sH h a (s, π, (.ref (D.1 0)), (D.1 8))) 0 [some (.ref X), some (.int (nI 3)), none] []
  refine ax_aload_n (pc := 0) G dX1_setting_0 rfl rfl ?_
  refine ax_cV1 (pc := 1) (kb := 2) (nb := 12) G (cx_thereY hA (π := π) ha hp hs hE hX) lVX1_79_0 dX1_setting_1 (hX _) rfl (by decide) (Nat.le_of_ble_eq_true rfl) rfl ?_
  refine sr_get (pc := 4) (v := .ref (D.1 0)) G flX1_83_1 dX1_setting_4 rfl ?_
  refine ax_astore_n (pc := 7) G dX1_setting_7 rfl (Nat.le_of_ble_eq_true rfl) rfl ?_
  refine ax_iload_n (pc := 8) G dX1_setting_8 rfl rfl ?_
  refine ax_i2l (pc := 9) G dX1_setting_9 rfl ?_
  refine ax_lconst (pc := 10) (v := 0) G dX1_setting_10 rfl ?_
  refine ax_ldc2 (pc := 11) G q1642 dX1_setting_11 ?_
  refine ax_cS1 (pc := 14) (kb := 2) (nb := 12) G (ct_in hA ((nI 3).toInt64) 0 10) lSX1_62 dX1_setting_14 rfl (by decide) (Nat.le_of_ble_eq_true rfl) rfl ?_
  rw [cIn_k (A := 0) (B := 10) (a := (nI 0)) (b := (nI 10)) (nI 3) (by decide) (by decide)]
  refine ax_cS0 (pc := 17) (kb := 1) (nb := 6) G (ct_argYb hA (B := (pIn (nI 3) (nI 0) (nI 10))) (by decide)) lSX1_144 dX1_setting_17 rfl (by decide) (Nat.le_of_ble_eq_true rfl) rfl ?_
  refine ax_iload_n (pc := 20) G dX1_setting_20 rfl rfl ?_
  refine ax_tabIn (pc := 21) (tgt := 97) G dX1_setting_21 (by decide) (by decide) (by decide) rfl rfl ?_
  refine ax_aload_n (pc := 97) G dX1_setting_97 rfl rfl ?_
  refine ax_getf (pc := 98) (v := .int (pl 3)) G flX1_265_10 dX1_setting_98 (((hE (s, π, (.ref (D.1 0)), (D.1 8))).1).1) rfl ?_
  refine ax_goto (pc := 101) (tgt := 156) G dX1_setting_101 rfl ?_
  exact ax_iretE (pc := 156) G E rfl (rfl) dX1_setting_156 (rfl) (rfl)

theorem cq_setting_4 {Ω : ax_O} (hA : ax_Amb Ω) {h : ax_H} {a : Nat} {pl s : pR} {π : Nat → cP} {N V O A : Nat} {D : cD} (ha : Ω.2.1.heap.size ≤ a) (hp : pWP pl N V O) (hs : pWS s A) (hE : cEn h a pl s N V O A D) {X bf tr hi sv lb : Nat} {x1 x2 x3 : Int32} (hX : ∀ σ, (sH h a σ).1 X = some (.inr (0, [.ref bf, .int x1, .int x2, .int x3, .ref a, .ref tr, .ref hi, .ref sv, .ref lb])))  : ax_Met Ω yX1_setting 20 4 24 [.ref X, .int (nI 4)] (sH h a (s, π, (.ref (D.1 0)), (D.1 8))) (.inl (some (.int (pl 4)))) (sH h a (s, π, (.ref (D.1 0)), (D.1 8))) := by
  refine ax_met q1641 q113 (by decide +kernel) (by decide) hA (Nat.le_of_ble_eq_true rfl) (fun Γ G E => ?_)
  have hV9 := hp.lV
  have hA9 := hs.lA
  have hO9 := hp.lO
  show ax_W Ω Γ 4 24 (sH h a (s, π, (.ref (D.1 0)), (D.1 8))) 0 [some (.ref X), some (.int (nI 4)), none] []
  refine ax_aload_n (pc := 0) G dX1_setting_0 rfl rfl ?_
  refine ax_cV1 (pc := 1) (kb := 2) (nb := 12) G (cx_thereY hA (π := π) ha hp hs hE hX) lVX1_79_0 dX1_setting_1 (hX _) rfl (by decide) (Nat.le_of_ble_eq_true rfl) rfl ?_
  refine sr_get (pc := 4) (v := .ref (D.1 0)) G flX1_83_1 dX1_setting_4 rfl ?_
  refine ax_astore_n (pc := 7) G dX1_setting_7 rfl (Nat.le_of_ble_eq_true rfl) rfl ?_
  refine ax_iload_n (pc := 8) G dX1_setting_8 rfl rfl ?_
  refine ax_i2l (pc := 9) G dX1_setting_9 rfl ?_
  refine ax_lconst (pc := 10) (v := 0) G dX1_setting_10 rfl ?_
  refine ax_ldc2 (pc := 11) G q1642 dX1_setting_11 ?_
  refine ax_cS1 (pc := 14) (kb := 2) (nb := 12) G (ct_in hA ((nI 4).toInt64) 0 10) lSX1_62 dX1_setting_14 rfl (by decide) (Nat.le_of_ble_eq_true rfl) rfl ?_
  rw [cIn_k (A := 0) (B := 10) (a := (nI 0)) (b := (nI 10)) (nI 4) (by decide) (by decide)]
  refine ax_cS0 (pc := 17) (kb := 1) (nb := 6) G (ct_argYb hA (B := (pIn (nI 4) (nI 0) (nI 10))) (by decide)) lSX1_144 dX1_setting_17 rfl (by decide) (Nat.le_of_ble_eq_true rfl) rfl ?_
  refine ax_iload_n (pc := 20) G dX1_setting_20 rfl rfl ?_
  refine ax_tabIn (pc := 21) (tgt := 104) G dX1_setting_21 (by decide) (by decide) (by decide) rfl rfl ?_
  refine ax_aload_n (pc := 104) G dX1_setting_104 rfl rfl ?_
  refine ax_getf (pc := 105) (v := .int (pl 4)) G flX1_268_10 dX1_setting_105 (((hE (s, π, (.ref (D.1 0)), (D.1 8))).1).1) rfl ?_
  refine ax_goto (pc := 108) (tgt := 156) G dX1_setting_108 rfl ?_
  exact ax_iretE (pc := 156) G E rfl (rfl) dX1_setting_156 (rfl) (rfl)

theorem cq_setting_5 {Ω : ax_O} (hA : ax_Amb Ω) {h : ax_H} {a : Nat} {pl s : pR} {π : Nat → cP} {N V O A : Nat} {D : cD} (ha : Ω.2.1.heap.size ≤ a) (hp : pWP pl N V O) (hs : pWS s A) (hE : cEn h a pl s N V O A D) {X bf tr hi sv lb : Nat} {x1 x2 x3 : Int32} (hX : ∀ σ, (sH h a σ).1 X = some (.inr (0, [.ref bf, .int x1, .int x2, .int x3, .ref a, .ref tr, .ref hi, .ref sv, .ref lb])))  : ax_Met Ω yX1_setting 20 4 24 [.ref X, .int (nI 5)] (sH h a (s, π, (.ref (D.1 0)), (D.1 8))) (.inl (some (.int (s 15)))) (sH h a (s, π, (.ref (D.1 0)), (D.1 8))) := by
  refine ax_met q1641 q113 (by decide +kernel) (by decide) hA (Nat.le_of_ble_eq_true rfl) (fun Γ G E => ?_)
  have hV9 := hp.lV
  have hA9 := hs.lA
  have hO9 := hp.lO
  show ax_W Ω Γ 4 24 (sH h a (s, π, (.ref (D.1 0)), (D.1 8))) 0 [some (.ref X), some (.int (nI 5)), none] []
  refine ax_aload_n (pc := 0) G dX1_setting_0 rfl rfl ?_
  refine ax_cV1 (pc := 1) (kb := 2) (nb := 12) G (cx_thereY hA (π := π) ha hp hs hE hX) lVX1_79_0 dX1_setting_1 (hX _) rfl (by decide) (Nat.le_of_ble_eq_true rfl) rfl ?_
  refine sr_get (pc := 4) (v := .ref (D.1 0)) G flX1_83_1 dX1_setting_4 rfl ?_
  refine ax_astore_n (pc := 7) G dX1_setting_7 rfl (Nat.le_of_ble_eq_true rfl) rfl ?_
  refine ax_iload_n (pc := 8) G dX1_setting_8 rfl rfl ?_
  refine ax_i2l (pc := 9) G dX1_setting_9 rfl ?_
  refine ax_lconst (pc := 10) (v := 0) G dX1_setting_10 rfl ?_
  refine ax_ldc2 (pc := 11) G q1642 dX1_setting_11 ?_
  refine ax_cS1 (pc := 14) (kb := 2) (nb := 12) G (ct_in hA ((nI 5).toInt64) 0 10) lSX1_62 dX1_setting_14 rfl (by decide) (Nat.le_of_ble_eq_true rfl) rfl ?_
  rw [cIn_k (A := 0) (B := 10) (a := (nI 0)) (b := (nI 10)) (nI 5) (by decide) (by decide)]
  refine ax_cS0 (pc := 17) (kb := 1) (nb := 6) G (ct_argYb hA (B := (pIn (nI 5) (nI 0) (nI 10))) (by decide)) lSX1_144 dX1_setting_17 rfl (by decide) (Nat.le_of_ble_eq_true rfl) rfl ?_
  refine ax_iload_n (pc := 20) G dX1_setting_20 rfl rfl ?_
  refine ax_tabIn (pc := 21) (tgt := 111) G dX1_setting_21 (by decide) (by decide) (by decide) rfl rfl ?_
  refine ax_aload_n (pc := 111) G dX1_setting_111 rfl rfl ?_
  refine ax_getf (pc := 112) (v := .ref a) G flX1_72_0 dX1_setting_112 (hX _) rfl ?_
  refine sr_get (pc := 115) (v := .int (s 15)) G flX1_271_1 dX1_setting_115 rfl ?_
  refine ax_goto (pc := 118) (tgt := 156) G dX1_setting_118 rfl ?_
  exact ax_iretE (pc := 156) G E rfl (rfl) dX1_setting_156 (rfl) (rfl)

theorem cq_setting_6 {Ω : ax_O} (hA : ax_Amb Ω) {h : ax_H} {a : Nat} {pl s : pR} {π : Nat → cP} {N V O A : Nat} {D : cD} (ha : Ω.2.1.heap.size ≤ a) (hp : pWP pl N V O) (hs : pWS s A) (hE : cEn h a pl s N V O A D) {X bf tr hi sv lb : Nat} {x1 x2 x3 : Int32} (hX : ∀ σ, (sH h a σ).1 X = some (.inr (0, [.ref bf, .int x1, .int x2, .int x3, .ref a, .ref tr, .ref hi, .ref sv, .ref lb])))  : ax_Met Ω yX1_setting 20 4 24 [.ref X, .int (nI 6)] (sH h a (s, π, (.ref (D.1 0)), (D.1 8))) (.inl (some (.int (pl 6)))) (sH h a (s, π, (.ref (D.1 0)), (D.1 8))) := by
  refine ax_met q1641 q113 (by decide +kernel) (by decide) hA (Nat.le_of_ble_eq_true rfl) (fun Γ G E => ?_)
  have hV9 := hp.lV
  have hA9 := hs.lA
  have hO9 := hp.lO
  show ax_W Ω Γ 4 24 (sH h a (s, π, (.ref (D.1 0)), (D.1 8))) 0 [some (.ref X), some (.int (nI 6)), none] []
  refine ax_aload_n (pc := 0) G dX1_setting_0 rfl rfl ?_
  refine ax_cV1 (pc := 1) (kb := 2) (nb := 12) G (cx_thereY hA (π := π) ha hp hs hE hX) lVX1_79_0 dX1_setting_1 (hX _) rfl (by decide) (Nat.le_of_ble_eq_true rfl) rfl ?_
  refine sr_get (pc := 4) (v := .ref (D.1 0)) G flX1_83_1 dX1_setting_4 rfl ?_
  refine ax_astore_n (pc := 7) G dX1_setting_7 rfl (Nat.le_of_ble_eq_true rfl) rfl ?_
  refine ax_iload_n (pc := 8) G dX1_setting_8 rfl rfl ?_
  refine ax_i2l (pc := 9) G dX1_setting_9 rfl ?_
  refine ax_lconst (pc := 10) (v := 0) G dX1_setting_10 rfl ?_
  refine ax_ldc2 (pc := 11) G q1642 dX1_setting_11 ?_
  refine ax_cS1 (pc := 14) (kb := 2) (nb := 12) G (ct_in hA ((nI 6).toInt64) 0 10) lSX1_62 dX1_setting_14 rfl (by decide) (Nat.le_of_ble_eq_true rfl) rfl ?_
  rw [cIn_k (A := 0) (B := 10) (a := (nI 0)) (b := (nI 10)) (nI 6) (by decide) (by decide)]
  refine ax_cS0 (pc := 17) (kb := 1) (nb := 6) G (ct_argYb hA (B := (pIn (nI 6) (nI 0) (nI 10))) (by decide)) lSX1_144 dX1_setting_17 rfl (by decide) (Nat.le_of_ble_eq_true rfl) rfl ?_
  refine ax_iload_n (pc := 20) G dX1_setting_20 rfl rfl ?_
  refine ax_tabIn (pc := 21) (tgt := 121) G dX1_setting_21 (by decide) (by decide) (by decide) rfl rfl ?_
  refine ax_aload_n (pc := 121) G dX1_setting_121 rfl rfl ?_
  refine ax_getf (pc := 122) (v := .int (pl 6)) G flX1_274_10 dX1_setting_122 (((hE (s, π, (.ref (D.1 0)), (D.1 8))).1).1) rfl ?_
  refine ax_goto (pc := 125) (tgt := 156) G dX1_setting_125 rfl ?_
  exact ax_iretE (pc := 156) G E rfl (rfl) dX1_setting_156 (rfl) (rfl)

theorem cq_setting_7 {Ω : ax_O} (hA : ax_Amb Ω) {h : ax_H} {a : Nat} {pl s : pR} {π : Nat → cP} {N V O A : Nat} {D : cD} (ha : Ω.2.1.heap.size ≤ a) (hp : pWP pl N V O) (hs : pWS s A) (hE : cEn h a pl s N V O A D) {X bf tr hi sv lb : Nat} {x1 x2 x3 : Int32} (hX : ∀ σ, (sH h a σ).1 X = some (.inr (0, [.ref bf, .int x1, .int x2, .int x3, .ref a, .ref tr, .ref hi, .ref sv, .ref lb])))  : ax_Met Ω yX1_setting 20 4 24 [.ref X, .int (nI 7)] (sH h a (s, π, (.ref (D.1 0)), (D.1 8))) (.inl (some (.int (pl 7)))) (sH h a (s, π, (.ref (D.1 0)), (D.1 8))) := by
  refine ax_met q1641 q113 (by decide +kernel) (by decide) hA (Nat.le_of_ble_eq_true rfl) (fun Γ G E => ?_)
  have hV9 := hp.lV
  have hA9 := hs.lA
  have hO9 := hp.lO
  show ax_W Ω Γ 4 24 (sH h a (s, π, (.ref (D.1 0)), (D.1 8))) 0 [some (.ref X), some (.int (nI 7)), none] []
  refine ax_aload_n (pc := 0) G dX1_setting_0 rfl rfl ?_
  refine ax_cV1 (pc := 1) (kb := 2) (nb := 12) G (cx_thereY hA (π := π) ha hp hs hE hX) lVX1_79_0 dX1_setting_1 (hX _) rfl (by decide) (Nat.le_of_ble_eq_true rfl) rfl ?_
  refine sr_get (pc := 4) (v := .ref (D.1 0)) G flX1_83_1 dX1_setting_4 rfl ?_
  refine ax_astore_n (pc := 7) G dX1_setting_7 rfl (Nat.le_of_ble_eq_true rfl) rfl ?_
  refine ax_iload_n (pc := 8) G dX1_setting_8 rfl rfl ?_
  refine ax_i2l (pc := 9) G dX1_setting_9 rfl ?_
  refine ax_lconst (pc := 10) (v := 0) G dX1_setting_10 rfl ?_
  refine ax_ldc2 (pc := 11) G q1642 dX1_setting_11 ?_
  refine ax_cS1 (pc := 14) (kb := 2) (nb := 12) G (ct_in hA ((nI 7).toInt64) 0 10) lSX1_62 dX1_setting_14 rfl (by decide) (Nat.le_of_ble_eq_true rfl) rfl ?_
  rw [cIn_k (A := 0) (B := 10) (a := (nI 0)) (b := (nI 10)) (nI 7) (by decide) (by decide)]
  refine ax_cS0 (pc := 17) (kb := 1) (nb := 6) G (ct_argYb hA (B := (pIn (nI 7) (nI 0) (nI 10))) (by decide)) lSX1_144 dX1_setting_17 rfl (by decide) (Nat.le_of_ble_eq_true rfl) rfl ?_
  refine ax_iload_n (pc := 20) G dX1_setting_20 rfl rfl ?_
  refine ax_tabIn (pc := 21) (tgt := 128) G dX1_setting_21 (by decide) (by decide) (by decide) rfl rfl ?_
  refine ax_aload_n (pc := 128) G dX1_setting_128 rfl rfl ?_
  refine ax_getf (pc := 129) (v := .int (pl 7)) G flX1_277_10 dX1_setting_129 (((hE (s, π, (.ref (D.1 0)), (D.1 8))).1).1) rfl ?_
  refine ax_goto (pc := 132) (tgt := 156) G dX1_setting_132 rfl ?_
  exact ax_iretE (pc := 156) G E rfl (rfl) dX1_setting_156 (rfl) (rfl)

theorem cq_setting_8 {Ω : ax_O} (hA : ax_Amb Ω) {h : ax_H} {a : Nat} {pl s : pR} {π : Nat → cP} {N V O A : Nat} {D : cD} (ha : Ω.2.1.heap.size ≤ a) (hp : pWP pl N V O) (hs : pWS s A) (hE : cEn h a pl s N V O A D) {X bf tr hi sv lb : Nat} {x1 x2 x3 : Int32} (hX : ∀ σ, (sH h a σ).1 X = some (.inr (0, [.ref bf, .int x1, .int x2, .int x3, .ref a, .ref tr, .ref hi, .ref sv, .ref lb])))  : ax_Met Ω yX1_setting 20 4 24 [.ref X, .int (nI 8)] (sH h a (s, π, (.ref (D.1 0)), (D.1 8))) (.inl (some (.int (pl 8)))) (sH h a (s, π, (.ref (D.1 0)), (D.1 8))) := by
  refine ax_met q1641 q113 (by decide +kernel) (by decide) hA (Nat.le_of_ble_eq_true rfl) (fun Γ G E => ?_)
  have hV9 := hp.lV
  have hA9 := hs.lA
  have hO9 := hp.lO
  show ax_W Ω Γ 4 24 (sH h a (s, π, (.ref (D.1 0)), (D.1 8))) 0 [some (.ref X), some (.int (nI 8)), none] []
  refine ax_aload_n (pc := 0) G dX1_setting_0 rfl rfl ?_
  refine ax_cV1 (pc := 1) (kb := 2) (nb := 12) G (cx_thereY hA (π := π) ha hp hs hE hX) lVX1_79_0 dX1_setting_1 (hX _) rfl (by decide) (Nat.le_of_ble_eq_true rfl) rfl ?_
  refine sr_get (pc := 4) (v := .ref (D.1 0)) G flX1_83_1 dX1_setting_4 rfl ?_
  refine ax_astore_n (pc := 7) G dX1_setting_7 rfl (Nat.le_of_ble_eq_true rfl) rfl ?_
  refine ax_iload_n (pc := 8) G dX1_setting_8 rfl rfl ?_
  refine ax_i2l (pc := 9) G dX1_setting_9 rfl ?_
  refine ax_lconst (pc := 10) (v := 0) G dX1_setting_10 rfl ?_
  refine ax_ldc2 (pc := 11) G q1642 dX1_setting_11 ?_
  refine ax_cS1 (pc := 14) (kb := 2) (nb := 12) G (ct_in hA ((nI 8).toInt64) 0 10) lSX1_62 dX1_setting_14 rfl (by decide) (Nat.le_of_ble_eq_true rfl) rfl ?_
  rw [cIn_k (A := 0) (B := 10) (a := (nI 0)) (b := (nI 10)) (nI 8) (by decide) (by decide)]
  refine ax_cS0 (pc := 17) (kb := 1) (nb := 6) G (ct_argYb hA (B := (pIn (nI 8) (nI 0) (nI 10))) (by decide)) lSX1_144 dX1_setting_17 rfl (by decide) (Nat.le_of_ble_eq_true rfl) rfl ?_
  refine ax_iload_n (pc := 20) G dX1_setting_20 rfl rfl ?_
  refine ax_tabIn (pc := 21) (tgt := 135) G dX1_setting_21 (by decide) (by decide) (by decide) rfl rfl ?_
  refine ax_aload_n (pc := 135) G dX1_setting_135 rfl rfl ?_
  refine ax_getf (pc := 136) (v := .int (pl 8)) G flX1_280_10 dX1_setting_136 (((hE (s, π, (.ref (D.1 0)), (D.1 8))).1).1) rfl ?_
  refine ax_goto (pc := 139) (tgt := 156) G dX1_setting_139 rfl ?_
  exact ax_iretE (pc := 156) G E rfl (rfl) dX1_setting_156 (rfl) (rfl)

theorem cq_setting_9 {Ω : ax_O} (hA : ax_Amb Ω) {h : ax_H} {a : Nat} {pl s : pR} {π : Nat → cP} {N V O A : Nat} {D : cD} (ha : Ω.2.1.heap.size ≤ a) (hp : pWP pl N V O) (hs : pWS s A) (hE : cEn h a pl s N V O A D) {X bf tr hi sv lb : Nat} {x1 x2 x3 : Int32} (hX : ∀ σ, (sH h a σ).1 X = some (.inr (0, [.ref bf, .int x1, .int x2, .int x3, .ref a, .ref tr, .ref hi, .ref sv, .ref lb])))  : ax_Met Ω yX1_setting 20 4 24 [.ref X, .int (nI 9)] (sH h a (s, π, (.ref (D.1 0)), (D.1 8))) (.inl (some (.int (pl 9)))) (sH h a (s, π, (.ref (D.1 0)), (D.1 8))) := by
  refine ax_met q1641 q113 (by decide +kernel) (by decide) hA (Nat.le_of_ble_eq_true rfl) (fun Γ G E => ?_)
  have hV9 := hp.lV
  have hA9 := hs.lA
  have hO9 := hp.lO
  show ax_W Ω Γ 4 24 (sH h a (s, π, (.ref (D.1 0)), (D.1 8))) 0 [some (.ref X), some (.int (nI 9)), none] []
  refine ax_aload_n (pc := 0) G dX1_setting_0 rfl rfl ?_
  refine ax_cV1 (pc := 1) (kb := 2) (nb := 12) G (cx_thereY hA (π := π) ha hp hs hE hX) lVX1_79_0 dX1_setting_1 (hX _) rfl (by decide) (Nat.le_of_ble_eq_true rfl) rfl ?_
  refine sr_get (pc := 4) (v := .ref (D.1 0)) G flX1_83_1 dX1_setting_4 rfl ?_
  refine ax_astore_n (pc := 7) G dX1_setting_7 rfl (Nat.le_of_ble_eq_true rfl) rfl ?_
  refine ax_iload_n (pc := 8) G dX1_setting_8 rfl rfl ?_
  refine ax_i2l (pc := 9) G dX1_setting_9 rfl ?_
  refine ax_lconst (pc := 10) (v := 0) G dX1_setting_10 rfl ?_
  refine ax_ldc2 (pc := 11) G q1642 dX1_setting_11 ?_
  refine ax_cS1 (pc := 14) (kb := 2) (nb := 12) G (ct_in hA ((nI 9).toInt64) 0 10) lSX1_62 dX1_setting_14 rfl (by decide) (Nat.le_of_ble_eq_true rfl) rfl ?_
  rw [cIn_k (A := 0) (B := 10) (a := (nI 0)) (b := (nI 10)) (nI 9) (by decide) (by decide)]
  refine ax_cS0 (pc := 17) (kb := 1) (nb := 6) G (ct_argYb hA (B := (pIn (nI 9) (nI 0) (nI 10))) (by decide)) lSX1_144 dX1_setting_17 rfl (by decide) (Nat.le_of_ble_eq_true rfl) rfl ?_
  refine ax_iload_n (pc := 20) G dX1_setting_20 rfl rfl ?_
  refine ax_tabIn (pc := 21) (tgt := 142) G dX1_setting_21 (by decide) (by decide) (by decide) rfl rfl ?_
  refine ax_aload_n (pc := 142) G dX1_setting_142 rfl rfl ?_
  refine ax_getf (pc := 143) (v := .int (pl 9)) G flX1_283_10 dX1_setting_143 (((hE (s, π, (.ref (D.1 0)), (D.1 8))).1).1) rfl ?_
  refine ax_goto (pc := 146) (tgt := 156) G dX1_setting_146 rfl ?_
  exact ax_iretE (pc := 156) G E rfl (rfl) dX1_setting_156 (rfl) (rfl)

theorem cq_setting_10 {Ω : ax_O} (hA : ax_Amb Ω) {h : ax_H} {a : Nat} {pl s : pR} {π : Nat → cP} {N V O A : Nat} {D : cD} (ha : Ω.2.1.heap.size ≤ a) (hp : pWP pl N V O) (hs : pWS s A) (hE : cEn h a pl s N V O A D) {X bf tr hi sv lb : Nat} {x1 x2 x3 : Int32} (hX : ∀ σ, (sH h a σ).1 X = some (.inr (0, [.ref bf, .int x1, .int x2, .int x3, .ref a, .ref tr, .ref hi, .ref sv, .ref lb])))  : ax_Met Ω yX1_setting 20 4 24 [.ref X, .int (nI 10)] (sH h a (s, π, (.ref (D.1 0)), (D.1 8))) (.inl (some (.int (s 5)))) (sH h a (s, π, (.ref (D.1 0)), (D.1 8))) := by
  refine ax_met q1641 q113 (by decide +kernel) (by decide) hA (Nat.le_of_ble_eq_true rfl) (fun Γ G E => ?_)
  have hV9 := hp.lV
  have hA9 := hs.lA
  have hO9 := hp.lO
  show ax_W Ω Γ 4 24 (sH h a (s, π, (.ref (D.1 0)), (D.1 8))) 0 [some (.ref X), some (.int (nI 10)), none] []
  refine ax_aload_n (pc := 0) G dX1_setting_0 rfl rfl ?_
  refine ax_cV1 (pc := 1) (kb := 2) (nb := 12) G (cx_thereY hA (π := π) ha hp hs hE hX) lVX1_79_0 dX1_setting_1 (hX _) rfl (by decide) (Nat.le_of_ble_eq_true rfl) rfl ?_
  refine sr_get (pc := 4) (v := .ref (D.1 0)) G flX1_83_1 dX1_setting_4 rfl ?_
  refine ax_astore_n (pc := 7) G dX1_setting_7 rfl (Nat.le_of_ble_eq_true rfl) rfl ?_
  refine ax_iload_n (pc := 8) G dX1_setting_8 rfl rfl ?_
  refine ax_i2l (pc := 9) G dX1_setting_9 rfl ?_
  refine ax_lconst (pc := 10) (v := 0) G dX1_setting_10 rfl ?_
  refine ax_ldc2 (pc := 11) G q1642 dX1_setting_11 ?_
  refine ax_cS1 (pc := 14) (kb := 2) (nb := 12) G (ct_in hA ((nI 10).toInt64) 0 10) lSX1_62 dX1_setting_14 rfl (by decide) (Nat.le_of_ble_eq_true rfl) rfl ?_
  rw [cIn_k (A := 0) (B := 10) (a := (nI 0)) (b := (nI 10)) (nI 10) (by decide) (by decide)]
  refine ax_cS0 (pc := 17) (kb := 1) (nb := 6) G (ct_argYb hA (B := (pIn (nI 10) (nI 0) (nI 10))) (by decide)) lSX1_144 dX1_setting_17 rfl (by decide) (Nat.le_of_ble_eq_true rfl) rfl ?_
  refine ax_iload_n (pc := 20) G dX1_setting_20 rfl rfl ?_
  refine ax_tabOut (pc := 21) (tgt := 149) G dX1_setting_21 (by decide) (by decide) rfl ?_
  refine ax_aload_n (pc := 149) G dX1_setting_149 rfl rfl ?_
  refine ax_getf (pc := 150) (v := .ref a) G flX1_72_0 dX1_setting_150 (hX _) rfl ?_
  refine sr_get (pc := 153) (v := .int (s 5)) G flX1_286_1 dX1_setting_153 rfl ?_
  exact ax_iretE (pc := 156) G E rfl (rfl) dX1_setting_156 (rfl) (rfl)

theorem cq_setting_N {Ω : ax_O} (hA : ax_Amb Ω) {h : ax_H} {X bf tr hi sv lb : Nat} {x1 x2 x3 : Int32} (hX : h.1 X = some (.inr (0, [.ref bf, .int x1, .int x2, .int x3, .null, .ref tr, .ref hi, .ref sv, .ref lb]))) (w : Int32)  : ax_Met Ω yX1_setting 20 4 24 [.ref X, .int w] h (.inr h.2) (ax_add h (.inr (21, []))) := by
  refine ax_met q1641 q113 (by decide +kernel) (by decide) hA (Nat.le_of_ble_eq_true rfl) (fun Γ G E => ?_)
  show ax_W Ω Γ 4 24 h 0 [some (.ref X), some (.int w), none] []
  refine ax_aload_n (pc := 0) G dX1_setting_0 rfl rfl ?_
  refine ax_callV (pc := 1) (kb := 2) (nb := 12) G (cx_thereN hA hX) lVX1_79_0 dX1_setting_1 (hX) rfl (by decide) (Nat.le_of_ble_eq_true rfl) rfl (fun _ e9 => by cases e9) (fun q9 e9 => ?_)
  cases e9
  exact ax_out G E (fun x hx => by cases hx)

theorem cq_setting_B {Ω : ax_O} (hA : ax_Amb Ω) {h : ax_H} {a : Nat} {pl s : pR} {π : Nat → cP} {N V O A : Nat} {D : cD} (ha : Ω.2.1.heap.size ≤ a) (hp : pWP pl N V O) (hs : pWS s A) (hE : cEn h a pl s N V O A D) {X bf tr hi sv lb : Nat} {x1 x2 x3 : Int32} (hX : ∀ σ, (sH h a σ).1 X = some (.inr (0, [.ref bf, .int x1, .int x2, .int x3, .ref a, .ref tr, .ref hi, .ref sv, .ref lb]))) (w : Int32) (hb : pIn w (nI 0) (nI 10) = false)  : ax_Met Ω yX1_setting 20 4 24 [.ref X, .int w] (sH h a (s, π, (.ref (D.1 0)), (D.1 8))) (.inr (sH h a (s, π, (.ref (D.1 0)), (D.1 8))).2) (ax_add (sH h a (s, π, (.ref (D.1 0)), (D.1 8))) (.inr (20, []))) := by
  refine ax_met q1641 q113 (by decide +kernel) (by decide) hA (Nat.le_of_ble_eq_true rfl) (fun Γ G E => ?_)
  have hV9 := hp.lV
  have hA9 := hs.lA
  have hO9 := hp.lO
  show ax_W Ω Γ 4 24 (sH h a (s, π, (.ref (D.1 0)), (D.1 8))) 0 [some (.ref X), some (.int w), none] []
  refine ax_aload_n (pc := 0) G dX1_setting_0 rfl rfl ?_
  refine ax_cV1 (pc := 1) (kb := 2) (nb := 12) G (cx_thereY hA (π := π) ha hp hs hE hX) lVX1_79_0 dX1_setting_1 (hX _) rfl (by decide) (Nat.le_of_ble_eq_true rfl) rfl ?_
  refine sr_get (pc := 4) (v := .ref (D.1 0)) G flX1_83_1 dX1_setting_4 rfl ?_
  refine ax_astore_n (pc := 7) G dX1_setting_7 rfl (Nat.le_of_ble_eq_true rfl) rfl ?_
  refine ax_iload_n (pc := 8) G dX1_setting_8 rfl rfl ?_
  refine ax_i2l (pc := 9) G dX1_setting_9 rfl ?_
  refine ax_lconst (pc := 10) (v := 0) G dX1_setting_10 rfl ?_
  refine ax_ldc2 (pc := 11) G q1642 dX1_setting_11 ?_
  refine ax_cS1 (pc := 14) (kb := 2) (nb := 12) G (ct_in hA w.toInt64 0 10) lSX1_62 dX1_setting_14 rfl (by decide) (Nat.le_of_ble_eq_true rfl) rfl ?_
  rw [cIn_k (A := 0) (B := 10) (a := (nI 0)) (b := (nI 10)) w (by decide) (by decide)]
  refine ax_callS (pc := 17) (kb := 1) (nb := 6) G (ct_argNb hA (B := (pIn w (nI 0) (nI 10))) (hb)) lSX1_144 dX1_setting_17 rfl (by decide) (Nat.le_of_ble_eq_true rfl) rfl (fun _ e9 => by cases e9) (fun q9 e9 => ?_)
  cases e9
  exact ax_out G E (fun x hx => by cases hx)

theorem cq_visit_0 {Ω : ax_O} (hA : ax_Amb Ω) {h : ax_H} {a : Nat} {pl s : pR} {π : Nat → cP} {N V O A : Nat} {D : cD} (ha : Ω.2.1.heap.size ≤ a) (hp : pWP pl N V O) (hs : pWS s A) (hE : cEn h a pl s N V O A D) {X bf tr hi sv lb : Nat} {x1 x2 x3 : Int32} (hX : ∀ σ, (sH h a σ).1 X = some (.inr (0, [.ref bf, .int x1, .int x2, .int x3, .ref a, .ref tr, .ref hi, .ref sv, .ref lb]))) (k : Nat) (hk : k < V)  : ax_Met Ω yX1_visit 20 4 24 [.ref X, .int (nI k), .int (nI 0)] (sH h a (s, π, (.ref (D.1 0)), (D.1 8))) (.inl (some (.int (pl (66 + 8 * k + 0))))) (sH h a (s, π, (.ref (D.1 0)), (D.1 8))) := by
  refine ax_met q1495 q113 (by decide +kernel) (by decide) hA (Nat.le_of_ble_eq_true rfl) (fun Γ G E => ?_)
  have hV9 := hp.lV
  have hA9 := hs.lA
  have hO9 := hp.lO
  show ax_W Ω Γ 4 24 (sH h a (s, π, (.ref (D.1 0)), (D.1 8))) 0 [some (.ref X), some (.int (nI k)), some (.int (nI 0)), none] []
  refine ax_aload_n (pc := 0) G dX1_visit_0 rfl rfl ?_
  refine ax_iload_n (pc := 1) G dX1_visit_1 rfl rfl ?_
  refine ax_cV1 (pc := 2) (kb := 1) (nb := 6) G (cx_withVisitY hA (π := π) ha hp hs hE hX k (by omega)) lVX1_186_0 dX1_visit_2 (hX _) rfl (by decide) (Nat.le_of_ble_eq_true rfl) rfl ?_
  refine sr_get (pc := 5) (v := .ref (D.1 0)) G flX1_83_1 dX1_visit_5 rfl ?_
  refine ax_getf (pc := 8) (v := .ref (D.1 2)) G flX1_97_10 dX1_visit_8 (((hE (s, π, (.ref (D.1 0)), (D.1 8))).1).1) rfl ?_
  refine ax_iload_n (pc := 11) G dX1_visit_11 rfl rfl ?_
  refine ax_cJ1 (pc := 12) (kb := 1) (nb := 6) G (ct_lget hA ((hE (s, π, (.ref (D.1 0)), (D.1 8))).1.2.2.1).1 ((hE (s, π, (.ref (D.1 0)), (D.1 8))).1.2.2.1).2.1 (q := D.2.1 1 k) k (by omega) ((hE (s, π, (.ref (D.1 0)), (D.1 8))).1.2.2.1).2.2.1 ((hE (s, π, (.ref (D.1 0)), (D.1 8))).1.2.2.1).2.2.2.1 (((hE (s, π, (.ref (D.1 0)), (D.1 8))).1.2.2.1).2.2.2.2 k (by omega))) lJX1_7_16 dX1_visit_12 (((hE (s, π, (.ref (D.1 0)), (D.1 8))).1.2.2.1).1) rfl (by decide) (Nat.le_of_ble_eq_true rfl) rfl ?_
  refine ax_checkcast (pc := 17) G q1500 ⟨_, rfl, Or.inl rfl⟩ dX1_visit_17 (((hE (s, π, (.ref (D.1 0)), (D.1 8))).1.2.2.2.2.1 k (by omega)).choose_spec) ?_
  refine ax_astore_n (pc := 20) G dX1_visit_20 rfl (Nat.le_of_ble_eq_true rfl) rfl ?_
  refine ax_iload_n (pc := 21) G dX1_visit_21 rfl rfl ?_
  refine ax_i2l (pc := 22) G dX1_visit_22 rfl ?_
  refine ax_lconst (pc := 23) (v := 0) G dX1_visit_23 rfl ?_
  refine ax_ldc2 (pc := 24) G q1452 dX1_visit_24 ?_
  refine ax_cS1 (pc := 27) (kb := 1) (nb := 6) G (ct_in hA ((nI 0).toInt64) 0 7) lSX1_62 dX1_visit_27 rfl (by decide) (Nat.le_of_ble_eq_true rfl) rfl ?_
  rw [cIn_k (A := 0) (B := 7) (a := (nI 0)) (b := (nI 7)) (nI 0) (by decide) (by decide)]
  refine ax_cS0 (pc := 30) (kb := 0) (nb := 0) G (ct_argYb hA (B := (pIn (nI 0) (nI 0) (nI 7))) (by decide)) lSX1_144 dX1_visit_30 rfl (by decide) (Nat.le_of_ble_eq_true rfl) rfl ?_
  refine ax_iload_n (pc := 33) G dX1_visit_33 rfl rfl ?_
  refine ax_tabIn (pc := 34) (tgt := 76) G dX1_visit_34 (by decide) (by decide) (by decide) rfl rfl ?_
  refine ax_aload_n (pc := 76) G dX1_visit_76 rfl rfl ?_
  refine ax_cVU1 (pc := 77) (kb := 0) (nb := 0) G (ct_proposal_13 hA (((hE (s, π, (.ref (D.1 0)), (D.1 8))).1.2.2.2.2.1 k (by omega)).choose_spec)) lVUX1_191_13 dX1_visit_77 (((hE (s, π, (.ref (D.1 0)), (D.1 8))).1.2.2.2.2.1 k (by omega)).choose_spec) rfl (by decide) (Nat.le_of_ble_eq_true rfl) rfl ?_
  refine ax_goto (pc := 80) (tgt := 134) G dX1_visit_80 rfl ?_
  exact ax_iretE (pc := 134) G E rfl (rfl) dX1_visit_134 (rfl) (rfl)

theorem cq_visit_1 {Ω : ax_O} (hA : ax_Amb Ω) {h : ax_H} {a : Nat} {pl s : pR} {π : Nat → cP} {N V O A : Nat} {D : cD} (ha : Ω.2.1.heap.size ≤ a) (hp : pWP pl N V O) (hs : pWS s A) (hE : cEn h a pl s N V O A D) {X bf tr hi sv lb : Nat} {x1 x2 x3 : Int32} (hX : ∀ σ, (sH h a σ).1 X = some (.inr (0, [.ref bf, .int x1, .int x2, .int x3, .ref a, .ref tr, .ref hi, .ref sv, .ref lb]))) (k : Nat) (hk : k < V)  : ax_Met Ω yX1_visit 20 4 24 [.ref X, .int (nI k), .int (nI 1)] (sH h a (s, π, (.ref (D.1 0)), (D.1 8))) (.inl (some (.int (pl (66 + 8 * k + 1))))) (sH h a (s, π, (.ref (D.1 0)), (D.1 8))) := by
  refine ax_met q1495 q113 (by decide +kernel) (by decide) hA (Nat.le_of_ble_eq_true rfl) (fun Γ G E => ?_)
  have hV9 := hp.lV
  have hA9 := hs.lA
  have hO9 := hp.lO
  show ax_W Ω Γ 4 24 (sH h a (s, π, (.ref (D.1 0)), (D.1 8))) 0 [some (.ref X), some (.int (nI k)), some (.int (nI 1)), none] []
  refine ax_aload_n (pc := 0) G dX1_visit_0 rfl rfl ?_
  refine ax_iload_n (pc := 1) G dX1_visit_1 rfl rfl ?_
  refine ax_cV1 (pc := 2) (kb := 1) (nb := 6) G (cx_withVisitY hA (π := π) ha hp hs hE hX k (by omega)) lVX1_186_0 dX1_visit_2 (hX _) rfl (by decide) (Nat.le_of_ble_eq_true rfl) rfl ?_
  refine sr_get (pc := 5) (v := .ref (D.1 0)) G flX1_83_1 dX1_visit_5 rfl ?_
  refine ax_getf (pc := 8) (v := .ref (D.1 2)) G flX1_97_10 dX1_visit_8 (((hE (s, π, (.ref (D.1 0)), (D.1 8))).1).1) rfl ?_
  refine ax_iload_n (pc := 11) G dX1_visit_11 rfl rfl ?_
  refine ax_cJ1 (pc := 12) (kb := 1) (nb := 6) G (ct_lget hA ((hE (s, π, (.ref (D.1 0)), (D.1 8))).1.2.2.1).1 ((hE (s, π, (.ref (D.1 0)), (D.1 8))).1.2.2.1).2.1 (q := D.2.1 1 k) k (by omega) ((hE (s, π, (.ref (D.1 0)), (D.1 8))).1.2.2.1).2.2.1 ((hE (s, π, (.ref (D.1 0)), (D.1 8))).1.2.2.1).2.2.2.1 (((hE (s, π, (.ref (D.1 0)), (D.1 8))).1.2.2.1).2.2.2.2 k (by omega))) lJX1_7_16 dX1_visit_12 (((hE (s, π, (.ref (D.1 0)), (D.1 8))).1.2.2.1).1) rfl (by decide) (Nat.le_of_ble_eq_true rfl) rfl ?_
  refine ax_checkcast (pc := 17) G q1500 ⟨_, rfl, Or.inl rfl⟩ dX1_visit_17 (((hE (s, π, (.ref (D.1 0)), (D.1 8))).1.2.2.2.2.1 k (by omega)).choose_spec) ?_
  refine ax_astore_n (pc := 20) G dX1_visit_20 rfl (Nat.le_of_ble_eq_true rfl) rfl ?_
  refine ax_iload_n (pc := 21) G dX1_visit_21 rfl rfl ?_
  refine ax_i2l (pc := 22) G dX1_visit_22 rfl ?_
  refine ax_lconst (pc := 23) (v := 0) G dX1_visit_23 rfl ?_
  refine ax_ldc2 (pc := 24) G q1452 dX1_visit_24 ?_
  refine ax_cS1 (pc := 27) (kb := 1) (nb := 6) G (ct_in hA ((nI 1).toInt64) 0 7) lSX1_62 dX1_visit_27 rfl (by decide) (Nat.le_of_ble_eq_true rfl) rfl ?_
  rw [cIn_k (A := 0) (B := 7) (a := (nI 0)) (b := (nI 7)) (nI 1) (by decide) (by decide)]
  refine ax_cS0 (pc := 30) (kb := 0) (nb := 0) G (ct_argYb hA (B := (pIn (nI 1) (nI 0) (nI 7))) (by decide)) lSX1_144 dX1_visit_30 rfl (by decide) (Nat.le_of_ble_eq_true rfl) rfl ?_
  refine ax_iload_n (pc := 33) G dX1_visit_33 rfl rfl ?_
  refine ax_tabIn (pc := 34) (tgt := 83) G dX1_visit_34 (by decide) (by decide) (by decide) rfl rfl ?_
  refine ax_aload_n (pc := 83) G dX1_visit_83 rfl rfl ?_
  refine ax_cVU1 (pc := 84) (kb := 0) (nb := 0) G (ct_lon_13 hA (((hE (s, π, (.ref (D.1 0)), (D.1 8))).1.2.2.2.2.1 k (by omega)).choose_spec)) lVUX1_192_13 dX1_visit_84 (((hE (s, π, (.ref (D.1 0)), (D.1 8))).1.2.2.2.2.1 k (by omega)).choose_spec) rfl (by decide) (Nat.le_of_ble_eq_true rfl) rfl ?_
  refine ax_goto (pc := 87) (tgt := 134) G dX1_visit_87 rfl ?_
  exact ax_iretE (pc := 134) G E rfl (rfl) dX1_visit_134 (rfl) (rfl)

theorem cq_visit_2 {Ω : ax_O} (hA : ax_Amb Ω) {h : ax_H} {a : Nat} {pl s : pR} {π : Nat → cP} {N V O A : Nat} {D : cD} (ha : Ω.2.1.heap.size ≤ a) (hp : pWP pl N V O) (hs : pWS s A) (hE : cEn h a pl s N V O A D) {X bf tr hi sv lb : Nat} {x1 x2 x3 : Int32} (hX : ∀ σ, (sH h a σ).1 X = some (.inr (0, [.ref bf, .int x1, .int x2, .int x3, .ref a, .ref tr, .ref hi, .ref sv, .ref lb]))) (k : Nat) (hk : k < V)  : ax_Met Ω yX1_visit 20 4 24 [.ref X, .int (nI k), .int (nI 2)] (sH h a (s, π, (.ref (D.1 0)), (D.1 8))) (.inl (some (.int (pl (66 + 8 * k + 2))))) (sH h a (s, π, (.ref (D.1 0)), (D.1 8))) := by
  refine ax_met q1495 q113 (by decide +kernel) (by decide) hA (Nat.le_of_ble_eq_true rfl) (fun Γ G E => ?_)
  have hV9 := hp.lV
  have hA9 := hs.lA
  have hO9 := hp.lO
  show ax_W Ω Γ 4 24 (sH h a (s, π, (.ref (D.1 0)), (D.1 8))) 0 [some (.ref X), some (.int (nI k)), some (.int (nI 2)), none] []
  refine ax_aload_n (pc := 0) G dX1_visit_0 rfl rfl ?_
  refine ax_iload_n (pc := 1) G dX1_visit_1 rfl rfl ?_
  refine ax_cV1 (pc := 2) (kb := 1) (nb := 6) G (cx_withVisitY hA (π := π) ha hp hs hE hX k (by omega)) lVX1_186_0 dX1_visit_2 (hX _) rfl (by decide) (Nat.le_of_ble_eq_true rfl) rfl ?_
  refine sr_get (pc := 5) (v := .ref (D.1 0)) G flX1_83_1 dX1_visit_5 rfl ?_
  refine ax_getf (pc := 8) (v := .ref (D.1 2)) G flX1_97_10 dX1_visit_8 (((hE (s, π, (.ref (D.1 0)), (D.1 8))).1).1) rfl ?_
  refine ax_iload_n (pc := 11) G dX1_visit_11 rfl rfl ?_
  refine ax_cJ1 (pc := 12) (kb := 1) (nb := 6) G (ct_lget hA ((hE (s, π, (.ref (D.1 0)), (D.1 8))).1.2.2.1).1 ((hE (s, π, (.ref (D.1 0)), (D.1 8))).1.2.2.1).2.1 (q := D.2.1 1 k) k (by omega) ((hE (s, π, (.ref (D.1 0)), (D.1 8))).1.2.2.1).2.2.1 ((hE (s, π, (.ref (D.1 0)), (D.1 8))).1.2.2.1).2.2.2.1 (((hE (s, π, (.ref (D.1 0)), (D.1 8))).1.2.2.1).2.2.2.2 k (by omega))) lJX1_7_16 dX1_visit_12 (((hE (s, π, (.ref (D.1 0)), (D.1 8))).1.2.2.1).1) rfl (by decide) (Nat.le_of_ble_eq_true rfl) rfl ?_
  refine ax_checkcast (pc := 17) G q1500 ⟨_, rfl, Or.inl rfl⟩ dX1_visit_17 (((hE (s, π, (.ref (D.1 0)), (D.1 8))).1.2.2.2.2.1 k (by omega)).choose_spec) ?_
  refine ax_astore_n (pc := 20) G dX1_visit_20 rfl (Nat.le_of_ble_eq_true rfl) rfl ?_
  refine ax_iload_n (pc := 21) G dX1_visit_21 rfl rfl ?_
  refine ax_i2l (pc := 22) G dX1_visit_22 rfl ?_
  refine ax_lconst (pc := 23) (v := 0) G dX1_visit_23 rfl ?_
  refine ax_ldc2 (pc := 24) G q1452 dX1_visit_24 ?_
  refine ax_cS1 (pc := 27) (kb := 1) (nb := 6) G (ct_in hA ((nI 2).toInt64) 0 7) lSX1_62 dX1_visit_27 rfl (by decide) (Nat.le_of_ble_eq_true rfl) rfl ?_
  rw [cIn_k (A := 0) (B := 7) (a := (nI 0)) (b := (nI 7)) (nI 2) (by decide) (by decide)]
  refine ax_cS0 (pc := 30) (kb := 0) (nb := 0) G (ct_argYb hA (B := (pIn (nI 2) (nI 0) (nI 7))) (by decide)) lSX1_144 dX1_visit_30 rfl (by decide) (Nat.le_of_ble_eq_true rfl) rfl ?_
  refine ax_iload_n (pc := 33) G dX1_visit_33 rfl rfl ?_
  refine ax_tabIn (pc := 34) (tgt := 90) G dX1_visit_34 (by decide) (by decide) (by decide) rfl rfl ?_
  refine ax_aload_n (pc := 90) G dX1_visit_90 rfl rfl ?_
  refine ax_cVU1 (pc := 91) (kb := 0) (nb := 0) G (ct_lat_13 hA (((hE (s, π, (.ref (D.1 0)), (D.1 8))).1.2.2.2.2.1 k (by omega)).choose_spec)) lVUX1_195_13 dX1_visit_91 (((hE (s, π, (.ref (D.1 0)), (D.1 8))).1.2.2.2.2.1 k (by omega)).choose_spec) rfl (by decide) (Nat.le_of_ble_eq_true rfl) rfl ?_
  refine ax_goto (pc := 94) (tgt := 134) G dX1_visit_94 rfl ?_
  exact ax_iretE (pc := 134) G E rfl (rfl) dX1_visit_134 (rfl) (rfl)

theorem cq_visit_3 {Ω : ax_O} (hA : ax_Amb Ω) {h : ax_H} {a : Nat} {pl s : pR} {π : Nat → cP} {N V O A : Nat} {D : cD} (ha : Ω.2.1.heap.size ≤ a) (hp : pWP pl N V O) (hs : pWS s A) (hE : cEn h a pl s N V O A D) {X bf tr hi sv lb : Nat} {x1 x2 x3 : Int32} (hX : ∀ σ, (sH h a σ).1 X = some (.inr (0, [.ref bf, .int x1, .int x2, .int x3, .ref a, .ref tr, .ref hi, .ref sv, .ref lb]))) (k : Nat) (hk : k < V)  : ax_Met Ω yX1_visit 20 4 24 [.ref X, .int (nI k), .int (nI 3)] (sH h a (s, π, (.ref (D.1 0)), (D.1 8))) (.inl (some (.int (pl (66 + 8 * k + 3))))) (sH h a (s, π, (.ref (D.1 0)), (D.1 8))) := by
  refine ax_met q1495 q113 (by decide +kernel) (by decide) hA (Nat.le_of_ble_eq_true rfl) (fun Γ G E => ?_)
  have hV9 := hp.lV
  have hA9 := hs.lA
  have hO9 := hp.lO
  show ax_W Ω Γ 4 24 (sH h a (s, π, (.ref (D.1 0)), (D.1 8))) 0 [some (.ref X), some (.int (nI k)), some (.int (nI 3)), none] []
  refine ax_aload_n (pc := 0) G dX1_visit_0 rfl rfl ?_
  refine ax_iload_n (pc := 1) G dX1_visit_1 rfl rfl ?_
  refine ax_cV1 (pc := 2) (kb := 1) (nb := 6) G (cx_withVisitY hA (π := π) ha hp hs hE hX k (by omega)) lVX1_186_0 dX1_visit_2 (hX _) rfl (by decide) (Nat.le_of_ble_eq_true rfl) rfl ?_
  refine sr_get (pc := 5) (v := .ref (D.1 0)) G flX1_83_1 dX1_visit_5 rfl ?_
  refine ax_getf (pc := 8) (v := .ref (D.1 2)) G flX1_97_10 dX1_visit_8 (((hE (s, π, (.ref (D.1 0)), (D.1 8))).1).1) rfl ?_
  refine ax_iload_n (pc := 11) G dX1_visit_11 rfl rfl ?_
  refine ax_cJ1 (pc := 12) (kb := 1) (nb := 6) G (ct_lget hA ((hE (s, π, (.ref (D.1 0)), (D.1 8))).1.2.2.1).1 ((hE (s, π, (.ref (D.1 0)), (D.1 8))).1.2.2.1).2.1 (q := D.2.1 1 k) k (by omega) ((hE (s, π, (.ref (D.1 0)), (D.1 8))).1.2.2.1).2.2.1 ((hE (s, π, (.ref (D.1 0)), (D.1 8))).1.2.2.1).2.2.2.1 (((hE (s, π, (.ref (D.1 0)), (D.1 8))).1.2.2.1).2.2.2.2 k (by omega))) lJX1_7_16 dX1_visit_12 (((hE (s, π, (.ref (D.1 0)), (D.1 8))).1.2.2.1).1) rfl (by decide) (Nat.le_of_ble_eq_true rfl) rfl ?_
  refine ax_checkcast (pc := 17) G q1500 ⟨_, rfl, Or.inl rfl⟩ dX1_visit_17 (((hE (s, π, (.ref (D.1 0)), (D.1 8))).1.2.2.2.2.1 k (by omega)).choose_spec) ?_
  refine ax_astore_n (pc := 20) G dX1_visit_20 rfl (Nat.le_of_ble_eq_true rfl) rfl ?_
  refine ax_iload_n (pc := 21) G dX1_visit_21 rfl rfl ?_
  refine ax_i2l (pc := 22) G dX1_visit_22 rfl ?_
  refine ax_lconst (pc := 23) (v := 0) G dX1_visit_23 rfl ?_
  refine ax_ldc2 (pc := 24) G q1452 dX1_visit_24 ?_
  refine ax_cS1 (pc := 27) (kb := 1) (nb := 6) G (ct_in hA ((nI 3).toInt64) 0 7) lSX1_62 dX1_visit_27 rfl (by decide) (Nat.le_of_ble_eq_true rfl) rfl ?_
  rw [cIn_k (A := 0) (B := 7) (a := (nI 0)) (b := (nI 7)) (nI 3) (by decide) (by decide)]
  refine ax_cS0 (pc := 30) (kb := 0) (nb := 0) G (ct_argYb hA (B := (pIn (nI 3) (nI 0) (nI 7))) (by decide)) lSX1_144 dX1_visit_30 rfl (by decide) (Nat.le_of_ble_eq_true rfl) rfl ?_
  refine ax_iload_n (pc := 33) G dX1_visit_33 rfl rfl ?_
  refine ax_tabIn (pc := 34) (tgt := 97) G dX1_visit_34 (by decide) (by decide) (by decide) rfl rfl ?_
  refine ax_aload_n (pc := 97) G dX1_visit_97 rfl rfl ?_
  refine ax_cVU1 (pc := 98) (kb := 0) (nb := 0) G (ct_duration_13 hA (((hE (s, π, (.ref (D.1 0)), (D.1 8))).1.2.2.2.2.1 k (by omega)).choose_spec)) lVUX1_198_13 dX1_visit_98 (((hE (s, π, (.ref (D.1 0)), (D.1 8))).1.2.2.2.2.1 k (by omega)).choose_spec) rfl (by decide) (Nat.le_of_ble_eq_true rfl) rfl ?_
  refine ax_goto (pc := 101) (tgt := 134) G dX1_visit_101 rfl ?_
  exact ax_iretE (pc := 134) G E rfl (rfl) dX1_visit_134 (rfl) (rfl)

theorem cq_visit_4 {Ω : ax_O} (hA : ax_Amb Ω) {h : ax_H} {a : Nat} {pl s : pR} {π : Nat → cP} {N V O A : Nat} {D : cD} (ha : Ω.2.1.heap.size ≤ a) (hp : pWP pl N V O) (hs : pWS s A) (hE : cEn h a pl s N V O A D) {X bf tr hi sv lb : Nat} {x1 x2 x3 : Int32} (hX : ∀ σ, (sH h a σ).1 X = some (.inr (0, [.ref bf, .int x1, .int x2, .int x3, .ref a, .ref tr, .ref hi, .ref sv, .ref lb]))) (k : Nat) (hk : k < V)  : ax_Met Ω yX1_visit 20 4 24 [.ref X, .int (nI k), .int (nI 4)] (sH h a (s, π, (.ref (D.1 0)), (D.1 8))) (.inl (some (.int (s (107 + k))))) (sH h a (s, π, (.ref (D.1 0)), (D.1 8))) := by
  refine ax_met q1495 q113 (by decide +kernel) (by decide) hA (Nat.le_of_ble_eq_true rfl) (fun Γ G E => ?_)
  have hV9 := hp.lV
  have hA9 := hs.lA
  have hO9 := hp.lO
  show ax_W Ω Γ 4 24 (sH h a (s, π, (.ref (D.1 0)), (D.1 8))) 0 [some (.ref X), some (.int (nI k)), some (.int (nI 4)), none] []
  refine ax_aload_n (pc := 0) G dX1_visit_0 rfl rfl ?_
  refine ax_iload_n (pc := 1) G dX1_visit_1 rfl rfl ?_
  refine ax_cV1 (pc := 2) (kb := 1) (nb := 6) G (cx_withVisitY hA (π := π) ha hp hs hE hX k (by omega)) lVX1_186_0 dX1_visit_2 (hX _) rfl (by decide) (Nat.le_of_ble_eq_true rfl) rfl ?_
  refine sr_get (pc := 5) (v := .ref (D.1 0)) G flX1_83_1 dX1_visit_5 rfl ?_
  refine ax_getf (pc := 8) (v := .ref (D.1 2)) G flX1_97_10 dX1_visit_8 (((hE (s, π, (.ref (D.1 0)), (D.1 8))).1).1) rfl ?_
  refine ax_iload_n (pc := 11) G dX1_visit_11 rfl rfl ?_
  refine ax_cJ1 (pc := 12) (kb := 1) (nb := 6) G (ct_lget hA ((hE (s, π, (.ref (D.1 0)), (D.1 8))).1.2.2.1).1 ((hE (s, π, (.ref (D.1 0)), (D.1 8))).1.2.2.1).2.1 (q := D.2.1 1 k) k (by omega) ((hE (s, π, (.ref (D.1 0)), (D.1 8))).1.2.2.1).2.2.1 ((hE (s, π, (.ref (D.1 0)), (D.1 8))).1.2.2.1).2.2.2.1 (((hE (s, π, (.ref (D.1 0)), (D.1 8))).1.2.2.1).2.2.2.2 k (by omega))) lJX1_7_16 dX1_visit_12 (((hE (s, π, (.ref (D.1 0)), (D.1 8))).1.2.2.1).1) rfl (by decide) (Nat.le_of_ble_eq_true rfl) rfl ?_
  refine ax_checkcast (pc := 17) G q1500 ⟨_, rfl, Or.inl rfl⟩ dX1_visit_17 (((hE (s, π, (.ref (D.1 0)), (D.1 8))).1.2.2.2.2.1 k (by omega)).choose_spec) ?_
  refine ax_astore_n (pc := 20) G dX1_visit_20 rfl (Nat.le_of_ble_eq_true rfl) rfl ?_
  refine ax_iload_n (pc := 21) G dX1_visit_21 rfl rfl ?_
  refine ax_i2l (pc := 22) G dX1_visit_22 rfl ?_
  refine ax_lconst (pc := 23) (v := 0) G dX1_visit_23 rfl ?_
  refine ax_ldc2 (pc := 24) G q1452 dX1_visit_24 ?_
  refine ax_cS1 (pc := 27) (kb := 1) (nb := 6) G (ct_in hA ((nI 4).toInt64) 0 7) lSX1_62 dX1_visit_27 rfl (by decide) (Nat.le_of_ble_eq_true rfl) rfl ?_
  rw [cIn_k (A := 0) (B := 7) (a := (nI 0)) (b := (nI 7)) (nI 4) (by decide) (by decide)]
  refine ax_cS0 (pc := 30) (kb := 0) (nb := 0) G (ct_argYb hA (B := (pIn (nI 4) (nI 0) (nI 7))) (by decide)) lSX1_144 dX1_visit_30 rfl (by decide) (Nat.le_of_ble_eq_true rfl) rfl ?_
  refine ax_iload_n (pc := 33) G dX1_visit_33 rfl rfl ?_
  refine ax_tabIn (pc := 34) (tgt := 104) G dX1_visit_34 (by decide) (by decide) (by decide) rfl rfl ?_
  refine ax_aload_n (pc := 104) G dX1_visit_104 rfl rfl ?_
  refine ax_getf (pc := 105) (v := .ref a) G flX1_72_0 dX1_visit_105 (hX _) rfl ?_
  refine sr_get (pc := 108) (v := .ref (a + 11)) G flX1_201_1 dX1_visit_108 rfl ?_
  refine ax_iload_n (pc := 111) G dX1_visit_111 rfl rfl ?_
  refine sr_ld (pc := 112) (k := 11) (j := k) (r := 107 + k) G dX1_visit_112 (by decide) (by decide) rfl rfl (show k < 20 by omega) ?_
  show ax_W Ω Γ _ _ _ _ _ (.int (s (107 + k)) :: _)
  refine ax_goto (pc := 113) (tgt := 134) G dX1_visit_113 rfl ?_
  exact ax_iretE (pc := 134) G E rfl (rfl) dX1_visit_134 (rfl) (rfl)

theorem cq_visit_5 {Ω : ax_O} (hA : ax_Amb Ω) {h : ax_H} {a : Nat} {pl s : pR} {π : Nat → cP} {N V O A : Nat} {D : cD} (ha : Ω.2.1.heap.size ≤ a) (hp : pWP pl N V O) (hs : pWS s A) (hE : cEn h a pl s N V O A D) {X bf tr hi sv lb : Nat} {x1 x2 x3 : Int32} (hX : ∀ σ, (sH h a σ).1 X = some (.inr (0, [.ref bf, .int x1, .int x2, .int x3, .ref a, .ref tr, .ref hi, .ref sv, .ref lb]))) (k : Nat) (hk : k < V)  : ax_Met Ω yX1_visit 20 4 24 [.ref X, .int (nI k), .int (nI 5)] (sH h a (s, π, (.ref (D.1 0)), (D.1 8))) (.inl (some (.int (pl (66 + 8 * k + 5))))) (sH h a (s, π, (.ref (D.1 0)), (D.1 8))) := by
  refine ax_met q1495 q113 (by decide +kernel) (by decide) hA (Nat.le_of_ble_eq_true rfl) (fun Γ G E => ?_)
  have hV9 := hp.lV
  have hA9 := hs.lA
  have hO9 := hp.lO
  show ax_W Ω Γ 4 24 (sH h a (s, π, (.ref (D.1 0)), (D.1 8))) 0 [some (.ref X), some (.int (nI k)), some (.int (nI 5)), none] []
  refine ax_aload_n (pc := 0) G dX1_visit_0 rfl rfl ?_
  refine ax_iload_n (pc := 1) G dX1_visit_1 rfl rfl ?_
  refine ax_cV1 (pc := 2) (kb := 1) (nb := 6) G (cx_withVisitY hA (π := π) ha hp hs hE hX k (by omega)) lVX1_186_0 dX1_visit_2 (hX _) rfl (by decide) (Nat.le_of_ble_eq_true rfl) rfl ?_
  refine sr_get (pc := 5) (v := .ref (D.1 0)) G flX1_83_1 dX1_visit_5 rfl ?_
  refine ax_getf (pc := 8) (v := .ref (D.1 2)) G flX1_97_10 dX1_visit_8 (((hE (s, π, (.ref (D.1 0)), (D.1 8))).1).1) rfl ?_
  refine ax_iload_n (pc := 11) G dX1_visit_11 rfl rfl ?_
  refine ax_cJ1 (pc := 12) (kb := 1) (nb := 6) G (ct_lget hA ((hE (s, π, (.ref (D.1 0)), (D.1 8))).1.2.2.1).1 ((hE (s, π, (.ref (D.1 0)), (D.1 8))).1.2.2.1).2.1 (q := D.2.1 1 k) k (by omega) ((hE (s, π, (.ref (D.1 0)), (D.1 8))).1.2.2.1).2.2.1 ((hE (s, π, (.ref (D.1 0)), (D.1 8))).1.2.2.1).2.2.2.1 (((hE (s, π, (.ref (D.1 0)), (D.1 8))).1.2.2.1).2.2.2.2 k (by omega))) lJX1_7_16 dX1_visit_12 (((hE (s, π, (.ref (D.1 0)), (D.1 8))).1.2.2.1).1) rfl (by decide) (Nat.le_of_ble_eq_true rfl) rfl ?_
  refine ax_checkcast (pc := 17) G q1500 ⟨_, rfl, Or.inl rfl⟩ dX1_visit_17 (((hE (s, π, (.ref (D.1 0)), (D.1 8))).1.2.2.2.2.1 k (by omega)).choose_spec) ?_
  refine ax_astore_n (pc := 20) G dX1_visit_20 rfl (Nat.le_of_ble_eq_true rfl) rfl ?_
  refine ax_iload_n (pc := 21) G dX1_visit_21 rfl rfl ?_
  refine ax_i2l (pc := 22) G dX1_visit_22 rfl ?_
  refine ax_lconst (pc := 23) (v := 0) G dX1_visit_23 rfl ?_
  refine ax_ldc2 (pc := 24) G q1452 dX1_visit_24 ?_
  refine ax_cS1 (pc := 27) (kb := 1) (nb := 6) G (ct_in hA ((nI 5).toInt64) 0 7) lSX1_62 dX1_visit_27 rfl (by decide) (Nat.le_of_ble_eq_true rfl) rfl ?_
  rw [cIn_k (A := 0) (B := 7) (a := (nI 0)) (b := (nI 7)) (nI 5) (by decide) (by decide)]
  refine ax_cS0 (pc := 30) (kb := 0) (nb := 0) G (ct_argYb hA (B := (pIn (nI 5) (nI 0) (nI 7))) (by decide)) lSX1_144 dX1_visit_30 rfl (by decide) (Nat.le_of_ble_eq_true rfl) rfl ?_
  refine ax_iload_n (pc := 33) G dX1_visit_33 rfl rfl ?_
  refine ax_tabIn (pc := 34) (tgt := 116) G dX1_visit_34 (by decide) (by decide) (by decide) rfl rfl ?_
  refine ax_aload_n (pc := 116) G dX1_visit_116 rfl rfl ?_
  refine ax_cVU1 (pc := 117) (kb := 0) (nb := 0) G (ct_push_13 hA (((hE (s, π, (.ref (D.1 0)), (D.1 8))).1.2.2.2.2.1 k (by omega)).choose_spec)) lVUX1_204_13 dX1_visit_117 (((hE (s, π, (.ref (D.1 0)), (D.1 8))).1.2.2.2.2.1 k (by omega)).choose_spec) rfl (by decide) (Nat.le_of_ble_eq_true rfl) rfl ?_
  refine ax_goto (pc := 120) (tgt := 134) G dX1_visit_120 rfl ?_
  exact ax_iretE (pc := 134) G E rfl (rfl) dX1_visit_134 (rfl) (rfl)

theorem cq_visit_6 {Ω : ax_O} (hA : ax_Amb Ω) {h : ax_H} {a : Nat} {pl s : pR} {π : Nat → cP} {N V O A : Nat} {D : cD} (ha : Ω.2.1.heap.size ≤ a) (hp : pWP pl N V O) (hs : pWS s A) (hE : cEn h a pl s N V O A D) {X bf tr hi sv lb : Nat} {x1 x2 x3 : Int32} (hX : ∀ σ, (sH h a σ).1 X = some (.inr (0, [.ref bf, .int x1, .int x2, .int x3, .ref a, .ref tr, .ref hi, .ref sv, .ref lb]))) (k : Nat) (hk : k < V)  : ax_Met Ω yX1_visit 20 4 24 [.ref X, .int (nI k), .int (nI 6)] (sH h a (s, π, (.ref (D.1 0)), (D.1 8))) (.inl (some (.int (pl (66 + 8 * k + 6))))) (sH h a (s, π, (.ref (D.1 0)), (D.1 8))) := by
  refine ax_met q1495 q113 (by decide +kernel) (by decide) hA (Nat.le_of_ble_eq_true rfl) (fun Γ G E => ?_)
  have hV9 := hp.lV
  have hA9 := hs.lA
  have hO9 := hp.lO
  show ax_W Ω Γ 4 24 (sH h a (s, π, (.ref (D.1 0)), (D.1 8))) 0 [some (.ref X), some (.int (nI k)), some (.int (nI 6)), none] []
  refine ax_aload_n (pc := 0) G dX1_visit_0 rfl rfl ?_
  refine ax_iload_n (pc := 1) G dX1_visit_1 rfl rfl ?_
  refine ax_cV1 (pc := 2) (kb := 1) (nb := 6) G (cx_withVisitY hA (π := π) ha hp hs hE hX k (by omega)) lVX1_186_0 dX1_visit_2 (hX _) rfl (by decide) (Nat.le_of_ble_eq_true rfl) rfl ?_
  refine sr_get (pc := 5) (v := .ref (D.1 0)) G flX1_83_1 dX1_visit_5 rfl ?_
  refine ax_getf (pc := 8) (v := .ref (D.1 2)) G flX1_97_10 dX1_visit_8 (((hE (s, π, (.ref (D.1 0)), (D.1 8))).1).1) rfl ?_
  refine ax_iload_n (pc := 11) G dX1_visit_11 rfl rfl ?_
  refine ax_cJ1 (pc := 12) (kb := 1) (nb := 6) G (ct_lget hA ((hE (s, π, (.ref (D.1 0)), (D.1 8))).1.2.2.1).1 ((hE (s, π, (.ref (D.1 0)), (D.1 8))).1.2.2.1).2.1 (q := D.2.1 1 k) k (by omega) ((hE (s, π, (.ref (D.1 0)), (D.1 8))).1.2.2.1).2.2.1 ((hE (s, π, (.ref (D.1 0)), (D.1 8))).1.2.2.1).2.2.2.1 (((hE (s, π, (.ref (D.1 0)), (D.1 8))).1.2.2.1).2.2.2.2 k (by omega))) lJX1_7_16 dX1_visit_12 (((hE (s, π, (.ref (D.1 0)), (D.1 8))).1.2.2.1).1) rfl (by decide) (Nat.le_of_ble_eq_true rfl) rfl ?_
  refine ax_checkcast (pc := 17) G q1500 ⟨_, rfl, Or.inl rfl⟩ dX1_visit_17 (((hE (s, π, (.ref (D.1 0)), (D.1 8))).1.2.2.2.2.1 k (by omega)).choose_spec) ?_
  refine ax_astore_n (pc := 20) G dX1_visit_20 rfl (Nat.le_of_ble_eq_true rfl) rfl ?_
  refine ax_iload_n (pc := 21) G dX1_visit_21 rfl rfl ?_
  refine ax_i2l (pc := 22) G dX1_visit_22 rfl ?_
  refine ax_lconst (pc := 23) (v := 0) G dX1_visit_23 rfl ?_
  refine ax_ldc2 (pc := 24) G q1452 dX1_visit_24 ?_
  refine ax_cS1 (pc := 27) (kb := 1) (nb := 6) G (ct_in hA ((nI 6).toInt64) 0 7) lSX1_62 dX1_visit_27 rfl (by decide) (Nat.le_of_ble_eq_true rfl) rfl ?_
  rw [cIn_k (A := 0) (B := 7) (a := (nI 0)) (b := (nI 7)) (nI 6) (by decide) (by decide)]
  refine ax_cS0 (pc := 30) (kb := 0) (nb := 0) G (ct_argYb hA (B := (pIn (nI 6) (nI 0) (nI 7))) (by decide)) lSX1_144 dX1_visit_30 rfl (by decide) (Nat.le_of_ble_eq_true rfl) rfl ?_
  refine ax_iload_n (pc := 33) G dX1_visit_33 rfl rfl ?_
  refine ax_tabIn (pc := 34) (tgt := 123) G dX1_visit_34 (by decide) (by decide) (by decide) rfl rfl ?_
  refine ax_aload_n (pc := 123) G dX1_visit_123 rfl rfl ?_
  refine ax_cV1 (pc := 124) (kb := 0) (nb := 0) G (ct_from_13 hA (((hE (s, π, (.ref (D.1 0)), (D.1 8))).1.2.2.2.2.1 k (by omega)).choose_spec)) lVX1_207_13 dX1_visit_124 (((hE (s, π, (.ref (D.1 0)), (D.1 8))).1.2.2.2.2.1 k (by omega)).choose_spec) rfl (by decide) (Nat.le_of_ble_eq_true rfl) rfl ?_
  refine ax_goto (pc := 127) (tgt := 134) G dX1_visit_127 rfl ?_
  exact ax_iretE (pc := 134) G E rfl (rfl) dX1_visit_134 (rfl) (rfl)

theorem cq_visit_7 {Ω : ax_O} (hA : ax_Amb Ω) {h : ax_H} {a : Nat} {pl s : pR} {π : Nat → cP} {N V O A : Nat} {D : cD} (ha : Ω.2.1.heap.size ≤ a) (hp : pWP pl N V O) (hs : pWS s A) (hE : cEn h a pl s N V O A D) {X bf tr hi sv lb : Nat} {x1 x2 x3 : Int32} (hX : ∀ σ, (sH h a σ).1 X = some (.inr (0, [.ref bf, .int x1, .int x2, .int x3, .ref a, .ref tr, .ref hi, .ref sv, .ref lb]))) (k : Nat) (hk : k < V)  : ax_Met Ω yX1_visit 20 4 24 [.ref X, .int (nI k), .int (nI 7)] (sH h a (s, π, (.ref (D.1 0)), (D.1 8))) (.inl (some (.int (pl (66 + 8 * k + 7))))) (sH h a (s, π, (.ref (D.1 0)), (D.1 8))) := by
  refine ax_met q1495 q113 (by decide +kernel) (by decide) hA (Nat.le_of_ble_eq_true rfl) (fun Γ G E => ?_)
  have hV9 := hp.lV
  have hA9 := hs.lA
  have hO9 := hp.lO
  show ax_W Ω Γ 4 24 (sH h a (s, π, (.ref (D.1 0)), (D.1 8))) 0 [some (.ref X), some (.int (nI k)), some (.int (nI 7)), none] []
  refine ax_aload_n (pc := 0) G dX1_visit_0 rfl rfl ?_
  refine ax_iload_n (pc := 1) G dX1_visit_1 rfl rfl ?_
  refine ax_cV1 (pc := 2) (kb := 1) (nb := 6) G (cx_withVisitY hA (π := π) ha hp hs hE hX k (by omega)) lVX1_186_0 dX1_visit_2 (hX _) rfl (by decide) (Nat.le_of_ble_eq_true rfl) rfl ?_
  refine sr_get (pc := 5) (v := .ref (D.1 0)) G flX1_83_1 dX1_visit_5 rfl ?_
  refine ax_getf (pc := 8) (v := .ref (D.1 2)) G flX1_97_10 dX1_visit_8 (((hE (s, π, (.ref (D.1 0)), (D.1 8))).1).1) rfl ?_
  refine ax_iload_n (pc := 11) G dX1_visit_11 rfl rfl ?_
  refine ax_cJ1 (pc := 12) (kb := 1) (nb := 6) G (ct_lget hA ((hE (s, π, (.ref (D.1 0)), (D.1 8))).1.2.2.1).1 ((hE (s, π, (.ref (D.1 0)), (D.1 8))).1.2.2.1).2.1 (q := D.2.1 1 k) k (by omega) ((hE (s, π, (.ref (D.1 0)), (D.1 8))).1.2.2.1).2.2.1 ((hE (s, π, (.ref (D.1 0)), (D.1 8))).1.2.2.1).2.2.2.1 (((hE (s, π, (.ref (D.1 0)), (D.1 8))).1.2.2.1).2.2.2.2 k (by omega))) lJX1_7_16 dX1_visit_12 (((hE (s, π, (.ref (D.1 0)), (D.1 8))).1.2.2.1).1) rfl (by decide) (Nat.le_of_ble_eq_true rfl) rfl ?_
  refine ax_checkcast (pc := 17) G q1500 ⟨_, rfl, Or.inl rfl⟩ dX1_visit_17 (((hE (s, π, (.ref (D.1 0)), (D.1 8))).1.2.2.2.2.1 k (by omega)).choose_spec) ?_
  refine ax_astore_n (pc := 20) G dX1_visit_20 rfl (Nat.le_of_ble_eq_true rfl) rfl ?_
  refine ax_iload_n (pc := 21) G dX1_visit_21 rfl rfl ?_
  refine ax_i2l (pc := 22) G dX1_visit_22 rfl ?_
  refine ax_lconst (pc := 23) (v := 0) G dX1_visit_23 rfl ?_
  refine ax_ldc2 (pc := 24) G q1452 dX1_visit_24 ?_
  refine ax_cS1 (pc := 27) (kb := 1) (nb := 6) G (ct_in hA ((nI 7).toInt64) 0 7) lSX1_62 dX1_visit_27 rfl (by decide) (Nat.le_of_ble_eq_true rfl) rfl ?_
  rw [cIn_k (A := 0) (B := 7) (a := (nI 0)) (b := (nI 7)) (nI 7) (by decide) (by decide)]
  refine ax_cS0 (pc := 30) (kb := 0) (nb := 0) G (ct_argYb hA (B := (pIn (nI 7) (nI 0) (nI 7))) (by decide)) lSX1_144 dX1_visit_30 rfl (by decide) (Nat.le_of_ble_eq_true rfl) rfl ?_
  refine ax_iload_n (pc := 33) G dX1_visit_33 rfl rfl ?_
  refine ax_tabOut (pc := 34) (tgt := 130) G dX1_visit_34 (by decide) (by decide) rfl ?_
  refine ax_aload_n (pc := 130) G dX1_visit_130 rfl rfl ?_
  refine ax_cV1 (pc := 131) (kb := 0) (nb := 0) G (ct_to_13 hA (((hE (s, π, (.ref (D.1 0)), (D.1 8))).1.2.2.2.2.1 k (by omega)).choose_spec)) lVX1_210_13 dX1_visit_131 (((hE (s, π, (.ref (D.1 0)), (D.1 8))).1.2.2.2.2.1 k (by omega)).choose_spec) rfl (by decide) (Nat.le_of_ble_eq_true rfl) rfl ?_
  exact ax_iretE (pc := 134) G E rfl (rfl) dX1_visit_134 (rfl) (rfl)

theorem cq_visit_N {Ω : ax_O} (hA : ax_Amb Ω) {h : ax_H} {X bf tr hi sv lb : Nat} {x1 x2 x3 : Int32} (hX : h.1 X = some (.inr (0, [.ref bf, .int x1, .int x2, .int x3, .null, .ref tr, .ref hi, .ref sv, .ref lb]))) (k : Int32) (w : Int32)  : ax_Met Ω yX1_visit 20 4 24 [.ref X, .int k, .int w] h (.inr h.2) (ax_add h (.inr (21, []))) := by
  refine ax_met q1495 q113 (by decide +kernel) (by decide) hA (Nat.le_of_ble_eq_true rfl) (fun Γ G E => ?_)
  show ax_W Ω Γ 4 24 h 0 [some (.ref X), some (.int k), some (.int w), none] []
  refine ax_aload_n (pc := 0) G dX1_visit_0 rfl rfl ?_
  refine ax_iload_n (pc := 1) G dX1_visit_1 rfl rfl ?_
  refine ax_callV (pc := 2) (kb := 1) (nb := 6) G (cx_withVisitN hA hX k) lVX1_186_0 dX1_visit_2 (hX) rfl (by decide) (Nat.le_of_ble_eq_true rfl) rfl (fun _ e9 => by cases e9) (fun q9 e9 => ?_)
  cases e9
  exact ax_out G E (fun x hx => by cases hx)

theorem cq_visit_B {Ω : ax_O} (hA : ax_Amb Ω) {h : ax_H} {a : Nat} {pl s : pR} {π : Nat → cP} {N V O A : Nat} {D : cD} (ha : Ω.2.1.heap.size ≤ a) (hp : pWP pl N V O) (hs : pWS s A) (hE : cEn h a pl s N V O A D) {X bf tr hi sv lb : Nat} {x1 x2 x3 : Int32} (hX : ∀ σ, (sH h a σ).1 X = some (.inr (0, [.ref bf, .int x1, .int x2, .int x3, .ref a, .ref tr, .ref hi, .ref sv, .ref lb]))) (k w : Int32) (hb : pIn k (nI 0) (nI V - nI 1) = false)  : ax_Met Ω yX1_visit 20 4 24 [.ref X, .int k, .int w] (sH h a (s, π, (.ref (D.1 0)), (D.1 8))) (.inr (sH h a (s, π, (.ref (D.1 0)), (D.1 8))).2) (ax_add (sH h a (s, π, (.ref (D.1 0)), (D.1 8))) (.inr (22, []))) := by
  refine ax_met q1495 q113 (by decide +kernel) (by decide) hA (Nat.le_of_ble_eq_true rfl) (fun Γ G E => ?_)
  have hV9 := hp.lV
  have hA9 := hs.lA
  have hO9 := hp.lO
  show ax_W Ω Γ 4 24 (sH h a (s, π, (.ref (D.1 0)), (D.1 8))) 0 [some (.ref X), some (.int k), some (.int w), none] []
  refine ax_aload_n (pc := 0) G dX1_visit_0 rfl rfl ?_
  refine ax_iload_n (pc := 1) G dX1_visit_1 rfl rfl ?_
  refine ax_callV (pc := 2) (kb := 1) (nb := 6) G (cx_withVisitB hA (π := π) ha hp hs hE hX k hb) lVX1_186_0 dX1_visit_2 (hX _) rfl (by decide) (Nat.le_of_ble_eq_true rfl) rfl (fun _ e9 => by cases e9) (fun q9 e9 => ?_)
  cases e9
  exact ax_out G E (fun x hx => by cases hx)

theorem cq_visit_C {Ω : ax_O} (hA : ax_Amb Ω) {h : ax_H} {a : Nat} {pl s : pR} {π : Nat → cP} {N V O A : Nat} {D : cD} (ha : Ω.2.1.heap.size ≤ a) (hp : pWP pl N V O) (hs : pWS s A) (hE : cEn h a pl s N V O A D) {X bf tr hi sv lb : Nat} {x1 x2 x3 : Int32} (hX : ∀ σ, (sH h a σ).1 X = some (.inr (0, [.ref bf, .int x1, .int x2, .int x3, .ref a, .ref tr, .ref hi, .ref sv, .ref lb]))) (k : Nat) (hk : k < V) (w : Int32) (hb : pIn w (nI 0) (nI 7) = false)  : ax_Met Ω yX1_visit 20 4 24 [.ref X, .int (nI k), .int w] (sH h a (s, π, (.ref (D.1 0)), (D.1 8))) (.inr (sH h a (s, π, (.ref (D.1 0)), (D.1 8))).2) (ax_add (sH h a (s, π, (.ref (D.1 0)), (D.1 8))) (.inr (20, []))) := by
  refine ax_met q1495 q113 (by decide +kernel) (by decide) hA (Nat.le_of_ble_eq_true rfl) (fun Γ G E => ?_)
  have hV9 := hp.lV
  have hA9 := hs.lA
  have hO9 := hp.lO
  show ax_W Ω Γ 4 24 (sH h a (s, π, (.ref (D.1 0)), (D.1 8))) 0 [some (.ref X), some (.int (nI k)), some (.int w), none] []
  refine ax_aload_n (pc := 0) G dX1_visit_0 rfl rfl ?_
  refine ax_iload_n (pc := 1) G dX1_visit_1 rfl rfl ?_
  refine ax_cV1 (pc := 2) (kb := 1) (nb := 6) G (cx_withVisitY hA (π := π) ha hp hs hE hX k (by omega)) lVX1_186_0 dX1_visit_2 (hX _) rfl (by decide) (Nat.le_of_ble_eq_true rfl) rfl ?_
  refine sr_get (pc := 5) (v := .ref (D.1 0)) G flX1_83_1 dX1_visit_5 rfl ?_
  refine ax_getf (pc := 8) (v := .ref (D.1 2)) G flX1_97_10 dX1_visit_8 (((hE (s, π, (.ref (D.1 0)), (D.1 8))).1).1) rfl ?_
  refine ax_iload_n (pc := 11) G dX1_visit_11 rfl rfl ?_
  refine ax_cJ1 (pc := 12) (kb := 1) (nb := 6) G (ct_lget hA ((hE (s, π, (.ref (D.1 0)), (D.1 8))).1.2.2.1).1 ((hE (s, π, (.ref (D.1 0)), (D.1 8))).1.2.2.1).2.1 (q := D.2.1 1 k) k (by omega) ((hE (s, π, (.ref (D.1 0)), (D.1 8))).1.2.2.1).2.2.1 ((hE (s, π, (.ref (D.1 0)), (D.1 8))).1.2.2.1).2.2.2.1 (((hE (s, π, (.ref (D.1 0)), (D.1 8))).1.2.2.1).2.2.2.2 k (by omega))) lJX1_7_16 dX1_visit_12 (((hE (s, π, (.ref (D.1 0)), (D.1 8))).1.2.2.1).1) rfl (by decide) (Nat.le_of_ble_eq_true rfl) rfl ?_
  refine ax_checkcast (pc := 17) G q1500 ⟨_, rfl, Or.inl rfl⟩ dX1_visit_17 (((hE (s, π, (.ref (D.1 0)), (D.1 8))).1.2.2.2.2.1 k (by omega)).choose_spec) ?_
  refine ax_astore_n (pc := 20) G dX1_visit_20 rfl (Nat.le_of_ble_eq_true rfl) rfl ?_
  refine ax_iload_n (pc := 21) G dX1_visit_21 rfl rfl ?_
  refine ax_i2l (pc := 22) G dX1_visit_22 rfl ?_
  refine ax_lconst (pc := 23) (v := 0) G dX1_visit_23 rfl ?_
  refine ax_ldc2 (pc := 24) G q1452 dX1_visit_24 ?_
  refine ax_cS1 (pc := 27) (kb := 1) (nb := 6) G (ct_in hA w.toInt64 0 7) lSX1_62 dX1_visit_27 rfl (by decide) (Nat.le_of_ble_eq_true rfl) rfl ?_
  rw [cIn_k (A := 0) (B := 7) (a := (nI 0)) (b := (nI 7)) w (by decide) (by decide)]
  refine ax_callS (pc := 30) (kb := 0) (nb := 0) G (ct_argNb hA (B := (pIn w (nI 0) (nI 7))) (hb)) lSX1_144 dX1_visit_30 rfl (by decide) (Nat.le_of_ble_eq_true rfl) rfl (fun _ e9 => by cases e9) (fun q9 e9 => ?_)
  cases e9
  exact ax_out G E (fun x hx => by cases hx)

theorem cq_alert_0 {Ω : ax_O} (hA : ax_Amb Ω) {h : ax_H} {a : Nat} {pl s : pR} {π : Nat → cP} {N V O A : Nat} {D : cD} (ha : Ω.2.1.heap.size ≤ a) (hp : pWP pl N V O) (hs : pWS s A) (hE : cEn h a pl s N V O A D) {X bf tr hi sv lb : Nat} {x1 x2 x3 : Int32} (hX : ∀ σ, (sH h a σ).1 X = some (.inr (0, [.ref bf, .int x1, .int x2, .int x3, .ref a, .ref tr, .ref hi, .ref sv, .ref lb]))) (k : Nat) (hk : k < A)  : ax_Met Ω yX1_alert 20 4 24 [.ref X, .int (nI k), .int (nI 0)] (sH h a (s, π, (.ref (D.1 0)), (D.1 8))) (.inl (some (.int (s (127 + 10 * k + 0))))) (sH h a (s, π, (.ref (D.1 0)), (D.1 8))) := by
  refine ax_met q1564 q113 (by decide +kernel) (by decide) hA (Nat.le_of_ble_eq_true rfl) (fun Γ G E => ?_)
  have hV9 := hp.lV
  have hA9 := hs.lA
  have hO9 := hp.lO
  show ax_W Ω Γ 4 24 (sH h a (s, π, (.ref (D.1 0)), (D.1 8))) 0 [some (.ref X), some (.int (nI k)), some (.int (nI 0)), none] []
  refine ax_aload_n (pc := 0) G dX1_alert_0 rfl rfl ?_
  refine ax_iload_n (pc := 1) G dX1_alert_1 rfl rfl ?_
  refine ax_cV1 (pc := 2) (kb := 1) (nb := 6) G (cx_withAlertY hA (π := π) ha hp hs hE hX k (by omega)) lVX1_219_0 dX1_alert_2 (hX _) rfl (by decide) (Nat.le_of_ble_eq_true rfl) rfl ?_
  refine sr_get (pc := 5) (v := .ref (a + 2)) G flX1_100_1 dX1_alert_5 rfl ?_
  refine ax_iload_n (pc := 8) G dX1_alert_8 rfl rfl ?_
  refine ax_cJ1 (pc := 9) (kb := 1) (nb := 6) G (ct_lget hA ((hE (s, π, (.ref (D.1 0)), (D.1 8))).2.1).1 ((hE (s, π, (.ref (D.1 0)), (D.1 8))).2.1).2.1 (q := D.2.1 3 k) k (by omega) ((hE (s, π, (.ref (D.1 0)), (D.1 8))).2.1).2.2.1 ((hE (s, π, (.ref (D.1 0)), (D.1 8))).2.1).2.2.2.1 (((hE (s, π, (.ref (D.1 0)), (D.1 8))).2.1).2.2.2.2 k (by omega))) lJX1_7_16 dX1_alert_9 (((hE (s, π, (.ref (D.1 0)), (D.1 8))).2.1).1) rfl (by decide) (Nat.le_of_ble_eq_true rfl) rfl ?_
  refine ax_checkcast (pc := 14) G q1569 ⟨_, rfl, Or.inl rfl⟩ dX1_alert_14 ((hE (s, π, (.ref (D.1 0)), (D.1 8))).2.2 k (by omega)) ?_
  refine ax_astore_n (pc := 17) G dX1_alert_17 rfl (Nat.le_of_ble_eq_true rfl) rfl ?_
  refine ax_iload_n (pc := 18) G dX1_alert_18 rfl rfl ?_
  refine ax_i2l (pc := 19) G dX1_alert_19 rfl ?_
  refine ax_lconst (pc := 20) (v := 0) G dX1_alert_20 rfl ?_
  refine ax_ldc2 (pc := 21) G q1570 dX1_alert_21 ?_
  refine ax_cS1 (pc := 24) (kb := 1) (nb := 6) G (ct_in hA ((nI 0).toInt64) 0 6) lSX1_62 dX1_alert_24 rfl (by decide) (Nat.le_of_ble_eq_true rfl) rfl ?_
  rw [cIn_k (A := 0) (B := 6) (a := (nI 0)) (b := (nI 6)) (nI 0) (by decide) (by decide)]
  refine ax_cS0 (pc := 27) (kb := 0) (nb := 0) G (ct_argYb hA (B := (pIn (nI 0) (nI 0) (nI 6))) (by decide)) lSX1_144 dX1_alert_27 rfl (by decide) (Nat.le_of_ble_eq_true rfl) rfl ?_
  refine ax_iload_n (pc := 30) G dX1_alert_30 rfl rfl ?_
  refine ax_tabIn (pc := 31) (tgt := 68) G dX1_alert_31 (by decide) (by decide) (by decide) rfl rfl ?_
  refine ax_aload_n (pc := 68) G dX1_alert_68 rfl rfl ?_
  refine ax_cVU1 (pc := 69) (kb := 0) (nb := 0) G (ct_proposal_14 hA ((hE (s, π, (.ref (D.1 0)), (D.1 8))).2.2 k (by omega))) lVUX1_226_14 dX1_alert_69 ((hE (s, π, (.ref (D.1 0)), (D.1 8))).2.2 k (by omega)) rfl (by decide) (Nat.le_of_ble_eq_true rfl) rfl ?_
  refine ax_goto (pc := 72) (tgt := 114) G dX1_alert_72 rfl ?_
  exact ax_iretE (pc := 114) G E rfl (rfl) dX1_alert_114 (rfl) (rfl)

theorem cq_alert_1 {Ω : ax_O} (hA : ax_Amb Ω) {h : ax_H} {a : Nat} {pl s : pR} {π : Nat → cP} {N V O A : Nat} {D : cD} (ha : Ω.2.1.heap.size ≤ a) (hp : pWP pl N V O) (hs : pWS s A) (hE : cEn h a pl s N V O A D) {X bf tr hi sv lb : Nat} {x1 x2 x3 : Int32} (hX : ∀ σ, (sH h a σ).1 X = some (.inr (0, [.ref bf, .int x1, .int x2, .int x3, .ref a, .ref tr, .ref hi, .ref sv, .ref lb]))) (k : Nat) (hk : k < A)  : ax_Met Ω yX1_alert 20 4 24 [.ref X, .int (nI k), .int (nI 1)] (sH h a (s, π, (.ref (D.1 0)), (D.1 8))) (.inl (some (.int (s (127 + 10 * k + 1))))) (sH h a (s, π, (.ref (D.1 0)), (D.1 8))) := by
  refine ax_met q1564 q113 (by decide +kernel) (by decide) hA (Nat.le_of_ble_eq_true rfl) (fun Γ G E => ?_)
  have hV9 := hp.lV
  have hA9 := hs.lA
  have hO9 := hp.lO
  show ax_W Ω Γ 4 24 (sH h a (s, π, (.ref (D.1 0)), (D.1 8))) 0 [some (.ref X), some (.int (nI k)), some (.int (nI 1)), none] []
  refine ax_aload_n (pc := 0) G dX1_alert_0 rfl rfl ?_
  refine ax_iload_n (pc := 1) G dX1_alert_1 rfl rfl ?_
  refine ax_cV1 (pc := 2) (kb := 1) (nb := 6) G (cx_withAlertY hA (π := π) ha hp hs hE hX k (by omega)) lVX1_219_0 dX1_alert_2 (hX _) rfl (by decide) (Nat.le_of_ble_eq_true rfl) rfl ?_
  refine sr_get (pc := 5) (v := .ref (a + 2)) G flX1_100_1 dX1_alert_5 rfl ?_
  refine ax_iload_n (pc := 8) G dX1_alert_8 rfl rfl ?_
  refine ax_cJ1 (pc := 9) (kb := 1) (nb := 6) G (ct_lget hA ((hE (s, π, (.ref (D.1 0)), (D.1 8))).2.1).1 ((hE (s, π, (.ref (D.1 0)), (D.1 8))).2.1).2.1 (q := D.2.1 3 k) k (by omega) ((hE (s, π, (.ref (D.1 0)), (D.1 8))).2.1).2.2.1 ((hE (s, π, (.ref (D.1 0)), (D.1 8))).2.1).2.2.2.1 (((hE (s, π, (.ref (D.1 0)), (D.1 8))).2.1).2.2.2.2 k (by omega))) lJX1_7_16 dX1_alert_9 (((hE (s, π, (.ref (D.1 0)), (D.1 8))).2.1).1) rfl (by decide) (Nat.le_of_ble_eq_true rfl) rfl ?_
  refine ax_checkcast (pc := 14) G q1569 ⟨_, rfl, Or.inl rfl⟩ dX1_alert_14 ((hE (s, π, (.ref (D.1 0)), (D.1 8))).2.2 k (by omega)) ?_
  refine ax_astore_n (pc := 17) G dX1_alert_17 rfl (Nat.le_of_ble_eq_true rfl) rfl ?_
  refine ax_iload_n (pc := 18) G dX1_alert_18 rfl rfl ?_
  refine ax_i2l (pc := 19) G dX1_alert_19 rfl ?_
  refine ax_lconst (pc := 20) (v := 0) G dX1_alert_20 rfl ?_
  refine ax_ldc2 (pc := 21) G q1570 dX1_alert_21 ?_
  refine ax_cS1 (pc := 24) (kb := 1) (nb := 6) G (ct_in hA ((nI 1).toInt64) 0 6) lSX1_62 dX1_alert_24 rfl (by decide) (Nat.le_of_ble_eq_true rfl) rfl ?_
  rw [cIn_k (A := 0) (B := 6) (a := (nI 0)) (b := (nI 6)) (nI 1) (by decide) (by decide)]
  refine ax_cS0 (pc := 27) (kb := 0) (nb := 0) G (ct_argYb hA (B := (pIn (nI 1) (nI 0) (nI 6))) (by decide)) lSX1_144 dX1_alert_27 rfl (by decide) (Nat.le_of_ble_eq_true rfl) rfl ?_
  refine ax_iload_n (pc := 30) G dX1_alert_30 rfl rfl ?_
  refine ax_tabIn (pc := 31) (tgt := 75) G dX1_alert_31 (by decide) (by decide) (by decide) rfl rfl ?_
  refine ax_aload_n (pc := 75) G dX1_alert_75 rfl rfl ?_
  refine ax_getf (pc := 76) (v := .int (s (127 + 10 * k + 1))) G flX1_227_14 dX1_alert_76 ((hE (s, π, (.ref (D.1 0)), (D.1 8))).2.2 k (by omega)) rfl ?_
  refine ax_goto (pc := 79) (tgt := 114) G dX1_alert_79 rfl ?_
  exact ax_iretE (pc := 114) G E rfl (rfl) dX1_alert_114 (rfl) (rfl)

theorem cq_alert_2 {Ω : ax_O} (hA : ax_Amb Ω) {h : ax_H} {a : Nat} {pl s : pR} {π : Nat → cP} {N V O A : Nat} {D : cD} (ha : Ω.2.1.heap.size ≤ a) (hp : pWP pl N V O) (hs : pWS s A) (hE : cEn h a pl s N V O A D) {X bf tr hi sv lb : Nat} {x1 x2 x3 : Int32} (hX : ∀ σ, (sH h a σ).1 X = some (.inr (0, [.ref bf, .int x1, .int x2, .int x3, .ref a, .ref tr, .ref hi, .ref sv, .ref lb]))) (k : Nat) (hk : k < A)  : ax_Met Ω yX1_alert 20 4 24 [.ref X, .int (nI k), .int (nI 2)] (sH h a (s, π, (.ref (D.1 0)), (D.1 8))) (.inl (some (.int (s (127 + 10 * k + 2))))) (sH h a (s, π, (.ref (D.1 0)), (D.1 8))) := by
  refine ax_met q1564 q113 (by decide +kernel) (by decide) hA (Nat.le_of_ble_eq_true rfl) (fun Γ G E => ?_)
  have hV9 := hp.lV
  have hA9 := hs.lA
  have hO9 := hp.lO
  show ax_W Ω Γ 4 24 (sH h a (s, π, (.ref (D.1 0)), (D.1 8))) 0 [some (.ref X), some (.int (nI k)), some (.int (nI 2)), none] []
  refine ax_aload_n (pc := 0) G dX1_alert_0 rfl rfl ?_
  refine ax_iload_n (pc := 1) G dX1_alert_1 rfl rfl ?_
  refine ax_cV1 (pc := 2) (kb := 1) (nb := 6) G (cx_withAlertY hA (π := π) ha hp hs hE hX k (by omega)) lVX1_219_0 dX1_alert_2 (hX _) rfl (by decide) (Nat.le_of_ble_eq_true rfl) rfl ?_
  refine sr_get (pc := 5) (v := .ref (a + 2)) G flX1_100_1 dX1_alert_5 rfl ?_
  refine ax_iload_n (pc := 8) G dX1_alert_8 rfl rfl ?_
  refine ax_cJ1 (pc := 9) (kb := 1) (nb := 6) G (ct_lget hA ((hE (s, π, (.ref (D.1 0)), (D.1 8))).2.1).1 ((hE (s, π, (.ref (D.1 0)), (D.1 8))).2.1).2.1 (q := D.2.1 3 k) k (by omega) ((hE (s, π, (.ref (D.1 0)), (D.1 8))).2.1).2.2.1 ((hE (s, π, (.ref (D.1 0)), (D.1 8))).2.1).2.2.2.1 (((hE (s, π, (.ref (D.1 0)), (D.1 8))).2.1).2.2.2.2 k (by omega))) lJX1_7_16 dX1_alert_9 (((hE (s, π, (.ref (D.1 0)), (D.1 8))).2.1).1) rfl (by decide) (Nat.le_of_ble_eq_true rfl) rfl ?_
  refine ax_checkcast (pc := 14) G q1569 ⟨_, rfl, Or.inl rfl⟩ dX1_alert_14 ((hE (s, π, (.ref (D.1 0)), (D.1 8))).2.2 k (by omega)) ?_
  refine ax_astore_n (pc := 17) G dX1_alert_17 rfl (Nat.le_of_ble_eq_true rfl) rfl ?_
  refine ax_iload_n (pc := 18) G dX1_alert_18 rfl rfl ?_
  refine ax_i2l (pc := 19) G dX1_alert_19 rfl ?_
  refine ax_lconst (pc := 20) (v := 0) G dX1_alert_20 rfl ?_
  refine ax_ldc2 (pc := 21) G q1570 dX1_alert_21 ?_
  refine ax_cS1 (pc := 24) (kb := 1) (nb := 6) G (ct_in hA ((nI 2).toInt64) 0 6) lSX1_62 dX1_alert_24 rfl (by decide) (Nat.le_of_ble_eq_true rfl) rfl ?_
  rw [cIn_k (A := 0) (B := 6) (a := (nI 0)) (b := (nI 6)) (nI 2) (by decide) (by decide)]
  refine ax_cS0 (pc := 27) (kb := 0) (nb := 0) G (ct_argYb hA (B := (pIn (nI 2) (nI 0) (nI 6))) (by decide)) lSX1_144 dX1_alert_27 rfl (by decide) (Nat.le_of_ble_eq_true rfl) rfl ?_
  refine ax_iload_n (pc := 30) G dX1_alert_30 rfl rfl ?_
  refine ax_tabIn (pc := 31) (tgt := 82) G dX1_alert_31 (by decide) (by decide) (by decide) rfl rfl ?_
  refine ax_aload_n (pc := 82) G dX1_alert_82 rfl rfl ?_
  refine ax_cVU1 (pc := 83) (kb := 0) (nb := 0) G (ct_lon_14 hA ((hE (s, π, (.ref (D.1 0)), (D.1 8))).2.2 k (by omega))) lVUX1_230_14 dX1_alert_83 ((hE (s, π, (.ref (D.1 0)), (D.1 8))).2.2 k (by omega)) rfl (by decide) (Nat.le_of_ble_eq_true rfl) rfl ?_
  refine ax_goto (pc := 86) (tgt := 114) G dX1_alert_86 rfl ?_
  exact ax_iretE (pc := 114) G E rfl (rfl) dX1_alert_114 (rfl) (rfl)

theorem cq_alert_3 {Ω : ax_O} (hA : ax_Amb Ω) {h : ax_H} {a : Nat} {pl s : pR} {π : Nat → cP} {N V O A : Nat} {D : cD} (ha : Ω.2.1.heap.size ≤ a) (hp : pWP pl N V O) (hs : pWS s A) (hE : cEn h a pl s N V O A D) {X bf tr hi sv lb : Nat} {x1 x2 x3 : Int32} (hX : ∀ σ, (sH h a σ).1 X = some (.inr (0, [.ref bf, .int x1, .int x2, .int x3, .ref a, .ref tr, .ref hi, .ref sv, .ref lb]))) (k : Nat) (hk : k < A)  : ax_Met Ω yX1_alert 20 4 24 [.ref X, .int (nI k), .int (nI 3)] (sH h a (s, π, (.ref (D.1 0)), (D.1 8))) (.inl (some (.int (s (127 + 10 * k + 3))))) (sH h a (s, π, (.ref (D.1 0)), (D.1 8))) := by
  refine ax_met q1564 q113 (by decide +kernel) (by decide) hA (Nat.le_of_ble_eq_true rfl) (fun Γ G E => ?_)
  have hV9 := hp.lV
  have hA9 := hs.lA
  have hO9 := hp.lO
  show ax_W Ω Γ 4 24 (sH h a (s, π, (.ref (D.1 0)), (D.1 8))) 0 [some (.ref X), some (.int (nI k)), some (.int (nI 3)), none] []
  refine ax_aload_n (pc := 0) G dX1_alert_0 rfl rfl ?_
  refine ax_iload_n (pc := 1) G dX1_alert_1 rfl rfl ?_
  refine ax_cV1 (pc := 2) (kb := 1) (nb := 6) G (cx_withAlertY hA (π := π) ha hp hs hE hX k (by omega)) lVX1_219_0 dX1_alert_2 (hX _) rfl (by decide) (Nat.le_of_ble_eq_true rfl) rfl ?_
  refine sr_get (pc := 5) (v := .ref (a + 2)) G flX1_100_1 dX1_alert_5 rfl ?_
  refine ax_iload_n (pc := 8) G dX1_alert_8 rfl rfl ?_
  refine ax_cJ1 (pc := 9) (kb := 1) (nb := 6) G (ct_lget hA ((hE (s, π, (.ref (D.1 0)), (D.1 8))).2.1).1 ((hE (s, π, (.ref (D.1 0)), (D.1 8))).2.1).2.1 (q := D.2.1 3 k) k (by omega) ((hE (s, π, (.ref (D.1 0)), (D.1 8))).2.1).2.2.1 ((hE (s, π, (.ref (D.1 0)), (D.1 8))).2.1).2.2.2.1 (((hE (s, π, (.ref (D.1 0)), (D.1 8))).2.1).2.2.2.2 k (by omega))) lJX1_7_16 dX1_alert_9 (((hE (s, π, (.ref (D.1 0)), (D.1 8))).2.1).1) rfl (by decide) (Nat.le_of_ble_eq_true rfl) rfl ?_
  refine ax_checkcast (pc := 14) G q1569 ⟨_, rfl, Or.inl rfl⟩ dX1_alert_14 ((hE (s, π, (.ref (D.1 0)), (D.1 8))).2.2 k (by omega)) ?_
  refine ax_astore_n (pc := 17) G dX1_alert_17 rfl (Nat.le_of_ble_eq_true rfl) rfl ?_
  refine ax_iload_n (pc := 18) G dX1_alert_18 rfl rfl ?_
  refine ax_i2l (pc := 19) G dX1_alert_19 rfl ?_
  refine ax_lconst (pc := 20) (v := 0) G dX1_alert_20 rfl ?_
  refine ax_ldc2 (pc := 21) G q1570 dX1_alert_21 ?_
  refine ax_cS1 (pc := 24) (kb := 1) (nb := 6) G (ct_in hA ((nI 3).toInt64) 0 6) lSX1_62 dX1_alert_24 rfl (by decide) (Nat.le_of_ble_eq_true rfl) rfl ?_
  rw [cIn_k (A := 0) (B := 6) (a := (nI 0)) (b := (nI 6)) (nI 3) (by decide) (by decide)]
  refine ax_cS0 (pc := 27) (kb := 0) (nb := 0) G (ct_argYb hA (B := (pIn (nI 3) (nI 0) (nI 6))) (by decide)) lSX1_144 dX1_alert_27 rfl (by decide) (Nat.le_of_ble_eq_true rfl) rfl ?_
  refine ax_iload_n (pc := 30) G dX1_alert_30 rfl rfl ?_
  refine ax_tabIn (pc := 31) (tgt := 89) G dX1_alert_31 (by decide) (by decide) (by decide) rfl rfl ?_
  refine ax_aload_n (pc := 89) G dX1_alert_89 rfl rfl ?_
  refine ax_cVU1 (pc := 90) (kb := 0) (nb := 0) G (ct_lat_14 hA ((hE (s, π, (.ref (D.1 0)), (D.1 8))).2.2 k (by omega))) lVUX1_231_14 dX1_alert_90 ((hE (s, π, (.ref (D.1 0)), (D.1 8))).2.2 k (by omega)) rfl (by decide) (Nat.le_of_ble_eq_true rfl) rfl ?_
  refine ax_goto (pc := 93) (tgt := 114) G dX1_alert_93 rfl ?_
  exact ax_iretE (pc := 114) G E rfl (rfl) dX1_alert_114 (rfl) (rfl)

theorem cq_alert_4 {Ω : ax_O} (hA : ax_Amb Ω) {h : ax_H} {a : Nat} {pl s : pR} {π : Nat → cP} {N V O A : Nat} {D : cD} (ha : Ω.2.1.heap.size ≤ a) (hp : pWP pl N V O) (hs : pWS s A) (hE : cEn h a pl s N V O A D) {X bf tr hi sv lb : Nat} {x1 x2 x3 : Int32} (hX : ∀ σ, (sH h a σ).1 X = some (.inr (0, [.ref bf, .int x1, .int x2, .int x3, .ref a, .ref tr, .ref hi, .ref sv, .ref lb]))) (k : Nat) (hk : k < A)  : ax_Met Ω yX1_alert 20 4 24 [.ref X, .int (nI k), .int (nI 4)] (sH h a (s, π, (.ref (D.1 0)), (D.1 8))) (.inl (some (.int (s (127 + 10 * k + 4))))) (sH h a (s, π, (.ref (D.1 0)), (D.1 8))) := by
  refine ax_met q1564 q113 (by decide +kernel) (by decide) hA (Nat.le_of_ble_eq_true rfl) (fun Γ G E => ?_)
  have hV9 := hp.lV
  have hA9 := hs.lA
  have hO9 := hp.lO
  show ax_W Ω Γ 4 24 (sH h a (s, π, (.ref (D.1 0)), (D.1 8))) 0 [some (.ref X), some (.int (nI k)), some (.int (nI 4)), none] []
  refine ax_aload_n (pc := 0) G dX1_alert_0 rfl rfl ?_
  refine ax_iload_n (pc := 1) G dX1_alert_1 rfl rfl ?_
  refine ax_cV1 (pc := 2) (kb := 1) (nb := 6) G (cx_withAlertY hA (π := π) ha hp hs hE hX k (by omega)) lVX1_219_0 dX1_alert_2 (hX _) rfl (by decide) (Nat.le_of_ble_eq_true rfl) rfl ?_
  refine sr_get (pc := 5) (v := .ref (a + 2)) G flX1_100_1 dX1_alert_5 rfl ?_
  refine ax_iload_n (pc := 8) G dX1_alert_8 rfl rfl ?_
  refine ax_cJ1 (pc := 9) (kb := 1) (nb := 6) G (ct_lget hA ((hE (s, π, (.ref (D.1 0)), (D.1 8))).2.1).1 ((hE (s, π, (.ref (D.1 0)), (D.1 8))).2.1).2.1 (q := D.2.1 3 k) k (by omega) ((hE (s, π, (.ref (D.1 0)), (D.1 8))).2.1).2.2.1 ((hE (s, π, (.ref (D.1 0)), (D.1 8))).2.1).2.2.2.1 (((hE (s, π, (.ref (D.1 0)), (D.1 8))).2.1).2.2.2.2 k (by omega))) lJX1_7_16 dX1_alert_9 (((hE (s, π, (.ref (D.1 0)), (D.1 8))).2.1).1) rfl (by decide) (Nat.le_of_ble_eq_true rfl) rfl ?_
  refine ax_checkcast (pc := 14) G q1569 ⟨_, rfl, Or.inl rfl⟩ dX1_alert_14 ((hE (s, π, (.ref (D.1 0)), (D.1 8))).2.2 k (by omega)) ?_
  refine ax_astore_n (pc := 17) G dX1_alert_17 rfl (Nat.le_of_ble_eq_true rfl) rfl ?_
  refine ax_iload_n (pc := 18) G dX1_alert_18 rfl rfl ?_
  refine ax_i2l (pc := 19) G dX1_alert_19 rfl ?_
  refine ax_lconst (pc := 20) (v := 0) G dX1_alert_20 rfl ?_
  refine ax_ldc2 (pc := 21) G q1570 dX1_alert_21 ?_
  refine ax_cS1 (pc := 24) (kb := 1) (nb := 6) G (ct_in hA ((nI 4).toInt64) 0 6) lSX1_62 dX1_alert_24 rfl (by decide) (Nat.le_of_ble_eq_true rfl) rfl ?_
  rw [cIn_k (A := 0) (B := 6) (a := (nI 0)) (b := (nI 6)) (nI 4) (by decide) (by decide)]
  refine ax_cS0 (pc := 27) (kb := 0) (nb := 0) G (ct_argYb hA (B := (pIn (nI 4) (nI 0) (nI 6))) (by decide)) lSX1_144 dX1_alert_27 rfl (by decide) (Nat.le_of_ble_eq_true rfl) rfl ?_
  refine ax_iload_n (pc := 30) G dX1_alert_30 rfl rfl ?_
  refine ax_tabIn (pc := 31) (tgt := 96) G dX1_alert_31 (by decide) (by decide) (by decide) rfl rfl ?_
  refine ax_aload_n (pc := 96) G dX1_alert_96 rfl rfl ?_
  refine ax_cVU1 (pc := 97) (kb := 0) (nb := 0) G (ct_duration_14 hA ((hE (s, π, (.ref (D.1 0)), (D.1 8))).2.2 k (by omega))) lVUX1_232_14 dX1_alert_97 ((hE (s, π, (.ref (D.1 0)), (D.1 8))).2.2 k (by omega)) rfl (by decide) (Nat.le_of_ble_eq_true rfl) rfl ?_
  refine ax_goto (pc := 100) (tgt := 114) G dX1_alert_100 rfl ?_
  exact ax_iretE (pc := 114) G E rfl (rfl) dX1_alert_114 (rfl) (rfl)

theorem cq_alert_5 {Ω : ax_O} (hA : ax_Amb Ω) {h : ax_H} {a : Nat} {pl s : pR} {π : Nat → cP} {N V O A : Nat} {D : cD} (ha : Ω.2.1.heap.size ≤ a) (hp : pWP pl N V O) (hs : pWS s A) (hE : cEn h a pl s N V O A D) {X bf tr hi sv lb : Nat} {x1 x2 x3 : Int32} (hX : ∀ σ, (sH h a σ).1 X = some (.inr (0, [.ref bf, .int x1, .int x2, .int x3, .ref a, .ref tr, .ref hi, .ref sv, .ref lb]))) (k : Nat) (hk : k < A)  : ax_Met Ω yX1_alert 20 4 24 [.ref X, .int (nI k), .int (nI 5)] (sH h a (s, π, (.ref (D.1 0)), (D.1 8))) (.inl (some (.int (s (127 + 10 * k + 5))))) (sH h a (s, π, (.ref (D.1 0)), (D.1 8))) := by
  refine ax_met q1564 q113 (by decide +kernel) (by decide) hA (Nat.le_of_ble_eq_true rfl) (fun Γ G E => ?_)
  have hV9 := hp.lV
  have hA9 := hs.lA
  have hO9 := hp.lO
  show ax_W Ω Γ 4 24 (sH h a (s, π, (.ref (D.1 0)), (D.1 8))) 0 [some (.ref X), some (.int (nI k)), some (.int (nI 5)), none] []
  refine ax_aload_n (pc := 0) G dX1_alert_0 rfl rfl ?_
  refine ax_iload_n (pc := 1) G dX1_alert_1 rfl rfl ?_
  refine ax_cV1 (pc := 2) (kb := 1) (nb := 6) G (cx_withAlertY hA (π := π) ha hp hs hE hX k (by omega)) lVX1_219_0 dX1_alert_2 (hX _) rfl (by decide) (Nat.le_of_ble_eq_true rfl) rfl ?_
  refine sr_get (pc := 5) (v := .ref (a + 2)) G flX1_100_1 dX1_alert_5 rfl ?_
  refine ax_iload_n (pc := 8) G dX1_alert_8 rfl rfl ?_
  refine ax_cJ1 (pc := 9) (kb := 1) (nb := 6) G (ct_lget hA ((hE (s, π, (.ref (D.1 0)), (D.1 8))).2.1).1 ((hE (s, π, (.ref (D.1 0)), (D.1 8))).2.1).2.1 (q := D.2.1 3 k) k (by omega) ((hE (s, π, (.ref (D.1 0)), (D.1 8))).2.1).2.2.1 ((hE (s, π, (.ref (D.1 0)), (D.1 8))).2.1).2.2.2.1 (((hE (s, π, (.ref (D.1 0)), (D.1 8))).2.1).2.2.2.2 k (by omega))) lJX1_7_16 dX1_alert_9 (((hE (s, π, (.ref (D.1 0)), (D.1 8))).2.1).1) rfl (by decide) (Nat.le_of_ble_eq_true rfl) rfl ?_
  refine ax_checkcast (pc := 14) G q1569 ⟨_, rfl, Or.inl rfl⟩ dX1_alert_14 ((hE (s, π, (.ref (D.1 0)), (D.1 8))).2.2 k (by omega)) ?_
  refine ax_astore_n (pc := 17) G dX1_alert_17 rfl (Nat.le_of_ble_eq_true rfl) rfl ?_
  refine ax_iload_n (pc := 18) G dX1_alert_18 rfl rfl ?_
  refine ax_i2l (pc := 19) G dX1_alert_19 rfl ?_
  refine ax_lconst (pc := 20) (v := 0) G dX1_alert_20 rfl ?_
  refine ax_ldc2 (pc := 21) G q1570 dX1_alert_21 ?_
  refine ax_cS1 (pc := 24) (kb := 1) (nb := 6) G (ct_in hA ((nI 5).toInt64) 0 6) lSX1_62 dX1_alert_24 rfl (by decide) (Nat.le_of_ble_eq_true rfl) rfl ?_
  rw [cIn_k (A := 0) (B := 6) (a := (nI 0)) (b := (nI 6)) (nI 5) (by decide) (by decide)]
  refine ax_cS0 (pc := 27) (kb := 0) (nb := 0) G (ct_argYb hA (B := (pIn (nI 5) (nI 0) (nI 6))) (by decide)) lSX1_144 dX1_alert_27 rfl (by decide) (Nat.le_of_ble_eq_true rfl) rfl ?_
  refine ax_iload_n (pc := 30) G dX1_alert_30 rfl rfl ?_
  refine ax_tabIn (pc := 31) (tgt := 103) G dX1_alert_31 (by decide) (by decide) (by decide) rfl rfl ?_
  refine ax_aload_n (pc := 103) G dX1_alert_103 rfl rfl ?_
  refine ax_cVU1 (pc := 104) (kb := 0) (nb := 0) G (ct_push_14 hA ((hE (s, π, (.ref (D.1 0)), (D.1 8))).2.2 k (by omega))) lVUX1_233_14 dX1_alert_104 ((hE (s, π, (.ref (D.1 0)), (D.1 8))).2.2 k (by omega)) rfl (by decide) (Nat.le_of_ble_eq_true rfl) rfl ?_
  refine ax_goto (pc := 107) (tgt := 114) G dX1_alert_107 rfl ?_
  exact ax_iretE (pc := 114) G E rfl (rfl) dX1_alert_114 (rfl) (rfl)

theorem cq_alert_6 {Ω : ax_O} (hA : ax_Amb Ω) {h : ax_H} {a : Nat} {pl s : pR} {π : Nat → cP} {N V O A : Nat} {D : cD} (ha : Ω.2.1.heap.size ≤ a) (hp : pWP pl N V O) (hs : pWS s A) (hE : cEn h a pl s N V O A D) {X bf tr hi sv lb : Nat} {x1 x2 x3 : Int32} (hX : ∀ σ, (sH h a σ).1 X = some (.inr (0, [.ref bf, .int x1, .int x2, .int x3, .ref a, .ref tr, .ref hi, .ref sv, .ref lb]))) (k : Nat) (hk : k < A)  : ax_Met Ω yX1_alert 20 4 24 [.ref X, .int (nI k), .int (nI 6)] (sH h a (s, π, (.ref (D.1 0)), (D.1 8))) (.inl (some (.int (s (127 + 10 * k + 6))))) (sH h a (s, π, (.ref (D.1 0)), (D.1 8))) := by
  refine ax_met q1564 q113 (by decide +kernel) (by decide) hA (Nat.le_of_ble_eq_true rfl) (fun Γ G E => ?_)
  have hV9 := hp.lV
  have hA9 := hs.lA
  have hO9 := hp.lO
  show ax_W Ω Γ 4 24 (sH h a (s, π, (.ref (D.1 0)), (D.1 8))) 0 [some (.ref X), some (.int (nI k)), some (.int (nI 6)), none] []
  refine ax_aload_n (pc := 0) G dX1_alert_0 rfl rfl ?_
  refine ax_iload_n (pc := 1) G dX1_alert_1 rfl rfl ?_
  refine ax_cV1 (pc := 2) (kb := 1) (nb := 6) G (cx_withAlertY hA (π := π) ha hp hs hE hX k (by omega)) lVX1_219_0 dX1_alert_2 (hX _) rfl (by decide) (Nat.le_of_ble_eq_true rfl) rfl ?_
  refine sr_get (pc := 5) (v := .ref (a + 2)) G flX1_100_1 dX1_alert_5 rfl ?_
  refine ax_iload_n (pc := 8) G dX1_alert_8 rfl rfl ?_
  refine ax_cJ1 (pc := 9) (kb := 1) (nb := 6) G (ct_lget hA ((hE (s, π, (.ref (D.1 0)), (D.1 8))).2.1).1 ((hE (s, π, (.ref (D.1 0)), (D.1 8))).2.1).2.1 (q := D.2.1 3 k) k (by omega) ((hE (s, π, (.ref (D.1 0)), (D.1 8))).2.1).2.2.1 ((hE (s, π, (.ref (D.1 0)), (D.1 8))).2.1).2.2.2.1 (((hE (s, π, (.ref (D.1 0)), (D.1 8))).2.1).2.2.2.2 k (by omega))) lJX1_7_16 dX1_alert_9 (((hE (s, π, (.ref (D.1 0)), (D.1 8))).2.1).1) rfl (by decide) (Nat.le_of_ble_eq_true rfl) rfl ?_
  refine ax_checkcast (pc := 14) G q1569 ⟨_, rfl, Or.inl rfl⟩ dX1_alert_14 ((hE (s, π, (.ref (D.1 0)), (D.1 8))).2.2 k (by omega)) ?_
  refine ax_astore_n (pc := 17) G dX1_alert_17 rfl (Nat.le_of_ble_eq_true rfl) rfl ?_
  refine ax_iload_n (pc := 18) G dX1_alert_18 rfl rfl ?_
  refine ax_i2l (pc := 19) G dX1_alert_19 rfl ?_
  refine ax_lconst (pc := 20) (v := 0) G dX1_alert_20 rfl ?_
  refine ax_ldc2 (pc := 21) G q1570 dX1_alert_21 ?_
  refine ax_cS1 (pc := 24) (kb := 1) (nb := 6) G (ct_in hA ((nI 6).toInt64) 0 6) lSX1_62 dX1_alert_24 rfl (by decide) (Nat.le_of_ble_eq_true rfl) rfl ?_
  rw [cIn_k (A := 0) (B := 6) (a := (nI 0)) (b := (nI 6)) (nI 6) (by decide) (by decide)]
  refine ax_cS0 (pc := 27) (kb := 0) (nb := 0) G (ct_argYb hA (B := (pIn (nI 6) (nI 0) (nI 6))) (by decide)) lSX1_144 dX1_alert_27 rfl (by decide) (Nat.le_of_ble_eq_true rfl) rfl ?_
  refine ax_iload_n (pc := 30) G dX1_alert_30 rfl rfl ?_
  refine ax_tabOut (pc := 31) (tgt := 110) G dX1_alert_31 (by decide) (by decide) rfl ?_
  refine ax_aload_n (pc := 110) G dX1_alert_110 rfl rfl ?_
  refine ax_getf (pc := 111) (v := .int (s (127 + 10 * k + 6))) G flX1_234_14 dX1_alert_111 ((hE (s, π, (.ref (D.1 0)), (D.1 8))).2.2 k (by omega)) rfl ?_
  exact ax_iretE (pc := 114) G E rfl (rfl) dX1_alert_114 (rfl) (rfl)

theorem cq_alert_N {Ω : ax_O} (hA : ax_Amb Ω) {h : ax_H} {X bf tr hi sv lb : Nat} {x1 x2 x3 : Int32} (hX : h.1 X = some (.inr (0, [.ref bf, .int x1, .int x2, .int x3, .null, .ref tr, .ref hi, .ref sv, .ref lb]))) (k : Int32) (w : Int32)  : ax_Met Ω yX1_alert 20 4 24 [.ref X, .int k, .int w] h (.inr h.2) (ax_add h (.inr (21, []))) := by
  refine ax_met q1564 q113 (by decide +kernel) (by decide) hA (Nat.le_of_ble_eq_true rfl) (fun Γ G E => ?_)
  show ax_W Ω Γ 4 24 h 0 [some (.ref X), some (.int k), some (.int w), none] []
  refine ax_aload_n (pc := 0) G dX1_alert_0 rfl rfl ?_
  refine ax_iload_n (pc := 1) G dX1_alert_1 rfl rfl ?_
  refine ax_callV (pc := 2) (kb := 1) (nb := 6) G (cx_withAlertN hA hX k) lVX1_219_0 dX1_alert_2 (hX) rfl (by decide) (Nat.le_of_ble_eq_true rfl) rfl (fun _ e9 => by cases e9) (fun q9 e9 => ?_)
  cases e9
  exact ax_out G E (fun x hx => by cases hx)

theorem cq_alert_B {Ω : ax_O} (hA : ax_Amb Ω) {h : ax_H} {a : Nat} {pl s : pR} {π : Nat → cP} {N V O A : Nat} {D : cD} (ha : Ω.2.1.heap.size ≤ a) (hp : pWP pl N V O) (hs : pWS s A) (hE : cEn h a pl s N V O A D) {X bf tr hi sv lb : Nat} {x1 x2 x3 : Int32} (hX : ∀ σ, (sH h a σ).1 X = some (.inr (0, [.ref bf, .int x1, .int x2, .int x3, .ref a, .ref tr, .ref hi, .ref sv, .ref lb]))) (k w : Int32) (hb : pIn k (nI 0) (nI A - nI 1) = false)  : ax_Met Ω yX1_alert 20 4 24 [.ref X, .int k, .int w] (sH h a (s, π, (.ref (D.1 0)), (D.1 8))) (.inr (sH h a (s, π, (.ref (D.1 0)), (D.1 8))).2) (ax_add (sH h a (s, π, (.ref (D.1 0)), (D.1 8))) (.inr (22, []))) := by
  refine ax_met q1564 q113 (by decide +kernel) (by decide) hA (Nat.le_of_ble_eq_true rfl) (fun Γ G E => ?_)
  have hV9 := hp.lV
  have hA9 := hs.lA
  have hO9 := hp.lO
  show ax_W Ω Γ 4 24 (sH h a (s, π, (.ref (D.1 0)), (D.1 8))) 0 [some (.ref X), some (.int k), some (.int w), none] []
  refine ax_aload_n (pc := 0) G dX1_alert_0 rfl rfl ?_
  refine ax_iload_n (pc := 1) G dX1_alert_1 rfl rfl ?_
  refine ax_callV (pc := 2) (kb := 1) (nb := 6) G (cx_withAlertB hA (π := π) ha hp hs hE hX k hb) lVX1_219_0 dX1_alert_2 (hX _) rfl (by decide) (Nat.le_of_ble_eq_true rfl) rfl (fun _ e9 => by cases e9) (fun q9 e9 => ?_)
  cases e9
  exact ax_out G E (fun x hx => by cases hx)

theorem cq_alert_C {Ω : ax_O} (hA : ax_Amb Ω) {h : ax_H} {a : Nat} {pl s : pR} {π : Nat → cP} {N V O A : Nat} {D : cD} (ha : Ω.2.1.heap.size ≤ a) (hp : pWP pl N V O) (hs : pWS s A) (hE : cEn h a pl s N V O A D) {X bf tr hi sv lb : Nat} {x1 x2 x3 : Int32} (hX : ∀ σ, (sH h a σ).1 X = some (.inr (0, [.ref bf, .int x1, .int x2, .int x3, .ref a, .ref tr, .ref hi, .ref sv, .ref lb]))) (k : Nat) (hk : k < A) (w : Int32) (hb : pIn w (nI 0) (nI 6) = false)  : ax_Met Ω yX1_alert 20 4 24 [.ref X, .int (nI k), .int w] (sH h a (s, π, (.ref (D.1 0)), (D.1 8))) (.inr (sH h a (s, π, (.ref (D.1 0)), (D.1 8))).2) (ax_add (sH h a (s, π, (.ref (D.1 0)), (D.1 8))) (.inr (20, []))) := by
  refine ax_met q1564 q113 (by decide +kernel) (by decide) hA (Nat.le_of_ble_eq_true rfl) (fun Γ G E => ?_)
  have hV9 := hp.lV
  have hA9 := hs.lA
  have hO9 := hp.lO
  show ax_W Ω Γ 4 24 (sH h a (s, π, (.ref (D.1 0)), (D.1 8))) 0 [some (.ref X), some (.int (nI k)), some (.int w), none] []
  refine ax_aload_n (pc := 0) G dX1_alert_0 rfl rfl ?_
  refine ax_iload_n (pc := 1) G dX1_alert_1 rfl rfl ?_
  refine ax_cV1 (pc := 2) (kb := 1) (nb := 6) G (cx_withAlertY hA (π := π) ha hp hs hE hX k (by omega)) lVX1_219_0 dX1_alert_2 (hX _) rfl (by decide) (Nat.le_of_ble_eq_true rfl) rfl ?_
  refine sr_get (pc := 5) (v := .ref (a + 2)) G flX1_100_1 dX1_alert_5 rfl ?_
  refine ax_iload_n (pc := 8) G dX1_alert_8 rfl rfl ?_
  refine ax_cJ1 (pc := 9) (kb := 1) (nb := 6) G (ct_lget hA ((hE (s, π, (.ref (D.1 0)), (D.1 8))).2.1).1 ((hE (s, π, (.ref (D.1 0)), (D.1 8))).2.1).2.1 (q := D.2.1 3 k) k (by omega) ((hE (s, π, (.ref (D.1 0)), (D.1 8))).2.1).2.2.1 ((hE (s, π, (.ref (D.1 0)), (D.1 8))).2.1).2.2.2.1 (((hE (s, π, (.ref (D.1 0)), (D.1 8))).2.1).2.2.2.2 k (by omega))) lJX1_7_16 dX1_alert_9 (((hE (s, π, (.ref (D.1 0)), (D.1 8))).2.1).1) rfl (by decide) (Nat.le_of_ble_eq_true rfl) rfl ?_
  refine ax_checkcast (pc := 14) G q1569 ⟨_, rfl, Or.inl rfl⟩ dX1_alert_14 ((hE (s, π, (.ref (D.1 0)), (D.1 8))).2.2 k (by omega)) ?_
  refine ax_astore_n (pc := 17) G dX1_alert_17 rfl (Nat.le_of_ble_eq_true rfl) rfl ?_
  refine ax_iload_n (pc := 18) G dX1_alert_18 rfl rfl ?_
  refine ax_i2l (pc := 19) G dX1_alert_19 rfl ?_
  refine ax_lconst (pc := 20) (v := 0) G dX1_alert_20 rfl ?_
  refine ax_ldc2 (pc := 21) G q1570 dX1_alert_21 ?_
  refine ax_cS1 (pc := 24) (kb := 1) (nb := 6) G (ct_in hA w.toInt64 0 6) lSX1_62 dX1_alert_24 rfl (by decide) (Nat.le_of_ble_eq_true rfl) rfl ?_
  rw [cIn_k (A := 0) (B := 6) (a := (nI 0)) (b := (nI 6)) w (by decide) (by decide)]
  refine ax_callS (pc := 27) (kb := 0) (nb := 0) G (ct_argNb hA (B := (pIn w (nI 0) (nI 6))) (hb)) lSX1_144 dX1_alert_27 rfl (by decide) (Nat.le_of_ble_eq_true rfl) rfl (fun _ e9 => by cases e9) (fun q9 e9 => ?_)
  cases e9
  exact ax_out G E (fun x hx => by cases hx)

theorem cq_alertDelay_Y {Ω : ax_O} (hA : ax_Amb Ω) {h : ax_H} {a : Nat} {pl s : pR} {π : Nat → cP} {N V O A : Nat} {D : cD} (ha : Ω.2.1.heap.size ≤ a) (hp : pWP pl N V O) (hs : pWS s A) (hE : cEn h a pl s N V O A D) {X bf tr hi sv lb : Nat} {x1 x2 x3 : Int32} (hX : ∀ σ, (sH h a σ).1 X = some (.inr (0, [.ref bf, .int x1, .int x2, .int x3, .ref a, .ref tr, .ref hi, .ref sv, .ref lb]))) (k : Nat) (hk : k < A)  : ax_Met Ω yX1_alertDelay 20 4 24 [.ref X, .int (nI k)] (sH h a (s, π, (.ref (D.1 0)), (D.1 8))) (.inl (some (.int (if s (127 + 10 * k + 7) = nI 1 then s (127 + 10 * k + 8) - s (127 + 10 * k + 1) else (-1))))) (sH h a (s, π, (.ref (D.1 0)), (D.1 8))) := by
  refine ax_met q1599 q113 (by decide +kernel) (by decide) hA (Nat.le_of_ble_eq_true rfl) (fun Γ G E => ?_)
  have hV9 := hp.lV
  have hA9 := hs.lA
  have hO9 := hp.lO
  show ax_W Ω Γ 4 24 (sH h a (s, π, (.ref (D.1 0)), (D.1 8))) 0 [some (.ref X), some (.int (nI k)), none] []
  refine ax_aload_n (pc := 0) G dX1_alertDelay_0 rfl rfl ?_
  refine ax_iload_n (pc := 1) G dX1_alertDelay_1 rfl rfl ?_
  refine ax_cV1 (pc := 2) (kb := 1) (nb := 6) G (cx_withAlertY hA (π := π) ha hp hs hE hX k (by omega)) lVX1_219_0 dX1_alertDelay_2 (hX _) rfl (by decide) (Nat.le_of_ble_eq_true rfl) rfl ?_
  refine ax_astore_n (pc := 5) G dX1_alertDelay_5 rfl (Nat.le_of_ble_eq_true rfl) rfl ?_
  refine ax_aload_n (pc := 6) G dX1_alertDelay_6 rfl rfl ?_
  refine sr_get (pc := 7) (v := .ref (a + 12)) G flX1_237_1 dX1_alertDelay_7 rfl ?_
  refine ax_iload_n (pc := 10) G dX1_alertDelay_10 rfl rfl ?_
  refine sr_ld (pc := 11) (k := 12) (j := k) (r := 127 + 10 * k + 7) G dX1_alertDelay_11 (by decide) (by decide) rfl rfl (show k < 10 by omega) ?_
  show ax_W Ω Γ _ _ _ _ _ (.int (s (127 + 10 * k + 7)) :: _)
  refine ax_iconst (pc := 12) (v := nI 1) G dX1_alertDelay_12 ic_1 ?_
  refine ax_icmp_ne (pc := 13) (tgt := 42) G dX1_alertDelay_13 rfl (fun c13 => ?_) (fun c13 => ?_)
  · refine ax_iconst (pc := 42) (v := (-1)) G dX1_alertDelay_42 (by decide) ?_
    exact ax_iretE (pc := 43) G E rfl (rfl) dX1_alertDelay_43 (by rw [if_neg c13]) (rfl)
  · refine ax_aload_n (pc := 16) G dX1_alertDelay_16 rfl rfl ?_
    refine sr_get (pc := 17) (v := .ref (a + 13)) G flX1_240_1 dX1_alertDelay_17 rfl ?_
    refine ax_iload_n (pc := 20) G dX1_alertDelay_20 rfl rfl ?_
    refine sr_ld (pc := 21) (k := 13) (j := k) (r := 127 + 10 * k + 8) G dX1_alertDelay_21 (by decide) (by decide) rfl rfl (show k < 10 by omega) ?_
    show ax_W Ω Γ _ _ _ _ _ (.int (s (127 + 10 * k + 8)) :: _)
    refine ax_aload_n (pc := 22) G dX1_alertDelay_22 rfl rfl ?_
    refine sr_get (pc := 23) (v := .ref (a + 2)) G flX1_100_1 dX1_alertDelay_23 rfl ?_
    refine ax_iload_n (pc := 26) G dX1_alertDelay_26 rfl rfl ?_
    refine ax_cJ1 (pc := 27) (kb := 1) (nb := 6) G (ct_lget hA ((hE (s, π, (.ref (D.1 0)), (D.1 8))).2.1).1 ((hE (s, π, (.ref (D.1 0)), (D.1 8))).2.1).2.1 (q := D.2.1 3 k) k (by omega) ((hE (s, π, (.ref (D.1 0)), (D.1 8))).2.1).2.2.1 ((hE (s, π, (.ref (D.1 0)), (D.1 8))).2.1).2.2.2.1 (((hE (s, π, (.ref (D.1 0)), (D.1 8))).2.1).2.2.2.2 k (by omega))) lJX1_7_16 dX1_alertDelay_27 (((hE (s, π, (.ref (D.1 0)), (D.1 8))).2.1).1) rfl (by decide) (Nat.le_of_ble_eq_true rfl) rfl ?_
    refine ax_checkcast (pc := 32) G q1569 ⟨_, rfl, Or.inl rfl⟩ dX1_alertDelay_32 ((hE (s, π, (.ref (D.1 0)), (D.1 8))).2.2 k (by omega)) ?_
    refine ax_getf (pc := 35) (v := .int (s (127 + 10 * k + 1))) G flX1_227_14 dX1_alertDelay_35 ((hE (s, π, (.ref (D.1 0)), (D.1 8))).2.2 k (by omega)) rfl ?_
    refine ax_isub (pc := 38) G dX1_alertDelay_38 ?_
    refine ax_goto (pc := 39) (tgt := 43) G dX1_alertDelay_39 rfl ?_
    exact ax_iretE (pc := 43) G E rfl (rfl) dX1_alertDelay_43 (by rw [if_pos c13]) (rfl)

theorem cq_alertDelay_N {Ω : ax_O} (hA : ax_Amb Ω) {h : ax_H} {X bf tr hi sv lb : Nat} {x1 x2 x3 : Int32} (hX : h.1 X = some (.inr (0, [.ref bf, .int x1, .int x2, .int x3, .null, .ref tr, .ref hi, .ref sv, .ref lb]))) (k : Int32)  : ax_Met Ω yX1_alertDelay 20 4 24 [.ref X, .int k] h (.inr h.2) (ax_add h (.inr (21, []))) := by
  refine ax_met q1599 q113 (by decide +kernel) (by decide) hA (Nat.le_of_ble_eq_true rfl) (fun Γ G E => ?_)
  show ax_W Ω Γ 4 24 h 0 [some (.ref X), some (.int k), none] []
  refine ax_aload_n (pc := 0) G dX1_alertDelay_0 rfl rfl ?_
  refine ax_iload_n (pc := 1) G dX1_alertDelay_1 rfl rfl ?_
  refine ax_callV (pc := 2) (kb := 1) (nb := 6) G (cx_withAlertN hA hX k) lVX1_219_0 dX1_alertDelay_2 (hX) rfl (by decide) (Nat.le_of_ble_eq_true rfl) rfl (fun _ e9 => by cases e9) (fun q9 e9 => ?_)
  cases e9
  exact ax_out G E (fun x hx => by cases hx)

theorem cq_alertDelay_B {Ω : ax_O} (hA : ax_Amb Ω) {h : ax_H} {a : Nat} {pl s : pR} {π : Nat → cP} {N V O A : Nat} {D : cD} (ha : Ω.2.1.heap.size ≤ a) (hp : pWP pl N V O) (hs : pWS s A) (hE : cEn h a pl s N V O A D) {X bf tr hi sv lb : Nat} {x1 x2 x3 : Int32} (hX : ∀ σ, (sH h a σ).1 X = some (.inr (0, [.ref bf, .int x1, .int x2, .int x3, .ref a, .ref tr, .ref hi, .ref sv, .ref lb]))) (k : Int32) (hb : pIn k (nI 0) (nI A - nI 1) = false)  : ax_Met Ω yX1_alertDelay 20 4 24 [.ref X, .int k] (sH h a (s, π, (.ref (D.1 0)), (D.1 8))) (.inr (sH h a (s, π, (.ref (D.1 0)), (D.1 8))).2) (ax_add (sH h a (s, π, (.ref (D.1 0)), (D.1 8))) (.inr (22, []))) := by
  refine ax_met q1599 q113 (by decide +kernel) (by decide) hA (Nat.le_of_ble_eq_true rfl) (fun Γ G E => ?_)
  have hV9 := hp.lV
  have hA9 := hs.lA
  have hO9 := hp.lO
  show ax_W Ω Γ 4 24 (sH h a (s, π, (.ref (D.1 0)), (D.1 8))) 0 [some (.ref X), some (.int k), none] []
  refine ax_aload_n (pc := 0) G dX1_alertDelay_0 rfl rfl ?_
  refine ax_iload_n (pc := 1) G dX1_alertDelay_1 rfl rfl ?_
  refine ax_callV (pc := 2) (kb := 1) (nb := 6) G (cx_withAlertB hA (π := π) ha hp hs hE hX k hb) lVX1_219_0 dX1_alertDelay_2 (hX _) rfl (by decide) (Nat.le_of_ble_eq_true rfl) rfl (fun _ e9 => by cases e9) (fun q9 e9 => ?_)
  cases e9
  exact ax_out G E (fun x hx => by cases hx)

