/-! THE MODEL: public queries -/
theorem mq_stateOf_Y {Ω : ax_O} (hA : ax_Amb Ω) {h : ax_H} {m : Nat} {μ : md_S} (hm : Ω.2.1.heap.size ≤ m) (h19 : μ.1 19 = nI 1) {P V O A : Nat} (hp : pWP (μ.2 2) P V O) (hs : pWS (μ.2 4) A) (k : Nat) (hk : k < V)  : ax_Met Ω yX10_stateOf 9 0 0 [.ref m, .int (nI k)] (md_H h m μ) (.inl (some (.int ((μ.2 4) (47 + k))))) (md_H h m (md_si μ 0 (nI 0))) := by
  refine ax_met q2828 q142 (by decide +kernel) (by decide) hA (Nat.le_of_ble_eq_true rfl) (fun Γ G E => ?_)
  have hl_k := hp.lV
  show ax_W Ω Γ 0 0 (md_H h m μ) 0 [some (.ref m), some (.int (nI k))] []
  refine ax_aload_n (pc := 0) G dX10_stateOf_0 rfl rfl ?_
  refine ax_aload_n (pc := 1) G dX10_stateOf_1 rfl rfl ?_
  refine ax_iload_n (pc := 2) G dX10_stateOf_2 rfl rfl ?_
  refine ax_cV1 (pc := 3) (kb := 0) (nb := 0) G (mt_isVisit hA (μ := μ) (nI k)) lVX10_372_8 dX10_stateOf_3 md_obj rfl (by decide) (Nat.le_of_ble_eq_true rfl) rfl ?_
  refine ax_top (show Value.int (bI (pIn (nI k) (nI 0) ((μ.2 2) 65 - nI 1))) = .int (nI 1) from congrArg Value.int (by rw [pIn_k hp.hV hk (by have := hp.lV; omega)]; rfl)) ?_
  refine ax_cV1 (pc := 6) (kb := 0) (nb := 0) G (mt_mayAskY hA (μ := μ) hm h19) lVX10_368_8 dX10_stateOf_6 md_obj rfl (by decide) (Nat.le_of_ble_eq_true rfl) rfl ?_
  show ax_W Ω Γ _ _ (md_H h m (md_si μ 0 (nI 0))) _ _ _
  refine ax_if_eq (pc := 9) (tgt := 24) G dX10_stateOf_9 rfl (fun c9 => absurd c9 (by decide)) (fun _ => ?_)
  refine ax_aload_n (pc := 12) G dX10_stateOf_12 rfl rfl ?_
  refine md_get (pc := 13) (v := .ref (m + 4)) G flX10_23_8 dX10_stateOf_13 rfl ?_
  refine ax_bipush (pc := 16) (v := nI 47) G dX10_stateOf_16 ib_47 ?_
  refine ax_iload_n (pc := 18) G dX10_stateOf_18 rfl rfl ?_
  refine ax_iaddN (pc := 19) G dX10_stateOf_19 ?_
  refine md_ld (pc := 20) (i := 47 + k) (j := 4) G 627 dX10_stateOf_20 (by decide) (by decide) rfl rfl rfl (by omega) (by decide) ?_
  refine ax_goto (pc := 21) (tgt := 25) G dX10_stateOf_21 rfl ?_
  exact ax_iretE (pc := 25) G E rfl (rfl) dX10_stateOf_25 (rfl) (rfl)

theorem mq_stateOf_N {Ω : ax_O} (hA : ax_Amb Ω) {h : ax_H} {m : Nat} {μ : md_S} (hm : Ω.2.1.heap.size ≤ m) (h19 : μ.1 19 = nI 0) (k : Int32)  : ax_Met Ω yX10_stateOf 9 0 0 [.ref m, .int k] (md_H h m μ) (.inl (some (.int (nI 0)))) (md_H h m (md_si μ 0 (nI 1))) := by
  refine ax_met q2828 q142 (by decide +kernel) (by decide) hA (Nat.le_of_ble_eq_true rfl) (fun Γ G E => ?_)
  show ax_W Ω Γ 0 0 (md_H h m μ) 0 [some (.ref m), some (.int k)] []
  refine ax_aload_n (pc := 0) G dX10_stateOf_0 rfl rfl ?_
  refine ax_aload_n (pc := 1) G dX10_stateOf_1 rfl rfl ?_
  refine ax_iload_n (pc := 2) G dX10_stateOf_2 rfl rfl ?_
  refine ax_cV1 (pc := 3) (kb := 0) (nb := 0) G (mt_isVisit hA (μ := μ) k) lVX10_372_8 dX10_stateOf_3 md_obj rfl (by decide) (Nat.le_of_ble_eq_true rfl) rfl ?_
  refine ax_cV1 (pc := 6) (kb := 0) (nb := 0) G (mt_mayAskN hA (μ := μ) hm h19 (pIn k (nI 0) ((μ.2 2) 65 - nI 1))) lVX10_368_8 dX10_stateOf_6 md_obj rfl (by decide) (Nat.le_of_ble_eq_true rfl) rfl ?_
  show ax_W Ω Γ _ _ (md_H h m (md_si μ 0 (nI 1))) _ _ _
  refine ax_if_eq (pc := 9) (tgt := 24) G dX10_stateOf_9 rfl (fun _ => ?_) (fun c9 => absurd rfl c9)
  refine ax_iconst (pc := 24) (v := nI 0) G dX10_stateOf_24 ic_0 ?_
  exact ax_iretE (pc := 25) G E rfl (rfl) dX10_stateOf_25 (rfl) (rfl)

theorem mq_stateOf_B {Ω : ax_O} (hA : ax_Amb Ω) {h : ax_H} {m : Nat} {μ : md_S} (hm : Ω.2.1.heap.size ≤ m) (h19 : μ.1 19 = nI 1) (k : Int32) (hb : pIn k (nI 0) ((μ.2 2) 65 - nI 1) = false)  : ax_Met Ω yX10_stateOf 9 0 0 [.ref m, .int k] (md_H h m μ) (.inl (some (.int (nI 0)))) (md_H h m (md_si μ 0 (nI 2))) := by
  refine ax_met q2828 q142 (by decide +kernel) (by decide) hA (Nat.le_of_ble_eq_true rfl) (fun Γ G E => ?_)
  show ax_W Ω Γ 0 0 (md_H h m μ) 0 [some (.ref m), some (.int k)] []
  refine ax_aload_n (pc := 0) G dX10_stateOf_0 rfl rfl ?_
  refine ax_aload_n (pc := 1) G dX10_stateOf_1 rfl rfl ?_
  refine ax_iload_n (pc := 2) G dX10_stateOf_2 rfl rfl ?_
  refine ax_cV1 (pc := 3) (kb := 0) (nb := 0) G (mt_isVisit hA (μ := μ) k) lVX10_372_8 dX10_stateOf_3 md_obj rfl (by decide) (Nat.le_of_ble_eq_true rfl) rfl ?_
  refine ax_top (show Value.int (bI (pIn k (nI 0) ((μ.2 2) 65 - nI 1))) = .int (nI 0) from congrArg Value.int (by rw [hb]; rfl)) ?_
  refine ax_cV1 (pc := 6) (kb := 0) (nb := 0) G (mt_mayAskB hA (μ := μ) hm h19) lVX10_368_8 dX10_stateOf_6 md_obj rfl (by decide) (Nat.le_of_ble_eq_true rfl) rfl ?_
  show ax_W Ω Γ _ _ (md_H h m (md_si μ 0 (nI 2))) _ _ _
  refine ax_if_eq (pc := 9) (tgt := 24) G dX10_stateOf_9 rfl (fun _ => ?_) (fun c9 => absurd rfl c9)
  refine ax_iconst (pc := 24) (v := nI 0) G dX10_stateOf_24 ic_0 ?_
  exact ax_iretE (pc := 25) G E rfl (rfl) dX10_stateOf_25 (rfl) (rfl)

theorem mq_aborts_Y {Ω : ax_O} (hA : ax_Amb Ω) {h : ax_H} {m : Nat} {μ : md_S} (hm : Ω.2.1.heap.size ≤ m) (h19 : μ.1 19 = nI 1) {P V O A : Nat} (hp : pWP (μ.2 2) P V O) (hs : pWS (μ.2 4) A) (k : Nat) (hk : k < V)  : ax_Met Ω yX10_aborts 9 0 0 [.ref m, .int (nI k)] (md_H h m μ) (.inl (some (.int ((μ.2 4) (67 + k))))) (md_H h m (md_si μ 0 (nI 0))) := by
  refine ax_met q2832 q142 (by decide +kernel) (by decide) hA (Nat.le_of_ble_eq_true rfl) (fun Γ G E => ?_)
  have hl_k := hp.lV
  show ax_W Ω Γ 0 0 (md_H h m μ) 0 [some (.ref m), some (.int (nI k))] []
  refine ax_aload_n (pc := 0) G dX10_aborts_0 rfl rfl ?_
  refine ax_aload_n (pc := 1) G dX10_aborts_1 rfl rfl ?_
  refine ax_iload_n (pc := 2) G dX10_aborts_2 rfl rfl ?_
  refine ax_cV1 (pc := 3) (kb := 0) (nb := 0) G (mt_isVisit hA (μ := μ) (nI k)) lVX10_372_8 dX10_aborts_3 md_obj rfl (by decide) (Nat.le_of_ble_eq_true rfl) rfl ?_
  refine ax_top (show Value.int (bI (pIn (nI k) (nI 0) ((μ.2 2) 65 - nI 1))) = .int (nI 1) from congrArg Value.int (by rw [pIn_k hp.hV hk (by have := hp.lV; omega)]; rfl)) ?_
  refine ax_cV1 (pc := 6) (kb := 0) (nb := 0) G (mt_mayAskY hA (μ := μ) hm h19) lVX10_368_8 dX10_aborts_6 md_obj rfl (by decide) (Nat.le_of_ble_eq_true rfl) rfl ?_
  show ax_W Ω Γ _ _ (md_H h m (md_si μ 0 (nI 0))) _ _ _
  refine ax_if_eq (pc := 9) (tgt := 24) G dX10_aborts_9 rfl (fun c9 => absurd c9 (by decide)) (fun _ => ?_)
  refine ax_aload_n (pc := 12) G dX10_aborts_12 rfl rfl ?_
  refine md_get (pc := 13) (v := .ref (m + 4)) G flX10_23_8 dX10_aborts_13 rfl ?_
  refine ax_bipush (pc := 16) (v := nI 67) G dX10_aborts_16 ib_67 ?_
  refine ax_iload_n (pc := 18) G dX10_aborts_18 rfl rfl ?_
  refine ax_iaddN (pc := 19) G dX10_aborts_19 ?_
  refine md_ld (pc := 20) (i := 67 + k) (j := 4) G 627 dX10_aborts_20 (by decide) (by decide) rfl rfl rfl (by omega) (by decide) ?_
  refine ax_goto (pc := 21) (tgt := 25) G dX10_aborts_21 rfl ?_
  exact ax_iretE (pc := 25) G E rfl (rfl) dX10_aborts_25 (rfl) (rfl)

theorem mq_aborts_N {Ω : ax_O} (hA : ax_Amb Ω) {h : ax_H} {m : Nat} {μ : md_S} (hm : Ω.2.1.heap.size ≤ m) (h19 : μ.1 19 = nI 0) (k : Int32)  : ax_Met Ω yX10_aborts 9 0 0 [.ref m, .int k] (md_H h m μ) (.inl (some (.int (nI 0)))) (md_H h m (md_si μ 0 (nI 1))) := by
  refine ax_met q2832 q142 (by decide +kernel) (by decide) hA (Nat.le_of_ble_eq_true rfl) (fun Γ G E => ?_)
  show ax_W Ω Γ 0 0 (md_H h m μ) 0 [some (.ref m), some (.int k)] []
  refine ax_aload_n (pc := 0) G dX10_aborts_0 rfl rfl ?_
  refine ax_aload_n (pc := 1) G dX10_aborts_1 rfl rfl ?_
  refine ax_iload_n (pc := 2) G dX10_aborts_2 rfl rfl ?_
  refine ax_cV1 (pc := 3) (kb := 0) (nb := 0) G (mt_isVisit hA (μ := μ) k) lVX10_372_8 dX10_aborts_3 md_obj rfl (by decide) (Nat.le_of_ble_eq_true rfl) rfl ?_
  refine ax_cV1 (pc := 6) (kb := 0) (nb := 0) G (mt_mayAskN hA (μ := μ) hm h19 (pIn k (nI 0) ((μ.2 2) 65 - nI 1))) lVX10_368_8 dX10_aborts_6 md_obj rfl (by decide) (Nat.le_of_ble_eq_true rfl) rfl ?_
  show ax_W Ω Γ _ _ (md_H h m (md_si μ 0 (nI 1))) _ _ _
  refine ax_if_eq (pc := 9) (tgt := 24) G dX10_aborts_9 rfl (fun _ => ?_) (fun c9 => absurd rfl c9)
  refine ax_iconst (pc := 24) (v := nI 0) G dX10_aborts_24 ic_0 ?_
  exact ax_iretE (pc := 25) G E rfl (rfl) dX10_aborts_25 (rfl) (rfl)

theorem mq_aborts_B {Ω : ax_O} (hA : ax_Amb Ω) {h : ax_H} {m : Nat} {μ : md_S} (hm : Ω.2.1.heap.size ≤ m) (h19 : μ.1 19 = nI 1) (k : Int32) (hb : pIn k (nI 0) ((μ.2 2) 65 - nI 1) = false)  : ax_Met Ω yX10_aborts 9 0 0 [.ref m, .int k] (md_H h m μ) (.inl (some (.int (nI 0)))) (md_H h m (md_si μ 0 (nI 2))) := by
  refine ax_met q2832 q142 (by decide +kernel) (by decide) hA (Nat.le_of_ble_eq_true rfl) (fun Γ G E => ?_)
  show ax_W Ω Γ 0 0 (md_H h m μ) 0 [some (.ref m), some (.int k)] []
  refine ax_aload_n (pc := 0) G dX10_aborts_0 rfl rfl ?_
  refine ax_aload_n (pc := 1) G dX10_aborts_1 rfl rfl ?_
  refine ax_iload_n (pc := 2) G dX10_aborts_2 rfl rfl ?_
  refine ax_cV1 (pc := 3) (kb := 0) (nb := 0) G (mt_isVisit hA (μ := μ) k) lVX10_372_8 dX10_aborts_3 md_obj rfl (by decide) (Nat.le_of_ble_eq_true rfl) rfl ?_
  refine ax_top (show Value.int (bI (pIn k (nI 0) ((μ.2 2) 65 - nI 1))) = .int (nI 0) from congrArg Value.int (by rw [hb]; rfl)) ?_
  refine ax_cV1 (pc := 6) (kb := 0) (nb := 0) G (mt_mayAskB hA (μ := μ) hm h19) lVX10_368_8 dX10_aborts_6 md_obj rfl (by decide) (Nat.le_of_ble_eq_true rfl) rfl ?_
  show ax_W Ω Γ _ _ (md_H h m (md_si μ 0 (nI 2))) _ _ _
  refine ax_if_eq (pc := 9) (tgt := 24) G dX10_aborts_9 rfl (fun _ => ?_) (fun c9 => absurd rfl c9)
  refine ax_iconst (pc := 24) (v := nI 0) G dX10_aborts_24 ic_0 ?_
  exact ax_iretE (pc := 25) G E rfl (rfl) dX10_aborts_25 (rfl) (rfl)

theorem mq_startOf_Y {Ω : ax_O} (hA : ax_Amb Ω) {h : ax_H} {m : Nat} {μ : md_S} (hm : Ω.2.1.heap.size ≤ m) (h19 : μ.1 19 = nI 1) {P V O A : Nat} (hp : pWP (μ.2 2) P V O) (hs : pWS (μ.2 4) A) (k : Nat) (hk : k < V)  : ax_Met Ω yX10_startOf 9 0 0 [.ref m, .int (nI k)] (md_H h m μ) (.inl (some (.int ((μ.2 4) (87 + k))))) (md_H h m (md_si μ 0 (nI 0))) := by
  refine ax_met q2836 q142 (by decide +kernel) (by decide) hA (Nat.le_of_ble_eq_true rfl) (fun Γ G E => ?_)
  have hl_k := hp.lV
  show ax_W Ω Γ 0 0 (md_H h m μ) 0 [some (.ref m), some (.int (nI k))] []
  refine ax_aload_n (pc := 0) G dX10_startOf_0 rfl rfl ?_
  refine ax_aload_n (pc := 1) G dX10_startOf_1 rfl rfl ?_
  refine ax_iload_n (pc := 2) G dX10_startOf_2 rfl rfl ?_
  refine ax_cV1 (pc := 3) (kb := 0) (nb := 0) G (mt_isVisit hA (μ := μ) (nI k)) lVX10_372_8 dX10_startOf_3 md_obj rfl (by decide) (Nat.le_of_ble_eq_true rfl) rfl ?_
  refine ax_top (show Value.int (bI (pIn (nI k) (nI 0) ((μ.2 2) 65 - nI 1))) = .int (nI 1) from congrArg Value.int (by rw [pIn_k hp.hV hk (by have := hp.lV; omega)]; rfl)) ?_
  refine ax_cV1 (pc := 6) (kb := 0) (nb := 0) G (mt_mayAskY hA (μ := μ) hm h19) lVX10_368_8 dX10_startOf_6 md_obj rfl (by decide) (Nat.le_of_ble_eq_true rfl) rfl ?_
  show ax_W Ω Γ _ _ (md_H h m (md_si μ 0 (nI 0))) _ _ _
  refine ax_if_eq (pc := 9) (tgt := 24) G dX10_startOf_9 rfl (fun c9 => absurd c9 (by decide)) (fun _ => ?_)
  refine ax_aload_n (pc := 12) G dX10_startOf_12 rfl rfl ?_
  refine md_get (pc := 13) (v := .ref (m + 4)) G flX10_23_8 dX10_startOf_13 rfl ?_
  refine ax_bipush (pc := 16) (v := nI 87) G dX10_startOf_16 ib_87 ?_
  refine ax_iload_n (pc := 18) G dX10_startOf_18 rfl rfl ?_
  refine ax_iaddN (pc := 19) G dX10_startOf_19 ?_
  refine md_ld (pc := 20) (i := 87 + k) (j := 4) G 627 dX10_startOf_20 (by decide) (by decide) rfl rfl rfl (by omega) (by decide) ?_
  refine ax_goto (pc := 21) (tgt := 25) G dX10_startOf_21 rfl ?_
  exact ax_iretE (pc := 25) G E rfl (rfl) dX10_startOf_25 (rfl) (rfl)

theorem mq_startOf_N {Ω : ax_O} (hA : ax_Amb Ω) {h : ax_H} {m : Nat} {μ : md_S} (hm : Ω.2.1.heap.size ≤ m) (h19 : μ.1 19 = nI 0) (k : Int32)  : ax_Met Ω yX10_startOf 9 0 0 [.ref m, .int k] (md_H h m μ) (.inl (some (.int (nI 0)))) (md_H h m (md_si μ 0 (nI 1))) := by
  refine ax_met q2836 q142 (by decide +kernel) (by decide) hA (Nat.le_of_ble_eq_true rfl) (fun Γ G E => ?_)
  show ax_W Ω Γ 0 0 (md_H h m μ) 0 [some (.ref m), some (.int k)] []
  refine ax_aload_n (pc := 0) G dX10_startOf_0 rfl rfl ?_
  refine ax_aload_n (pc := 1) G dX10_startOf_1 rfl rfl ?_
  refine ax_iload_n (pc := 2) G dX10_startOf_2 rfl rfl ?_
  refine ax_cV1 (pc := 3) (kb := 0) (nb := 0) G (mt_isVisit hA (μ := μ) k) lVX10_372_8 dX10_startOf_3 md_obj rfl (by decide) (Nat.le_of_ble_eq_true rfl) rfl ?_
  refine ax_cV1 (pc := 6) (kb := 0) (nb := 0) G (mt_mayAskN hA (μ := μ) hm h19 (pIn k (nI 0) ((μ.2 2) 65 - nI 1))) lVX10_368_8 dX10_startOf_6 md_obj rfl (by decide) (Nat.le_of_ble_eq_true rfl) rfl ?_
  show ax_W Ω Γ _ _ (md_H h m (md_si μ 0 (nI 1))) _ _ _
  refine ax_if_eq (pc := 9) (tgt := 24) G dX10_startOf_9 rfl (fun _ => ?_) (fun c9 => absurd rfl c9)
  refine ax_iconst (pc := 24) (v := nI 0) G dX10_startOf_24 ic_0 ?_
  exact ax_iretE (pc := 25) G E rfl (rfl) dX10_startOf_25 (rfl) (rfl)

theorem mq_startOf_B {Ω : ax_O} (hA : ax_Amb Ω) {h : ax_H} {m : Nat} {μ : md_S} (hm : Ω.2.1.heap.size ≤ m) (h19 : μ.1 19 = nI 1) (k : Int32) (hb : pIn k (nI 0) ((μ.2 2) 65 - nI 1) = false)  : ax_Met Ω yX10_startOf 9 0 0 [.ref m, .int k] (md_H h m μ) (.inl (some (.int (nI 0)))) (md_H h m (md_si μ 0 (nI 2))) := by
  refine ax_met q2836 q142 (by decide +kernel) (by decide) hA (Nat.le_of_ble_eq_true rfl) (fun Γ G E => ?_)
  show ax_W Ω Γ 0 0 (md_H h m μ) 0 [some (.ref m), some (.int k)] []
  refine ax_aload_n (pc := 0) G dX10_startOf_0 rfl rfl ?_
  refine ax_aload_n (pc := 1) G dX10_startOf_1 rfl rfl ?_
  refine ax_iload_n (pc := 2) G dX10_startOf_2 rfl rfl ?_
  refine ax_cV1 (pc := 3) (kb := 0) (nb := 0) G (mt_isVisit hA (μ := μ) k) lVX10_372_8 dX10_startOf_3 md_obj rfl (by decide) (Nat.le_of_ble_eq_true rfl) rfl ?_
  refine ax_top (show Value.int (bI (pIn k (nI 0) ((μ.2 2) 65 - nI 1))) = .int (nI 0) from congrArg Value.int (by rw [hb]; rfl)) ?_
  refine ax_cV1 (pc := 6) (kb := 0) (nb := 0) G (mt_mayAskB hA (μ := μ) hm h19) lVX10_368_8 dX10_startOf_6 md_obj rfl (by decide) (Nat.le_of_ble_eq_true rfl) rfl ?_
  show ax_W Ω Γ _ _ (md_H h m (md_si μ 0 (nI 2))) _ _ _
  refine ax_if_eq (pc := 9) (tgt := 24) G dX10_startOf_9 rfl (fun _ => ?_) (fun c9 => absurd rfl c9)
  refine ax_iconst (pc := 24) (v := nI 0) G dX10_startOf_24 ic_0 ?_
  exact ax_iretE (pc := 25) G E rfl (rfl) dX10_startOf_25 (rfl) (rfl)

theorem mq_alertState_Y {Ω : ax_O} (hA : ax_Amb Ω) {h : ax_H} {m : Nat} {μ : md_S} (hm : Ω.2.1.heap.size ≤ m) (h19 : μ.1 19 = nI 1) {P V O A : Nat} (hp : pWP (μ.2 2) P V O) (hs : pWS (μ.2 4) A) (k : Nat) (hk : k < A)  : ax_Met Ω yX10_alertState 9 0 0 [.ref m, .int (nI k)] (md_H h m μ) (.inl (some (.int ((μ.2 4) (127 + 10 * k + 7))))) (md_H h m (md_si μ 0 (nI 0))) := by
  refine ax_met q2856 q142 (by decide +kernel) (by decide) hA (Nat.le_of_ble_eq_true rfl) (fun Γ G E => ?_)
  have hl_k := hs.lA
  show ax_W Ω Γ 0 0 (md_H h m μ) 0 [some (.ref m), some (.int (nI k))] []
  refine ax_aload_n (pc := 0) G dX10_alertState_0 rfl rfl ?_
  refine ax_aload_n (pc := 1) G dX10_alertState_1 rfl rfl ?_
  refine ax_iload_n (pc := 2) G dX10_alertState_2 rfl rfl ?_
  refine ax_cV1 (pc := 3) (kb := 0) (nb := 0) G (mt_isAlert hA (μ := μ) (nI k)) lVX10_375_8 dX10_alertState_3 md_obj rfl (by decide) (Nat.le_of_ble_eq_true rfl) rfl ?_
  refine ax_top (show Value.int (bI (pIn (nI k) (nI 0) ((μ.2 4) 14 - nI 1))) = .int (nI 1) from congrArg Value.int (by rw [pIn_k hs.hA hk (by have := hs.lA; omega)]; rfl)) ?_
  refine ax_cV1 (pc := 6) (kb := 0) (nb := 0) G (mt_mayAskY hA (μ := μ) hm h19) lVX10_368_8 dX10_alertState_6 md_obj rfl (by decide) (Nat.le_of_ble_eq_true rfl) rfl ?_
  show ax_W Ω Γ _ _ (md_H h m (md_si μ 0 (nI 0))) _ _ _
  refine ax_if_eq (pc := 9) (tgt := 22) G dX10_alertState_9 rfl (fun c9 => absurd c9 (by decide)) (fun _ => ?_)
  refine ax_aload_n (pc := 12) G dX10_alertState_12 rfl rfl ?_
  refine ax_iload_n (pc := 13) G dX10_alertState_13 rfl rfl ?_
  refine ax_bipush (pc := 14) (v := nI 7) G dX10_alertState_14 ib_7 ?_
  refine ax_cV1 (pc := 16) (kb := 0) (nb := 0) G (mt_ofAlert hA (μ := (md_si μ 0 (nI 0))) k 7 (by omega) (by omega)) lVX10_378_8 dX10_alertState_16 md_obj rfl (by decide) (Nat.le_of_ble_eq_true rfl) rfl ?_
  refine ax_goto (pc := 19) (tgt := 23) G dX10_alertState_19 rfl ?_
  exact ax_iretE (pc := 23) G E rfl (rfl) dX10_alertState_23 (rfl) (rfl)

theorem mq_alertState_N {Ω : ax_O} (hA : ax_Amb Ω) {h : ax_H} {m : Nat} {μ : md_S} (hm : Ω.2.1.heap.size ≤ m) (h19 : μ.1 19 = nI 0) (k : Int32)  : ax_Met Ω yX10_alertState 9 0 0 [.ref m, .int k] (md_H h m μ) (.inl (some (.int (nI 0)))) (md_H h m (md_si μ 0 (nI 1))) := by
  refine ax_met q2856 q142 (by decide +kernel) (by decide) hA (Nat.le_of_ble_eq_true rfl) (fun Γ G E => ?_)
  show ax_W Ω Γ 0 0 (md_H h m μ) 0 [some (.ref m), some (.int k)] []
  refine ax_aload_n (pc := 0) G dX10_alertState_0 rfl rfl ?_
  refine ax_aload_n (pc := 1) G dX10_alertState_1 rfl rfl ?_
  refine ax_iload_n (pc := 2) G dX10_alertState_2 rfl rfl ?_
  refine ax_cV1 (pc := 3) (kb := 0) (nb := 0) G (mt_isAlert hA (μ := μ) k) lVX10_375_8 dX10_alertState_3 md_obj rfl (by decide) (Nat.le_of_ble_eq_true rfl) rfl ?_
  refine ax_cV1 (pc := 6) (kb := 0) (nb := 0) G (mt_mayAskN hA (μ := μ) hm h19 (pIn k (nI 0) ((μ.2 4) 14 - nI 1))) lVX10_368_8 dX10_alertState_6 md_obj rfl (by decide) (Nat.le_of_ble_eq_true rfl) rfl ?_
  show ax_W Ω Γ _ _ (md_H h m (md_si μ 0 (nI 1))) _ _ _
  refine ax_if_eq (pc := 9) (tgt := 22) G dX10_alertState_9 rfl (fun _ => ?_) (fun c9 => absurd rfl c9)
  refine ax_iconst (pc := 22) (v := nI 0) G dX10_alertState_22 ic_0 ?_
  exact ax_iretE (pc := 23) G E rfl (rfl) dX10_alertState_23 (rfl) (rfl)

theorem mq_alertState_B {Ω : ax_O} (hA : ax_Amb Ω) {h : ax_H} {m : Nat} {μ : md_S} (hm : Ω.2.1.heap.size ≤ m) (h19 : μ.1 19 = nI 1) (k : Int32) (hb : pIn k (nI 0) ((μ.2 4) 14 - nI 1) = false)  : ax_Met Ω yX10_alertState 9 0 0 [.ref m, .int k] (md_H h m μ) (.inl (some (.int (nI 0)))) (md_H h m (md_si μ 0 (nI 2))) := by
  refine ax_met q2856 q142 (by decide +kernel) (by decide) hA (Nat.le_of_ble_eq_true rfl) (fun Γ G E => ?_)
  show ax_W Ω Γ 0 0 (md_H h m μ) 0 [some (.ref m), some (.int k)] []
  refine ax_aload_n (pc := 0) G dX10_alertState_0 rfl rfl ?_
  refine ax_aload_n (pc := 1) G dX10_alertState_1 rfl rfl ?_
  refine ax_iload_n (pc := 2) G dX10_alertState_2 rfl rfl ?_
  refine ax_cV1 (pc := 3) (kb := 0) (nb := 0) G (mt_isAlert hA (μ := μ) k) lVX10_375_8 dX10_alertState_3 md_obj rfl (by decide) (Nat.le_of_ble_eq_true rfl) rfl ?_
  refine ax_top (show Value.int (bI (pIn k (nI 0) ((μ.2 4) 14 - nI 1))) = .int (nI 0) from congrArg Value.int (by rw [hb]; rfl)) ?_
  refine ax_cV1 (pc := 6) (kb := 0) (nb := 0) G (mt_mayAskB hA (μ := μ) hm h19) lVX10_368_8 dX10_alertState_6 md_obj rfl (by decide) (Nat.le_of_ble_eq_true rfl) rfl ?_
  show ax_W Ω Γ _ _ (md_H h m (md_si μ 0 (nI 2))) _ _ _
  refine ax_if_eq (pc := 9) (tgt := 22) G dX10_alertState_9 rfl (fun _ => ?_) (fun c9 => absurd rfl c9)
  refine ax_iconst (pc := 22) (v := nI 0) G dX10_alertState_22 ic_0 ?_
  exact ax_iretE (pc := 23) G E rfl (rfl) dX10_alertState_23 (rfl) (rfl)

theorem mq_now_Y {Ω : ax_O} (hA : ax_Amb Ω) {h : ax_H} {m : Nat} {μ : md_S} (hm : Ω.2.1.heap.size ≤ m) (h19 : μ.1 19 = nI 1) {P V O A : Nat} (hp : pWP (μ.2 2) P V O) (hs : pWS (μ.2 4) A)  : ax_Met Ω yX10_now 9 0 0 [.ref m] (md_H h m μ) (.inl (some (.int ((μ.2 4) 0)))) (md_H h m (md_si μ 0 (nI 0))) := by
  refine ax_met q2868 q142 (by decide +kernel) (by decide) hA (Nat.le_of_ble_eq_true rfl) (fun Γ G E => ?_)
  show ax_W Ω Γ 0 0 (md_H h m μ) 0 [some (.ref m)] []
  refine ax_aload_n (pc := 0) G dX10_now_0 rfl rfl ?_
  refine ax_iconst (pc := 1) (v := nI 1) G dX10_now_1 ic_1 ?_
  refine ax_cV1 (pc := 2) (kb := 0) (nb := 0) G (mt_mayAskY hA (μ := μ) hm h19) lVX10_368_8 dX10_now_2 md_obj rfl (by decide) (Nat.le_of_ble_eq_true rfl) rfl ?_
  show ax_W Ω Γ _ _ (md_H h m (md_si μ 0 (nI 0))) _ _ _
  refine ax_if_eq (pc := 5) (tgt := 17) G dX10_now_5 rfl (fun c9 => absurd c9 (by decide)) (fun _ => ?_)
  refine ax_aload_n (pc := 8) G dX10_now_8 rfl rfl ?_
  refine md_get (pc := 9) (v := .ref (m + 4)) G flX10_23_8 dX10_now_9 rfl ?_
  refine ax_iconst (pc := 12) (v := nI 0) G dX10_now_12 ic_0 ?_
  refine md_ld (pc := 13) (i := 0) (j := 4) G 627 dX10_now_13 (by decide) (by decide) rfl rfl rfl (by omega) (by decide) ?_
  refine ax_goto (pc := 14) (tgt := 18) G dX10_now_14 rfl ?_
  exact ax_iretE (pc := 18) G E rfl (rfl) dX10_now_18 (rfl) (rfl)

theorem mq_now_N {Ω : ax_O} (hA : ax_Amb Ω) {h : ax_H} {m : Nat} {μ : md_S} (hm : Ω.2.1.heap.size ≤ m) (h19 : μ.1 19 = nI 0)  : ax_Met Ω yX10_now 9 0 0 [.ref m] (md_H h m μ) (.inl (some (.int (nI 0)))) (md_H h m (md_si μ 0 (nI 1))) := by
  refine ax_met q2868 q142 (by decide +kernel) (by decide) hA (Nat.le_of_ble_eq_true rfl) (fun Γ G E => ?_)
  show ax_W Ω Γ 0 0 (md_H h m μ) 0 [some (.ref m)] []
  refine ax_aload_n (pc := 0) G dX10_now_0 rfl rfl ?_
  refine ax_iconst (pc := 1) (v := nI 1) G dX10_now_1 ic_1 ?_
  refine ax_cV1 (pc := 2) (kb := 0) (nb := 0) G (mt_mayAskN hA (μ := μ) hm h19 true) lVX10_368_8 dX10_now_2 md_obj rfl (by decide) (Nat.le_of_ble_eq_true rfl) rfl ?_
  show ax_W Ω Γ _ _ (md_H h m (md_si μ 0 (nI 1))) _ _ _
  refine ax_if_eq (pc := 5) (tgt := 17) G dX10_now_5 rfl (fun _ => ?_) (fun c9 => absurd rfl c9)
  refine ax_iconst (pc := 17) (v := nI 0) G dX10_now_17 ic_0 ?_
  exact ax_iretE (pc := 18) G E rfl (rfl) dX10_now_18 (rfl) (rfl)

theorem mq_momentum_Y {Ω : ax_O} (hA : ax_Amb Ω) {h : ax_H} {m : Nat} {μ : md_S} (hm : Ω.2.1.heap.size ≤ m) (h19 : μ.1 19 = nI 1) {P V O A : Nat} (hp : pWP (μ.2 2) P V O) (hs : pWS (μ.2 4) A)  : ax_Met Ω yX10_momentum 9 0 0 [.ref m] (md_H h m μ) (.inl (some (.int ((μ.2 4) 3)))) (md_H h m (md_si μ 0 (nI 0))) := by
  refine ax_met q2876 q142 (by decide +kernel) (by decide) hA (Nat.le_of_ble_eq_true rfl) (fun Γ G E => ?_)
  show ax_W Ω Γ 0 0 (md_H h m μ) 0 [some (.ref m)] []
  refine ax_aload_n (pc := 0) G dX10_momentum_0 rfl rfl ?_
  refine ax_iconst (pc := 1) (v := nI 1) G dX10_momentum_1 ic_1 ?_
  refine ax_cV1 (pc := 2) (kb := 0) (nb := 0) G (mt_mayAskY hA (μ := μ) hm h19) lVX10_368_8 dX10_momentum_2 md_obj rfl (by decide) (Nat.le_of_ble_eq_true rfl) rfl ?_
  show ax_W Ω Γ _ _ (md_H h m (md_si μ 0 (nI 0))) _ _ _
  refine ax_if_eq (pc := 5) (tgt := 17) G dX10_momentum_5 rfl (fun c9 => absurd c9 (by decide)) (fun _ => ?_)
  refine ax_aload_n (pc := 8) G dX10_momentum_8 rfl rfl ?_
  refine md_get (pc := 9) (v := .ref (m + 4)) G flX10_23_8 dX10_momentum_9 rfl ?_
  refine ax_iconst (pc := 12) (v := nI 3) G dX10_momentum_12 ic_3 ?_
  refine md_ld (pc := 13) (i := 3) (j := 4) G 627 dX10_momentum_13 (by decide) (by decide) rfl rfl rfl (by omega) (by decide) ?_
  refine ax_goto (pc := 14) (tgt := 18) G dX10_momentum_14 rfl ?_
  exact ax_iretE (pc := 18) G E rfl (rfl) dX10_momentum_18 (rfl) (rfl)

theorem mq_momentum_N {Ω : ax_O} (hA : ax_Amb Ω) {h : ax_H} {m : Nat} {μ : md_S} (hm : Ω.2.1.heap.size ≤ m) (h19 : μ.1 19 = nI 0)  : ax_Met Ω yX10_momentum 9 0 0 [.ref m] (md_H h m μ) (.inl (some (.int (nI 0)))) (md_H h m (md_si μ 0 (nI 1))) := by
  refine ax_met q2876 q142 (by decide +kernel) (by decide) hA (Nat.le_of_ble_eq_true rfl) (fun Γ G E => ?_)
  show ax_W Ω Γ 0 0 (md_H h m μ) 0 [some (.ref m)] []
  refine ax_aload_n (pc := 0) G dX10_momentum_0 rfl rfl ?_
  refine ax_iconst (pc := 1) (v := nI 1) G dX10_momentum_1 ic_1 ?_
  refine ax_cV1 (pc := 2) (kb := 0) (nb := 0) G (mt_mayAskN hA (μ := μ) hm h19 true) lVX10_368_8 dX10_momentum_2 md_obj rfl (by decide) (Nat.le_of_ble_eq_true rfl) rfl ?_
  show ax_W Ω Γ _ _ (md_H h m (md_si μ 0 (nI 1))) _ _ _
  refine ax_if_eq (pc := 5) (tgt := 17) G dX10_momentum_5 rfl (fun _ => ?_) (fun c9 => absurd rfl c9)
  refine ax_iconst (pc := 17) (v := nI 0) G dX10_momentum_17 ic_0 ?_
  exact ax_iretE (pc := 18) G E rfl (rfl) dX10_momentum_18 (rfl) (rfl)

theorem mq_sinceCalibration_Y {Ω : ax_O} (hA : ax_Amb Ω) {h : ax_H} {m : Nat} {μ : md_S} (hm : Ω.2.1.heap.size ≤ m) (h19 : μ.1 19 = nI 1) {P V O A : Nat} (hp : pWP (μ.2 2) P V O) (hs : pWS (μ.2 4) A)  : ax_Met Ω yX10_sinceCalibration 9 0 0 [.ref m] (md_H h m μ) (.inl (some (.int ((μ.2 4) 0 - (μ.2 4) 4)))) (md_H h m (md_si μ 0 (nI 0))) := by
  refine ax_met q2880 q142 (by decide +kernel) (by decide) hA (Nat.le_of_ble_eq_true rfl) (fun Γ G E => ?_)
  show ax_W Ω Γ 0 0 (md_H h m μ) 0 [some (.ref m)] []
  refine ax_aload_n (pc := 0) G dX10_sinceCalibration_0 rfl rfl ?_
  refine ax_iconst (pc := 1) (v := nI 1) G dX10_sinceCalibration_1 ic_1 ?_
  refine ax_cV1 (pc := 2) (kb := 0) (nb := 0) G (mt_mayAskY hA (μ := μ) hm h19) lVX10_368_8 dX10_sinceCalibration_2 md_obj rfl (by decide) (Nat.le_of_ble_eq_true rfl) rfl ?_
  show ax_W Ω Γ _ _ (md_H h m (md_si μ 0 (nI 0))) _ _ _
  refine ax_if_eq (pc := 5) (tgt := 24) G dX10_sinceCalibration_5 rfl (fun c9 => absurd c9 (by decide)) (fun _ => ?_)
  refine ax_aload_n (pc := 8) G dX10_sinceCalibration_8 rfl rfl ?_
  refine md_get (pc := 9) (v := .ref (m + 4)) G flX10_23_8 dX10_sinceCalibration_9 rfl ?_
  refine ax_iconst (pc := 12) (v := nI 0) G dX10_sinceCalibration_12 ic_0 ?_
  refine md_ld (pc := 13) (i := 0) (j := 4) G 627 dX10_sinceCalibration_13 (by decide) (by decide) rfl rfl rfl (by omega) (by decide) ?_
  refine ax_aload_n (pc := 14) G dX10_sinceCalibration_14 rfl rfl ?_
  refine md_get (pc := 15) (v := .ref (m + 4)) G flX10_23_8 dX10_sinceCalibration_15 rfl ?_
  refine ax_iconst (pc := 18) (v := nI 4) G dX10_sinceCalibration_18 ic_4 ?_
  refine md_ld (pc := 19) (i := 4) (j := 4) G 627 dX10_sinceCalibration_19 (by decide) (by decide) rfl rfl rfl (by omega) (by decide) ?_
  refine ax_isub (pc := 20) G dX10_sinceCalibration_20 ?_
  refine ax_goto (pc := 21) (tgt := 25) G dX10_sinceCalibration_21 rfl ?_
  exact ax_iretE (pc := 25) G E rfl (rfl) dX10_sinceCalibration_25 (rfl) (rfl)

theorem mq_sinceCalibration_N {Ω : ax_O} (hA : ax_Amb Ω) {h : ax_H} {m : Nat} {μ : md_S} (hm : Ω.2.1.heap.size ≤ m) (h19 : μ.1 19 = nI 0)  : ax_Met Ω yX10_sinceCalibration 9 0 0 [.ref m] (md_H h m μ) (.inl (some (.int (nI 0)))) (md_H h m (md_si μ 0 (nI 1))) := by
  refine ax_met q2880 q142 (by decide +kernel) (by decide) hA (Nat.le_of_ble_eq_true rfl) (fun Γ G E => ?_)
  show ax_W Ω Γ 0 0 (md_H h m μ) 0 [some (.ref m)] []
  refine ax_aload_n (pc := 0) G dX10_sinceCalibration_0 rfl rfl ?_
  refine ax_iconst (pc := 1) (v := nI 1) G dX10_sinceCalibration_1 ic_1 ?_
  refine ax_cV1 (pc := 2) (kb := 0) (nb := 0) G (mt_mayAskN hA (μ := μ) hm h19 true) lVX10_368_8 dX10_sinceCalibration_2 md_obj rfl (by decide) (Nat.le_of_ble_eq_true rfl) rfl ?_
  show ax_W Ω Γ _ _ (md_H h m (md_si μ 0 (nI 1))) _ _ _
  refine ax_if_eq (pc := 5) (tgt := 24) G dX10_sinceCalibration_5 rfl (fun _ => ?_) (fun c9 => absurd rfl c9)
  refine ax_iconst (pc := 24) (v := nI 0) G dX10_sinceCalibration_24 ic_0 ?_
  exact ax_iretE (pc := 25) G E rfl (rfl) dX10_sinceCalibration_25 (rfl) (rfl)

theorem mq_pointing_Y {Ω : ax_O} (hA : ax_Amb Ω) {h : ax_H} {m : Nat} {μ : md_S} (hm : Ω.2.1.heap.size ≤ m) (h19 : μ.1 19 = nI 1) {P V O A : Nat} (hp : pWP (μ.2 2) P V O) (hs : pWS (μ.2 4) A) (k : Nat) (hk : k ≤ 1)  : ax_Met Ω yX10_pointing 9 0 0 [.ref m, .int (nI k)] (md_H h m μ) (.inl (some (.int ((μ.2 4) (1 + k))))) (md_H h m (md_si μ 0 (nI 0))) := by
  refine ax_met q2872 q142 (by decide +kernel) (by decide) hA (Nat.le_of_ble_eq_true rfl) (fun Γ G E => ?_)
  show ax_W Ω Γ 0 0 (md_H h m μ) 0 [some (.ref m), some (.int (nI k))] []
  refine ax_aload_n (pc := 0) G dX10_pointing_0 rfl rfl ?_
  refine ax_iload_n (pc := 1) G dX10_pointing_1 rfl rfl ?_
  refine ax_iconst (pc := 2) (v := nI 0) G dX10_pointing_2 ic_0 ?_
  refine ax_iconst (pc := 3) (v := nI 1) G dX10_pointing_3 ic_1 ?_
  refine ax_cS1 (pc := 4) (kb := 0) (nb := 0) G (mt_in hA (nI k) (nI 0) (nI 1)) lSX10_74 dX10_pointing_4 rfl (by decide) (Nat.le_of_ble_eq_true rfl) rfl ?_
  refine ax_top (show Value.int (bI (pIn (nI k) (nI 0) (nI 1))) = .int (nI 1) from congrArg Value.int (by rw [pIn_c (Nat.zero_le _) hk (by decide)]; rfl)) ?_
  refine ax_cV1 (pc := 7) (kb := 0) (nb := 0) G (mt_mayAskY hA (μ := μ) hm h19) lVX10_368_8 dX10_pointing_7 md_obj rfl (by decide) (Nat.le_of_ble_eq_true rfl) rfl ?_
  show ax_W Ω Γ _ _ (md_H h m (md_si μ 0 (nI 0))) _ _ _
  refine ax_if_eq (pc := 10) (tgt := 24) G dX10_pointing_10 rfl (fun c9 => absurd c9 (by decide)) (fun _ => ?_)
  refine ax_aload_n (pc := 13) G dX10_pointing_13 rfl rfl ?_
  refine md_get (pc := 14) (v := .ref (m + 4)) G flX10_23_8 dX10_pointing_14 rfl ?_
  refine ax_iconst (pc := 17) (v := nI 1) G dX10_pointing_17 ic_1 ?_
  refine ax_iload_n (pc := 18) G dX10_pointing_18 rfl rfl ?_
  refine ax_iaddN (pc := 19) G dX10_pointing_19 ?_
  refine md_ld (pc := 20) (i := 1 + k) (j := 4) G 627 dX10_pointing_20 (by decide) (by decide) rfl rfl rfl (by omega) (by decide) ?_
  refine ax_goto (pc := 21) (tgt := 25) G dX10_pointing_21 rfl ?_
  exact ax_iretE (pc := 25) G E rfl (rfl) dX10_pointing_25 (rfl) (rfl)

theorem mq_pointing_N {Ω : ax_O} (hA : ax_Amb Ω) {h : ax_H} {m : Nat} {μ : md_S} (hm : Ω.2.1.heap.size ≤ m) (h19 : μ.1 19 = nI 0) (k : Int32)  : ax_Met Ω yX10_pointing 9 0 0 [.ref m, .int k] (md_H h m μ) (.inl (some (.int (nI 0)))) (md_H h m (md_si μ 0 (nI 1))) := by
  refine ax_met q2872 q142 (by decide +kernel) (by decide) hA (Nat.le_of_ble_eq_true rfl) (fun Γ G E => ?_)
  show ax_W Ω Γ 0 0 (md_H h m μ) 0 [some (.ref m), some (.int k)] []
  refine ax_aload_n (pc := 0) G dX10_pointing_0 rfl rfl ?_
  refine ax_iload_n (pc := 1) G dX10_pointing_1 rfl rfl ?_
  refine ax_iconst (pc := 2) (v := nI 0) G dX10_pointing_2 ic_0 ?_
  refine ax_iconst (pc := 3) (v := nI 1) G dX10_pointing_3 ic_1 ?_
  refine ax_cS1 (pc := 4) (kb := 0) (nb := 0) G (mt_in hA k (nI 0) (nI 1)) lSX10_74 dX10_pointing_4 rfl (by decide) (Nat.le_of_ble_eq_true rfl) rfl ?_
  refine ax_cV1 (pc := 7) (kb := 0) (nb := 0) G (mt_mayAskN hA (μ := μ) hm h19 (pIn k (nI 0) (nI 1))) lVX10_368_8 dX10_pointing_7 md_obj rfl (by decide) (Nat.le_of_ble_eq_true rfl) rfl ?_
  show ax_W Ω Γ _ _ (md_H h m (md_si μ 0 (nI 1))) _ _ _
  refine ax_if_eq (pc := 10) (tgt := 24) G dX10_pointing_10 rfl (fun _ => ?_) (fun c9 => absurd rfl c9)
  refine ax_iconst (pc := 24) (v := nI 0) G dX10_pointing_24 ic_0 ?_
  exact ax_iretE (pc := 25) G E rfl (rfl) dX10_pointing_25 (rfl) (rfl)

theorem mq_pointing_B {Ω : ax_O} (hA : ax_Amb Ω) {h : ax_H} {m : Nat} {μ : md_S} (hm : Ω.2.1.heap.size ≤ m) (h19 : μ.1 19 = nI 1) (k : Int32) (hb : pIn k (nI 0) (nI 1) = false)  : ax_Met Ω yX10_pointing 9 0 0 [.ref m, .int k] (md_H h m μ) (.inl (some (.int (nI 0)))) (md_H h m (md_si μ 0 (nI 2))) := by
  refine ax_met q2872 q142 (by decide +kernel) (by decide) hA (Nat.le_of_ble_eq_true rfl) (fun Γ G E => ?_)
  show ax_W Ω Γ 0 0 (md_H h m μ) 0 [some (.ref m), some (.int k)] []
  refine ax_aload_n (pc := 0) G dX10_pointing_0 rfl rfl ?_
  refine ax_iload_n (pc := 1) G dX10_pointing_1 rfl rfl ?_
  refine ax_iconst (pc := 2) (v := nI 0) G dX10_pointing_2 ic_0 ?_
  refine ax_iconst (pc := 3) (v := nI 1) G dX10_pointing_3 ic_1 ?_
  refine ax_cS1 (pc := 4) (kb := 0) (nb := 0) G (mt_in hA k (nI 0) (nI 1)) lSX10_74 dX10_pointing_4 rfl (by decide) (Nat.le_of_ble_eq_true rfl) rfl ?_
  refine ax_top (show Value.int (bI (pIn k (nI 0) (nI 1))) = .int (nI 0) from congrArg Value.int (by rw [hb]; rfl)) ?_
  refine ax_cV1 (pc := 7) (kb := 0) (nb := 0) G (mt_mayAskB hA (μ := μ) hm h19) lVX10_368_8 dX10_pointing_7 md_obj rfl (by decide) (Nat.le_of_ble_eq_true rfl) rfl ?_
  show ax_W Ω Γ _ _ (md_H h m (md_si μ 0 (nI 2))) _ _ _
  refine ax_if_eq (pc := 10) (tgt := 24) G dX10_pointing_10 rfl (fun _ => ?_) (fun c9 => absurd rfl c9)
  refine ax_iconst (pc := 24) (v := nI 0) G dX10_pointing_24 ic_0 ?_
  exact ax_iretE (pc := 25) G E rfl (rfl) dX10_pointing_25 (rfl) (rfl)

theorem mq_total_Y {Ω : ax_O} (hA : ax_Amb Ω) {h : ax_H} {m : Nat} {μ : md_S} (hm : Ω.2.1.heap.size ≤ m) (h19 : μ.1 19 = nI 1) {P V O A : Nat} (hp : pWP (μ.2 2) P V O) (hs : pWS (μ.2 4) A) (k : Nat) (hk : k ≤ 7)  : ax_Met Ω yX10_total 9 0 0 [.ref m, .int (nI k)] (md_H h m μ) (.inl (some (.int ((μ.2 4) (6 + k))))) (md_H h m (md_si μ 0 (nI 0))) := by
  refine ax_met q3095 q142 (by decide +kernel) (by decide) hA (Nat.le_of_ble_eq_true rfl) (fun Γ G E => ?_)
  show ax_W Ω Γ 0 0 (md_H h m μ) 0 [some (.ref m), some (.int (nI k))] []
  refine ax_aload_n (pc := 0) G dX10_total_0 rfl rfl ?_
  refine ax_iload_n (pc := 1) G dX10_total_1 rfl rfl ?_
  refine ax_iconst (pc := 2) (v := nI 0) G dX10_total_2 ic_0 ?_
  refine ax_bipush (pc := 3) (v := nI 7) G dX10_total_3 ib_7 ?_
  refine ax_cS1 (pc := 5) (kb := 0) (nb := 0) G (mt_in hA (nI k) (nI 0) (nI 7)) lSX10_74 dX10_total_5 rfl (by decide) (Nat.le_of_ble_eq_true rfl) rfl ?_
  refine ax_top (show Value.int (bI (pIn (nI k) (nI 0) (nI 7))) = .int (nI 1) from congrArg Value.int (by rw [pIn_c (Nat.zero_le _) hk (by decide)]; rfl)) ?_
  refine ax_cV1 (pc := 8) (kb := 0) (nb := 0) G (mt_mayAskY hA (μ := μ) hm h19) lVX10_368_8 dX10_total_8 md_obj rfl (by decide) (Nat.le_of_ble_eq_true rfl) rfl ?_
  show ax_W Ω Γ _ _ (md_H h m (md_si μ 0 (nI 0))) _ _ _
  refine ax_if_eq (pc := 11) (tgt := 26) G dX10_total_11 rfl (fun c9 => absurd c9 (by decide)) (fun _ => ?_)
  refine ax_aload_n (pc := 14) G dX10_total_14 rfl rfl ?_
  refine md_get (pc := 15) (v := .ref (m + 4)) G flX10_23_8 dX10_total_15 rfl ?_
  refine ax_bipush (pc := 18) (v := nI 6) G dX10_total_18 ib_6 ?_
  refine ax_iload_n (pc := 20) G dX10_total_20 rfl rfl ?_
  refine ax_iaddN (pc := 21) G dX10_total_21 ?_
  refine md_ld (pc := 22) (i := 6 + k) (j := 4) G 627 dX10_total_22 (by decide) (by decide) rfl rfl rfl (by omega) (by decide) ?_
  refine ax_goto (pc := 23) (tgt := 27) G dX10_total_23 rfl ?_
  exact ax_iretE (pc := 27) G E rfl (rfl) dX10_total_27 (rfl) (rfl)

theorem mq_total_N {Ω : ax_O} (hA : ax_Amb Ω) {h : ax_H} {m : Nat} {μ : md_S} (hm : Ω.2.1.heap.size ≤ m) (h19 : μ.1 19 = nI 0) (k : Int32)  : ax_Met Ω yX10_total 9 0 0 [.ref m, .int k] (md_H h m μ) (.inl (some (.int (nI 0)))) (md_H h m (md_si μ 0 (nI 1))) := by
  refine ax_met q3095 q142 (by decide +kernel) (by decide) hA (Nat.le_of_ble_eq_true rfl) (fun Γ G E => ?_)
  show ax_W Ω Γ 0 0 (md_H h m μ) 0 [some (.ref m), some (.int k)] []
  refine ax_aload_n (pc := 0) G dX10_total_0 rfl rfl ?_
  refine ax_iload_n (pc := 1) G dX10_total_1 rfl rfl ?_
  refine ax_iconst (pc := 2) (v := nI 0) G dX10_total_2 ic_0 ?_
  refine ax_bipush (pc := 3) (v := nI 7) G dX10_total_3 ib_7 ?_
  refine ax_cS1 (pc := 5) (kb := 0) (nb := 0) G (mt_in hA k (nI 0) (nI 7)) lSX10_74 dX10_total_5 rfl (by decide) (Nat.le_of_ble_eq_true rfl) rfl ?_
  refine ax_cV1 (pc := 8) (kb := 0) (nb := 0) G (mt_mayAskN hA (μ := μ) hm h19 (pIn k (nI 0) (nI 7))) lVX10_368_8 dX10_total_8 md_obj rfl (by decide) (Nat.le_of_ble_eq_true rfl) rfl ?_
  show ax_W Ω Γ _ _ (md_H h m (md_si μ 0 (nI 1))) _ _ _
  refine ax_if_eq (pc := 11) (tgt := 26) G dX10_total_11 rfl (fun _ => ?_) (fun c9 => absurd rfl c9)
  refine ax_iconst (pc := 26) (v := nI 0) G dX10_total_26 ic_0 ?_
  exact ax_iretE (pc := 27) G E rfl (rfl) dX10_total_27 (rfl) (rfl)

theorem mq_total_B {Ω : ax_O} (hA : ax_Amb Ω) {h : ax_H} {m : Nat} {μ : md_S} (hm : Ω.2.1.heap.size ≤ m) (h19 : μ.1 19 = nI 1) (k : Int32) (hb : pIn k (nI 0) (nI 7) = false)  : ax_Met Ω yX10_total 9 0 0 [.ref m, .int k] (md_H h m μ) (.inl (some (.int (nI 0)))) (md_H h m (md_si μ 0 (nI 2))) := by
  refine ax_met q3095 q142 (by decide +kernel) (by decide) hA (Nat.le_of_ble_eq_true rfl) (fun Γ G E => ?_)
  show ax_W Ω Γ 0 0 (md_H h m μ) 0 [some (.ref m), some (.int k)] []
  refine ax_aload_n (pc := 0) G dX10_total_0 rfl rfl ?_
  refine ax_iload_n (pc := 1) G dX10_total_1 rfl rfl ?_
  refine ax_iconst (pc := 2) (v := nI 0) G dX10_total_2 ic_0 ?_
  refine ax_bipush (pc := 3) (v := nI 7) G dX10_total_3 ib_7 ?_
  refine ax_cS1 (pc := 5) (kb := 0) (nb := 0) G (mt_in hA k (nI 0) (nI 7)) lSX10_74 dX10_total_5 rfl (by decide) (Nat.le_of_ble_eq_true rfl) rfl ?_
  refine ax_top (show Value.int (bI (pIn k (nI 0) (nI 7))) = .int (nI 0) from congrArg Value.int (by rw [hb]; rfl)) ?_
  refine ax_cV1 (pc := 8) (kb := 0) (nb := 0) G (mt_mayAskB hA (μ := μ) hm h19) lVX10_368_8 dX10_total_8 md_obj rfl (by decide) (Nat.le_of_ble_eq_true rfl) rfl ?_
  show ax_W Ω Γ _ _ (md_H h m (md_si μ 0 (nI 2))) _ _ _
  refine ax_if_eq (pc := 11) (tgt := 26) G dX10_total_11 rfl (fun _ => ?_) (fun c9 => absurd rfl c9)
  refine ax_iconst (pc := 26) (v := nI 0) G dX10_total_26 ic_0 ?_
  exact ax_iretE (pc := 27) G E rfl (rfl) dX10_total_27 (rfl) (rfl)

theorem mq_alert_Y {Ω : ax_O} (hA : ax_Amb Ω) {h : ax_H} {m : Nat} {μ : md_S} (hm : Ω.2.1.heap.size ≤ m) (h19 : μ.1 19 = nI 1) {P V O A : Nat} (hp : pWP (μ.2 2) P V O) (hs : pWS (μ.2 4) A) (k : Nat) (hk : k < A) (w : Nat) (hw : w ≤ 6)  : ax_Met Ω yX10_alert 9 0 0 [.ref m, .int (nI k), .int (nI w)] (md_H h m μ) (.inl (some (.int ((μ.2 4) (127 + 10 * k + w))))) (md_H h m (md_si μ 0 (nI 0))) := by
  refine ax_met q2844 q142 (by decide +kernel) (by decide) hA (Nat.le_of_ble_eq_true rfl) (fun Γ G E => ?_)
  have hl_k := hs.lA
  show ax_W Ω Γ 0 0 (md_H h m μ) 0 [some (.ref m), some (.int (nI k)), some (.int (nI w))] []
  refine ax_aload_n (pc := 0) G dX10_alert_0 rfl rfl ?_
  refine ax_aload_n (pc := 1) G dX10_alert_1 rfl rfl ?_
  refine ax_iload_n (pc := 2) G dX10_alert_2 rfl rfl ?_
  refine ax_cV1 (pc := 3) (kb := 0) (nb := 0) G (mt_isAlert hA (μ := μ) (nI k)) lVX10_375_8 dX10_alert_3 md_obj rfl (by decide) (Nat.le_of_ble_eq_true rfl) rfl ?_
  refine ax_top (show Value.int (bI (pIn (nI k) (nI 0) ((μ.2 4) 14 - nI 1))) = .int (nI 1) from congrArg Value.int (by rw [pIn_k hs.hA hk (by have := hs.lA; omega)]; rfl)) ?_
  refine ax_iload_n (pc := 6) G dX10_alert_6 rfl rfl ?_
  refine ax_iconst (pc := 7) (v := nI 0) G dX10_alert_7 ic_0 ?_
  refine ax_bipush (pc := 8) (v := nI 6) G dX10_alert_8 ib_6 ?_
  refine ax_cS1 (pc := 10) (kb := 0) (nb := 0) G (mt_in hA (nI w) (nI 0) (nI 6)) lSX10_74 dX10_alert_10 rfl (by decide) (Nat.le_of_ble_eq_true rfl) rfl ?_
  refine ax_top (show Value.int (bI (pIn (nI w) (nI 0) (nI 6))) = .int (nI 1) from congrArg Value.int (by rw [pIn_c (Nat.zero_le _) hw (by decide)]; rfl)) ?_
  refine ax_cV1 (pc := 13) (kb := 0) (nb := 0) G (mt_mayAskForY hA (μ := μ) hm h19) lVX10_361_8 dX10_alert_13 md_obj rfl (by decide) (Nat.le_of_ble_eq_true rfl) rfl ?_
  show ax_W Ω Γ _ _ (md_H h m (md_si μ 0 (nI 0))) _ _ _
  refine ax_if_eq (pc := 16) (tgt := 28) G dX10_alert_16 rfl (fun c9 => absurd c9 (by decide)) (fun _ => ?_)
  refine ax_aload_n (pc := 19) G dX10_alert_19 rfl rfl ?_
  refine ax_iload_n (pc := 20) G dX10_alert_20 rfl rfl ?_
  refine ax_iload_n (pc := 21) G dX10_alert_21 rfl rfl ?_
  refine ax_cV1 (pc := 22) (kb := 0) (nb := 0) G (mt_ofAlert hA (μ := (md_si μ 0 (nI 0))) k w (by omega) (by omega)) lVX10_378_8 dX10_alert_22 md_obj rfl (by decide) (Nat.le_of_ble_eq_true rfl) rfl ?_
  refine ax_goto (pc := 25) (tgt := 29) G dX10_alert_25 rfl ?_
  exact ax_iretE (pc := 29) G E rfl (rfl) dX10_alert_29 (rfl) (rfl)

theorem mq_alert_N {Ω : ax_O} (hA : ax_Amb Ω) {h : ax_H} {m : Nat} {μ : md_S} (hm : Ω.2.1.heap.size ≤ m) (h19 : μ.1 19 = nI 0) (k : Int32) (w : Int32)  : ax_Met Ω yX10_alert 9 0 0 [.ref m, .int k, .int w] (md_H h m μ) (.inl (some (.int (nI 0)))) (md_H h m (md_si μ 0 (nI 1))) := by
  refine ax_met q2844 q142 (by decide +kernel) (by decide) hA (Nat.le_of_ble_eq_true rfl) (fun Γ G E => ?_)
  show ax_W Ω Γ 0 0 (md_H h m μ) 0 [some (.ref m), some (.int k), some (.int w)] []
  refine ax_aload_n (pc := 0) G dX10_alert_0 rfl rfl ?_
  refine ax_aload_n (pc := 1) G dX10_alert_1 rfl rfl ?_
  refine ax_iload_n (pc := 2) G dX10_alert_2 rfl rfl ?_
  refine ax_cV1 (pc := 3) (kb := 0) (nb := 0) G (mt_isAlert hA (μ := μ) k) lVX10_375_8 dX10_alert_3 md_obj rfl (by decide) (Nat.le_of_ble_eq_true rfl) rfl ?_
  refine ax_iload_n (pc := 6) G dX10_alert_6 rfl rfl ?_
  refine ax_iconst (pc := 7) (v := nI 0) G dX10_alert_7 ic_0 ?_
  refine ax_bipush (pc := 8) (v := nI 6) G dX10_alert_8 ib_6 ?_
  refine ax_cS1 (pc := 10) (kb := 0) (nb := 0) G (mt_in hA w (nI 0) (nI 6)) lSX10_74 dX10_alert_10 rfl (by decide) (Nat.le_of_ble_eq_true rfl) rfl ?_
  refine ax_cV1 (pc := 13) (kb := 0) (nb := 0) G (mt_mayAskForN hA (μ := μ) hm h19 (pIn k (nI 0) ((μ.2 4) 14 - nI 1)) (pIn w (nI 0) (nI 6))) lVX10_361_8 dX10_alert_13 md_obj rfl (by decide) (Nat.le_of_ble_eq_true rfl) rfl ?_
  show ax_W Ω Γ _ _ (md_H h m (md_si μ 0 (nI 1))) _ _ _
  refine ax_if_eq (pc := 16) (tgt := 28) G dX10_alert_16 rfl (fun _ => ?_) (fun c9 => absurd rfl c9)
  refine ax_iconst (pc := 28) (v := nI 0) G dX10_alert_28 ic_0 ?_
  exact ax_iretE (pc := 29) G E rfl (rfl) dX10_alert_29 (rfl) (rfl)

theorem mq_alert_B {Ω : ax_O} (hA : ax_Amb Ω) {h : ax_H} {m : Nat} {μ : md_S} (hm : Ω.2.1.heap.size ≤ m) (h19 : μ.1 19 = nI 1) (k : Int32) (hb : pIn k (nI 0) ((μ.2 4) 14 - nI 1) = false) (w : Int32)  : ax_Met Ω yX10_alert 9 0 0 [.ref m, .int k, .int w] (md_H h m μ) (.inl (some (.int (nI 0)))) (md_H h m (md_si μ 0 (nI 2))) := by
  refine ax_met q2844 q142 (by decide +kernel) (by decide) hA (Nat.le_of_ble_eq_true rfl) (fun Γ G E => ?_)
  show ax_W Ω Γ 0 0 (md_H h m μ) 0 [some (.ref m), some (.int k), some (.int w)] []
  refine ax_aload_n (pc := 0) G dX10_alert_0 rfl rfl ?_
  refine ax_aload_n (pc := 1) G dX10_alert_1 rfl rfl ?_
  refine ax_iload_n (pc := 2) G dX10_alert_2 rfl rfl ?_
  refine ax_cV1 (pc := 3) (kb := 0) (nb := 0) G (mt_isAlert hA (μ := μ) k) lVX10_375_8 dX10_alert_3 md_obj rfl (by decide) (Nat.le_of_ble_eq_true rfl) rfl ?_
  refine ax_top (show Value.int (bI (pIn k (nI 0) ((μ.2 4) 14 - nI 1))) = .int (nI 0) from congrArg Value.int (by rw [hb]; rfl)) ?_
  refine ax_iload_n (pc := 6) G dX10_alert_6 rfl rfl ?_
  refine ax_iconst (pc := 7) (v := nI 0) G dX10_alert_7 ic_0 ?_
  refine ax_bipush (pc := 8) (v := nI 6) G dX10_alert_8 ib_6 ?_
  refine ax_cS1 (pc := 10) (kb := 0) (nb := 0) G (mt_in hA w (nI 0) (nI 6)) lSX10_74 dX10_alert_10 rfl (by decide) (Nat.le_of_ble_eq_true rfl) rfl ?_
  refine ax_cV1 (pc := 13) (kb := 0) (nb := 0) G (mt_mayAskForB hA (μ := μ) hm h19 (pIn w (nI 0) (nI 6))) lVX10_361_8 dX10_alert_13 md_obj rfl (by decide) (Nat.le_of_ble_eq_true rfl) rfl ?_
  show ax_W Ω Γ _ _ (md_H h m (md_si μ 0 (nI 2))) _ _ _
  refine ax_if_eq (pc := 16) (tgt := 28) G dX10_alert_16 rfl (fun _ => ?_) (fun c9 => absurd rfl c9)
  refine ax_iconst (pc := 28) (v := nI 0) G dX10_alert_28 ic_0 ?_
  exact ax_iretE (pc := 29) G E rfl (rfl) dX10_alert_29 (rfl) (rfl)

theorem mq_alert_B2 {Ω : ax_O} (hA : ax_Amb Ω) {h : ax_H} {m : Nat} {μ : md_S} (hm : Ω.2.1.heap.size ≤ m) (h19 : μ.1 19 = nI 1) {P V O A : Nat} (hp : pWP (μ.2 2) P V O) (hs : pWS (μ.2 4) A) (k : Nat) (hk : k < A) (w : Int32) (hb : pIn w (nI 0) (nI 6) = false)  : ax_Met Ω yX10_alert 9 0 0 [.ref m, .int (nI k), .int w] (md_H h m μ) (.inl (some (.int (nI 0)))) (md_H h m (md_si μ 0 (nI 3))) := by
  refine ax_met q2844 q142 (by decide +kernel) (by decide) hA (Nat.le_of_ble_eq_true rfl) (fun Γ G E => ?_)
  have hl_k := hs.lA
  show ax_W Ω Γ 0 0 (md_H h m μ) 0 [some (.ref m), some (.int (nI k)), some (.int w)] []
  refine ax_aload_n (pc := 0) G dX10_alert_0 rfl rfl ?_
  refine ax_aload_n (pc := 1) G dX10_alert_1 rfl rfl ?_
  refine ax_iload_n (pc := 2) G dX10_alert_2 rfl rfl ?_
  refine ax_cV1 (pc := 3) (kb := 0) (nb := 0) G (mt_isAlert hA (μ := μ) (nI k)) lVX10_375_8 dX10_alert_3 md_obj rfl (by decide) (Nat.le_of_ble_eq_true rfl) rfl ?_
  refine ax_top (show Value.int (bI (pIn (nI k) (nI 0) ((μ.2 4) 14 - nI 1))) = .int (nI 1) from congrArg Value.int (by rw [pIn_k hs.hA hk (by have := hs.lA; omega)]; rfl)) ?_
  refine ax_iload_n (pc := 6) G dX10_alert_6 rfl rfl ?_
  refine ax_iconst (pc := 7) (v := nI 0) G dX10_alert_7 ic_0 ?_
  refine ax_bipush (pc := 8) (v := nI 6) G dX10_alert_8 ib_6 ?_
  refine ax_cS1 (pc := 10) (kb := 0) (nb := 0) G (mt_in hA w (nI 0) (nI 6)) lSX10_74 dX10_alert_10 rfl (by decide) (Nat.le_of_ble_eq_true rfl) rfl ?_
  refine ax_top (show Value.int (bI (pIn w (nI 0) (nI 6))) = .int (nI 0) from congrArg Value.int (by rw [hb]; rfl)) ?_
  refine ax_cV1 (pc := 13) (kb := 0) (nb := 0) G (mt_mayAskForC hA (μ := μ) hm h19) lVX10_361_8 dX10_alert_13 md_obj rfl (by decide) (Nat.le_of_ble_eq_true rfl) rfl ?_
  show ax_W Ω Γ _ _ (md_H h m (md_si μ 0 (nI 3))) _ _ _
  refine ax_if_eq (pc := 16) (tgt := 28) G dX10_alert_16 rfl (fun _ => ?_) (fun c9 => absurd rfl c9)
  refine ax_iconst (pc := 28) (v := nI 0) G dX10_alert_28 ic_0 ?_
  exact ax_iretE (pc := 29) G E rfl (rfl) dX10_alert_29 (rfl) (rfl)

theorem mq_entry_Y {Ω : ax_O} (hA : ax_Amb Ω) {h : ax_H} {m : Nat} {μ : md_S} (hm : Ω.2.1.heap.size ≤ m) (h19 : μ.1 19 = nI 1) {P V O A : Nat} (hp : pWP (μ.2 2) P V O) (hs : pWS (μ.2 4) A) {N : Nat} (hN : (μ.2 4) 16 = nI N) (hl : N ≤ 100) (k : Nat) (hk : k < N) (w : Nat) (hw : w ≤ 3)  : ax_Met Ω yX10_entry 9 0 0 [.ref m, .int (nI k), .int (nI w)] (md_H h m μ) (.inl (some (.int ((μ.2 4) (227 + 4 * k + w))))) (md_H h m (md_si μ 0 (nI 0))) := by
  refine ax_met q3115 q142 (by decide +kernel) (by decide) hA (Nat.le_of_ble_eq_true rfl) (fun Γ G E => ?_)
  have hl_k := hl
  show ax_W Ω Γ 0 0 (md_H h m μ) 0 [some (.ref m), some (.int (nI k)), some (.int (nI w))] []
  refine ax_aload_n (pc := 0) G dX10_entry_0 rfl rfl ?_
  refine ax_aload_n (pc := 1) G dX10_entry_1 rfl rfl ?_
  refine ax_iload_n (pc := 2) G dX10_entry_2 rfl rfl ?_
  refine ax_cV1 (pc := 3) (kb := 0) (nb := 0) G (mt_isEntry hA (μ := μ) (nI k)) lVX10_391_8 dX10_entry_3 md_obj rfl (by decide) (Nat.le_of_ble_eq_true rfl) rfl ?_
  refine ax_top (show Value.int (bI (pIn (nI k) (nI 0) ((μ.2 4) 16 - nI 1))) = .int (nI 1) from congrArg Value.int (by rw [pIn_k hN hk (by have := hl; omega)]; rfl)) ?_
  refine ax_iload_n (pc := 6) G dX10_entry_6 rfl rfl ?_
  refine ax_iconst (pc := 7) (v := nI 0) G dX10_entry_7 ic_0 ?_
  refine ax_iconst (pc := 8) (v := nI 3) G dX10_entry_8 ic_3 ?_
  refine ax_cS1 (pc := 9) (kb := 0) (nb := 0) G (mt_in hA (nI w) (nI 0) (nI 3)) lSX10_74 dX10_entry_9 rfl (by decide) (Nat.le_of_ble_eq_true rfl) rfl ?_
  refine ax_top (show Value.int (bI (pIn (nI w) (nI 0) (nI 3))) = .int (nI 1) from congrArg Value.int (by rw [pIn_c (Nat.zero_le _) hw (by decide)]; rfl)) ?_
  refine ax_cV1 (pc := 12) (kb := 0) (nb := 0) G (mt_mayAskForY hA (μ := μ) hm h19) lVX10_361_8 dX10_entry_12 md_obj rfl (by decide) (Nat.le_of_ble_eq_true rfl) rfl ?_
  show ax_W Ω Γ _ _ (md_H h m (md_si μ 0 (nI 0))) _ _ _
  refine ax_if_eq (pc := 15) (tgt := 35) G dX10_entry_15 rfl (fun c9 => absurd c9 (by decide)) (fun _ => ?_)
  refine ax_aload_n (pc := 18) G dX10_entry_18 rfl rfl ?_
  refine md_get (pc := 19) (v := .ref (m + 4)) G flX10_23_8 dX10_entry_19 rfl ?_
  refine ax_sipush (pc := 22) (v := nI 227) G dX10_entry_22 is_227 ?_
  refine ax_iconst (pc := 25) (v := nI 4) G dX10_entry_25 ic_4 ?_
  refine ax_iload_n (pc := 26) G dX10_entry_26 rfl rfl ?_
  refine ax_imulN (pc := 27) G dX10_entry_27 ?_
  refine ax_iaddN (pc := 28) G dX10_entry_28 ?_
  refine ax_iload_n (pc := 29) G dX10_entry_29 rfl rfl ?_
  refine ax_iaddN (pc := 30) G dX10_entry_30 ?_
  refine md_ld (pc := 31) (i := 227 + (4 * k) + w) (j := 4) G 627 dX10_entry_31 (by decide) (by decide) rfl rfl rfl (by omega) (by decide) ?_
  refine ax_goto (pc := 32) (tgt := 36) G dX10_entry_32 rfl ?_
  exact ax_iretE (pc := 36) G E rfl (rfl) dX10_entry_36 (rfl) (rfl)

theorem mq_entry_N {Ω : ax_O} (hA : ax_Amb Ω) {h : ax_H} {m : Nat} {μ : md_S} (hm : Ω.2.1.heap.size ≤ m) (h19 : μ.1 19 = nI 0) (k : Int32) (w : Int32)  : ax_Met Ω yX10_entry 9 0 0 [.ref m, .int k, .int w] (md_H h m μ) (.inl (some (.int (nI 0)))) (md_H h m (md_si μ 0 (nI 1))) := by
  refine ax_met q3115 q142 (by decide +kernel) (by decide) hA (Nat.le_of_ble_eq_true rfl) (fun Γ G E => ?_)
  show ax_W Ω Γ 0 0 (md_H h m μ) 0 [some (.ref m), some (.int k), some (.int w)] []
  refine ax_aload_n (pc := 0) G dX10_entry_0 rfl rfl ?_
  refine ax_aload_n (pc := 1) G dX10_entry_1 rfl rfl ?_
  refine ax_iload_n (pc := 2) G dX10_entry_2 rfl rfl ?_
  refine ax_cV1 (pc := 3) (kb := 0) (nb := 0) G (mt_isEntry hA (μ := μ) k) lVX10_391_8 dX10_entry_3 md_obj rfl (by decide) (Nat.le_of_ble_eq_true rfl) rfl ?_
  refine ax_iload_n (pc := 6) G dX10_entry_6 rfl rfl ?_
  refine ax_iconst (pc := 7) (v := nI 0) G dX10_entry_7 ic_0 ?_
  refine ax_iconst (pc := 8) (v := nI 3) G dX10_entry_8 ic_3 ?_
  refine ax_cS1 (pc := 9) (kb := 0) (nb := 0) G (mt_in hA w (nI 0) (nI 3)) lSX10_74 dX10_entry_9 rfl (by decide) (Nat.le_of_ble_eq_true rfl) rfl ?_
  refine ax_cV1 (pc := 12) (kb := 0) (nb := 0) G (mt_mayAskForN hA (μ := μ) hm h19 (pIn k (nI 0) ((μ.2 4) 16 - nI 1)) (pIn w (nI 0) (nI 3))) lVX10_361_8 dX10_entry_12 md_obj rfl (by decide) (Nat.le_of_ble_eq_true rfl) rfl ?_
  show ax_W Ω Γ _ _ (md_H h m (md_si μ 0 (nI 1))) _ _ _
  refine ax_if_eq (pc := 15) (tgt := 35) G dX10_entry_15 rfl (fun _ => ?_) (fun c9 => absurd rfl c9)
  refine ax_iconst (pc := 35) (v := nI 0) G dX10_entry_35 ic_0 ?_
  exact ax_iretE (pc := 36) G E rfl (rfl) dX10_entry_36 (rfl) (rfl)

theorem mq_entry_B {Ω : ax_O} (hA : ax_Amb Ω) {h : ax_H} {m : Nat} {μ : md_S} (hm : Ω.2.1.heap.size ≤ m) (h19 : μ.1 19 = nI 1) (k : Int32) (hb : pIn k (nI 0) ((μ.2 4) 16 - nI 1) = false) (w : Int32)  : ax_Met Ω yX10_entry 9 0 0 [.ref m, .int k, .int w] (md_H h m μ) (.inl (some (.int (nI 0)))) (md_H h m (md_si μ 0 (nI 2))) := by
  refine ax_met q3115 q142 (by decide +kernel) (by decide) hA (Nat.le_of_ble_eq_true rfl) (fun Γ G E => ?_)
  show ax_W Ω Γ 0 0 (md_H h m μ) 0 [some (.ref m), some (.int k), some (.int w)] []
  refine ax_aload_n (pc := 0) G dX10_entry_0 rfl rfl ?_
  refine ax_aload_n (pc := 1) G dX10_entry_1 rfl rfl ?_
  refine ax_iload_n (pc := 2) G dX10_entry_2 rfl rfl ?_
  refine ax_cV1 (pc := 3) (kb := 0) (nb := 0) G (mt_isEntry hA (μ := μ) k) lVX10_391_8 dX10_entry_3 md_obj rfl (by decide) (Nat.le_of_ble_eq_true rfl) rfl ?_
  refine ax_top (show Value.int (bI (pIn k (nI 0) ((μ.2 4) 16 - nI 1))) = .int (nI 0) from congrArg Value.int (by rw [hb]; rfl)) ?_
  refine ax_iload_n (pc := 6) G dX10_entry_6 rfl rfl ?_
  refine ax_iconst (pc := 7) (v := nI 0) G dX10_entry_7 ic_0 ?_
  refine ax_iconst (pc := 8) (v := nI 3) G dX10_entry_8 ic_3 ?_
  refine ax_cS1 (pc := 9) (kb := 0) (nb := 0) G (mt_in hA w (nI 0) (nI 3)) lSX10_74 dX10_entry_9 rfl (by decide) (Nat.le_of_ble_eq_true rfl) rfl ?_
  refine ax_cV1 (pc := 12) (kb := 0) (nb := 0) G (mt_mayAskForB hA (μ := μ) hm h19 (pIn w (nI 0) (nI 3))) lVX10_361_8 dX10_entry_12 md_obj rfl (by decide) (Nat.le_of_ble_eq_true rfl) rfl ?_
  show ax_W Ω Γ _ _ (md_H h m (md_si μ 0 (nI 2))) _ _ _
  refine ax_if_eq (pc := 15) (tgt := 35) G dX10_entry_15 rfl (fun _ => ?_) (fun c9 => absurd rfl c9)
  refine ax_iconst (pc := 35) (v := nI 0) G dX10_entry_35 ic_0 ?_
  exact ax_iretE (pc := 36) G E rfl (rfl) dX10_entry_36 (rfl) (rfl)

theorem mq_entry_B2 {Ω : ax_O} (hA : ax_Amb Ω) {h : ax_H} {m : Nat} {μ : md_S} (hm : Ω.2.1.heap.size ≤ m) (h19 : μ.1 19 = nI 1) {P V O A : Nat} (hp : pWP (μ.2 2) P V O) (hs : pWS (μ.2 4) A) {N : Nat} (hN : (μ.2 4) 16 = nI N) (hl : N ≤ 100) (k : Nat) (hk : k < N) (w : Int32) (hb : pIn w (nI 0) (nI 3) = false)  : ax_Met Ω yX10_entry 9 0 0 [.ref m, .int (nI k), .int w] (md_H h m μ) (.inl (some (.int (nI 0)))) (md_H h m (md_si μ 0 (nI 3))) := by
  refine ax_met q3115 q142 (by decide +kernel) (by decide) hA (Nat.le_of_ble_eq_true rfl) (fun Γ G E => ?_)
  have hl_k := hl
  show ax_W Ω Γ 0 0 (md_H h m μ) 0 [some (.ref m), some (.int (nI k)), some (.int w)] []
  refine ax_aload_n (pc := 0) G dX10_entry_0 rfl rfl ?_
  refine ax_aload_n (pc := 1) G dX10_entry_1 rfl rfl ?_
  refine ax_iload_n (pc := 2) G dX10_entry_2 rfl rfl ?_
  refine ax_cV1 (pc := 3) (kb := 0) (nb := 0) G (mt_isEntry hA (μ := μ) (nI k)) lVX10_391_8 dX10_entry_3 md_obj rfl (by decide) (Nat.le_of_ble_eq_true rfl) rfl ?_
  refine ax_top (show Value.int (bI (pIn (nI k) (nI 0) ((μ.2 4) 16 - nI 1))) = .int (nI 1) from congrArg Value.int (by rw [pIn_k hN hk (by have := hl; omega)]; rfl)) ?_
  refine ax_iload_n (pc := 6) G dX10_entry_6 rfl rfl ?_
  refine ax_iconst (pc := 7) (v := nI 0) G dX10_entry_7 ic_0 ?_
  refine ax_iconst (pc := 8) (v := nI 3) G dX10_entry_8 ic_3 ?_
  refine ax_cS1 (pc := 9) (kb := 0) (nb := 0) G (mt_in hA w (nI 0) (nI 3)) lSX10_74 dX10_entry_9 rfl (by decide) (Nat.le_of_ble_eq_true rfl) rfl ?_
  refine ax_top (show Value.int (bI (pIn w (nI 0) (nI 3))) = .int (nI 0) from congrArg Value.int (by rw [hb]; rfl)) ?_
  refine ax_cV1 (pc := 12) (kb := 0) (nb := 0) G (mt_mayAskForC hA (μ := μ) hm h19) lVX10_361_8 dX10_entry_12 md_obj rfl (by decide) (Nat.le_of_ble_eq_true rfl) rfl ?_
  show ax_W Ω Γ _ _ (md_H h m (md_si μ 0 (nI 3))) _ _ _
  refine ax_if_eq (pc := 15) (tgt := 35) G dX10_entry_15 rfl (fun _ => ?_) (fun c9 => absurd rfl c9)
  refine ax_iconst (pc := 35) (v := nI 0) G dX10_entry_35 ic_0 ?_
  exact ax_iretE (pc := 36) G E rfl (rfl) dX10_entry_36 (rfl) (rfl)

theorem mq_growth_Y {Ω : ax_O} (hA : ax_Amb Ω) {h : ax_H} {m : Nat} {μ : md_S} (hm : Ω.2.1.heap.size ≤ m) (h19 : μ.1 19 = nI 1) {P V O A : Nat} (hp : pWP (μ.2 2) P V O) (hs : pWS (μ.2 4) A) (k : Nat) (hk : k < V)  : ax_Met Ω yX10_growth 9 0 0 [.ref m, .int (nI k)] (md_H h m μ) (.inl (some (.int (pGrows (μ.2 2) (μ.2 4) k (pDur (μ.2 2) (μ.2 4) k))))) (md_H h m (md_si μ 0 (nI 0))) := by
  refine ax_met q2936 q142 (by decide +kernel) (by decide) hA (Nat.le_of_ble_eq_true rfl) (fun Γ G E => ?_)
  have hl_k := hp.lV
  show ax_W Ω Γ 0 0 (md_H h m μ) 0 [some (.ref m), some (.int (nI k))] []
  refine ax_aload_n (pc := 0) G dX10_growth_0 rfl rfl ?_
  refine ax_aload_n (pc := 1) G dX10_growth_1 rfl rfl ?_
  refine ax_iload_n (pc := 2) G dX10_growth_2 rfl rfl ?_
  refine ax_cV1 (pc := 3) (kb := 0) (nb := 0) G (mt_isVisit hA (μ := μ) (nI k)) lVX10_372_8 dX10_growth_3 md_obj rfl (by decide) (Nat.le_of_ble_eq_true rfl) rfl ?_
  refine ax_top (show Value.int (bI (pIn (nI k) (nI 0) ((μ.2 2) 65 - nI 1))) = .int (nI 1) from congrArg Value.int (by rw [pIn_k hp.hV hk (by have := hp.lV; omega)]; rfl)) ?_
  refine ax_cV1 (pc := 6) (kb := 0) (nb := 0) G (mt_mayAskY hA (μ := μ) hm h19) lVX10_368_8 dX10_growth_6 md_obj rfl (by decide) (Nat.le_of_ble_eq_true rfl) rfl ?_
  show ax_W Ω Γ _ _ (md_H h m (md_si μ 0 (nI 0))) _ _ _
  refine ax_if_eq (pc := 9) (tgt := 33) G dX10_growth_9 rfl (fun c9 => absurd c9 (by decide)) (fun _ => ?_)
  refine ax_aload_n (pc := 12) G dX10_growth_12 rfl rfl ?_
  refine ax_aload_n (pc := 13) G dX10_growth_13 rfl rfl ?_
  refine md_get (pc := 14) (v := .ref (m + 4)) G flX10_23_8 dX10_growth_14 rfl ?_
  refine ax_iload_n (pc := 17) G dX10_growth_17 rfl rfl ?_
  refine ax_aload_n (pc := 18) G dX10_growth_18 rfl rfl ?_
  refine ax_aload_n (pc := 19) G dX10_growth_19 rfl rfl ?_
  refine md_get (pc := 20) (v := .ref (m + 4)) G flX10_23_8 dX10_growth_20 rfl ?_
  refine ax_iload_n (pc := 23) G dX10_growth_23 rfl rfl ?_
  refine ax_cV1 (pc := 24) (kb := 0) (nb := 0) G (md_ro (mt_itsDuration hA (μ := (md_si μ 0 (nI 0))) (s := μ.2 4) (j := 4) (Or.inl rfl) k (by omega))) lVX10_231_8 dX10_growth_24 md_obj rfl (by decide) (Nat.le_of_ble_eq_true rfl) rfl ?_
  refine ax_cV1 (pc := 27) (kb := 0) (nb := 0) G (md_ro (mt_grows hA (μ := (md_si μ 0 (nI 0))) (s := μ.2 4) (j := 4) (Or.inl rfl) k (by omega) (pDur (μ.2 2) (μ.2 4) k))) lVX10_234_8 dX10_growth_27 md_obj rfl (by decide) (Nat.le_of_ble_eq_true rfl) rfl ?_
  refine ax_goto (pc := 30) (tgt := 34) G dX10_growth_30 rfl ?_
  exact ax_iretE (pc := 34) G E rfl (rfl) dX10_growth_34 (rfl) (rfl)

theorem mq_growth_N {Ω : ax_O} (hA : ax_Amb Ω) {h : ax_H} {m : Nat} {μ : md_S} (hm : Ω.2.1.heap.size ≤ m) (h19 : μ.1 19 = nI 0) (k : Int32)  : ax_Met Ω yX10_growth 9 0 0 [.ref m, .int k] (md_H h m μ) (.inl (some (.int (nI 0)))) (md_H h m (md_si μ 0 (nI 1))) := by
  refine ax_met q2936 q142 (by decide +kernel) (by decide) hA (Nat.le_of_ble_eq_true rfl) (fun Γ G E => ?_)
  show ax_W Ω Γ 0 0 (md_H h m μ) 0 [some (.ref m), some (.int k)] []
  refine ax_aload_n (pc := 0) G dX10_growth_0 rfl rfl ?_
  refine ax_aload_n (pc := 1) G dX10_growth_1 rfl rfl ?_
  refine ax_iload_n (pc := 2) G dX10_growth_2 rfl rfl ?_
  refine ax_cV1 (pc := 3) (kb := 0) (nb := 0) G (mt_isVisit hA (μ := μ) k) lVX10_372_8 dX10_growth_3 md_obj rfl (by decide) (Nat.le_of_ble_eq_true rfl) rfl ?_
  refine ax_cV1 (pc := 6) (kb := 0) (nb := 0) G (mt_mayAskN hA (μ := μ) hm h19 (pIn k (nI 0) ((μ.2 2) 65 - nI 1))) lVX10_368_8 dX10_growth_6 md_obj rfl (by decide) (Nat.le_of_ble_eq_true rfl) rfl ?_
  show ax_W Ω Γ _ _ (md_H h m (md_si μ 0 (nI 1))) _ _ _
  refine ax_if_eq (pc := 9) (tgt := 33) G dX10_growth_9 rfl (fun _ => ?_) (fun c9 => absurd rfl c9)
  refine ax_iconst (pc := 33) (v := nI 0) G dX10_growth_33 ic_0 ?_
  exact ax_iretE (pc := 34) G E rfl (rfl) dX10_growth_34 (rfl) (rfl)

theorem mq_growth_B {Ω : ax_O} (hA : ax_Amb Ω) {h : ax_H} {m : Nat} {μ : md_S} (hm : Ω.2.1.heap.size ≤ m) (h19 : μ.1 19 = nI 1) (k : Int32) (hb : pIn k (nI 0) ((μ.2 2) 65 - nI 1) = false)  : ax_Met Ω yX10_growth 9 0 0 [.ref m, .int k] (md_H h m μ) (.inl (some (.int (nI 0)))) (md_H h m (md_si μ 0 (nI 2))) := by
  refine ax_met q2936 q142 (by decide +kernel) (by decide) hA (Nat.le_of_ble_eq_true rfl) (fun Γ G E => ?_)
  show ax_W Ω Γ 0 0 (md_H h m μ) 0 [some (.ref m), some (.int k)] []
  refine ax_aload_n (pc := 0) G dX10_growth_0 rfl rfl ?_
  refine ax_aload_n (pc := 1) G dX10_growth_1 rfl rfl ?_
  refine ax_iload_n (pc := 2) G dX10_growth_2 rfl rfl ?_
  refine ax_cV1 (pc := 3) (kb := 0) (nb := 0) G (mt_isVisit hA (μ := μ) k) lVX10_372_8 dX10_growth_3 md_obj rfl (by decide) (Nat.le_of_ble_eq_true rfl) rfl ?_
  refine ax_top (show Value.int (bI (pIn k (nI 0) ((μ.2 2) 65 - nI 1))) = .int (nI 0) from congrArg Value.int (by rw [hb]; rfl)) ?_
  refine ax_cV1 (pc := 6) (kb := 0) (nb := 0) G (mt_mayAskB hA (μ := μ) hm h19) lVX10_368_8 dX10_growth_6 md_obj rfl (by decide) (Nat.le_of_ble_eq_true rfl) rfl ?_
  show ax_W Ω Γ _ _ (md_H h m (md_si μ 0 (nI 2))) _ _ _
  refine ax_if_eq (pc := 9) (tgt := 33) G dX10_growth_9 rfl (fun _ => ?_) (fun c9 => absurd rfl c9)
  refine ax_iconst (pc := 33) (v := nI 0) G dX10_growth_33 ic_0 ?_
  exact ax_iretE (pc := 34) G E rfl (rfl) dX10_growth_34 (rfl) (rfl)

theorem mq_needsDump_Y {Ω : ax_O} (hA : ax_Amb Ω) {h : ax_H} {m : Nat} {μ : md_S} (hm : Ω.2.1.heap.size ≤ m) (h19 : μ.1 19 = nI 1) {P V O A : Nat} (hp : pWP (μ.2 2) P V O) (hs : pWS (μ.2 4) A) (k : Nat) (hk : k < V)  : ax_Met Ω yX10_needsDump 9 0 0 [.ref m, .int (nI k)] (md_H h m μ) (.inl (some (.int (bI (pDumpsFor (μ.2 2) (μ.2 4) k))))) (md_H h m (md_si μ 0 (nI 0))) := by
  refine ax_met q2948 q142 (by decide +kernel) (by decide) hA (Nat.le_of_ble_eq_true rfl) (fun Γ G E => ?_)
  have hl_k := hp.lV
  show ax_W Ω Γ 0 0 (md_H h m μ) 0 [some (.ref m), some (.int (nI k))] []
  refine ax_aload_n (pc := 0) G dX10_needsDump_0 rfl rfl ?_
  refine ax_aload_n (pc := 1) G dX10_needsDump_1 rfl rfl ?_
  refine ax_iload_n (pc := 2) G dX10_needsDump_2 rfl rfl ?_
  refine ax_cV1 (pc := 3) (kb := 0) (nb := 0) G (mt_isVisit hA (μ := μ) (nI k)) lVX10_372_8 dX10_needsDump_3 md_obj rfl (by decide) (Nat.le_of_ble_eq_true rfl) rfl ?_
  refine ax_top (show Value.int (bI (pIn (nI k) (nI 0) ((μ.2 2) 65 - nI 1))) = .int (nI 1) from congrArg Value.int (by rw [pIn_k hp.hV hk (by have := hp.lV; omega)]; rfl)) ?_
  refine ax_cV1 (pc := 6) (kb := 0) (nb := 0) G (mt_mayAskY hA (μ := μ) hm h19) lVX10_368_8 dX10_needsDump_6 md_obj rfl (by decide) (Nat.le_of_ble_eq_true rfl) rfl ?_
  show ax_W Ω Γ _ _ (md_H h m (md_si μ 0 (nI 0))) _ _ _
  refine ax_if_eq (pc := 9) (tgt := 28) G dX10_needsDump_9 rfl (fun c9 => absurd c9 (by decide)) (fun _ => ?_)
  refine ax_aload_n (pc := 12) G dX10_needsDump_12 rfl rfl ?_
  refine ax_aload_n (pc := 13) G dX10_needsDump_13 rfl rfl ?_
  refine md_get (pc := 14) (v := .ref (m + 4)) G flX10_23_8 dX10_needsDump_14 rfl ?_
  refine ax_iload_n (pc := 17) G dX10_needsDump_17 rfl rfl ?_
  refine ax_cV1 (pc := 18) (kb := 0) (nb := 0) G (md_ro (mt_dumpsFor hA (μ := (md_si μ 0 (nI 0))) (s := μ.2 4) (j := 4) (Or.inl rfl) k (by omega))) lVX10_237_8 dX10_needsDump_18 md_obj rfl (by decide) (Nat.le_of_ble_eq_true rfl) rfl ?_
  refine ax_if_eq (pc := 21) (tgt := 28) G dX10_needsDump_21 rfl (fun c21 => ?_) (fun c21 => ?_)
  · replace c21 : (bI (pDumpsFor (μ.2 2) (μ.2 4) k)) = 0 := c21
    have c21b := bI_f c21
    refine ax_iconst (pc := 28) (v := nI 0) G dX10_needsDump_28 ic_0 ?_
    exact ax_iretE (pc := 29) G E rfl (rfl) dX10_needsDump_29 (by first | (simp only [bI, c21b, if_true, if_false, Bool.false_eq_true, not_false_eq_true, not_true_eq_false, decide_true, decide_false, Bool.and_true, Bool.true_and, Bool.and_false, Bool.false_and, Bool.or_true, Bool.true_or, Bool.or_false, Bool.false_or, and_self, and_true, true_and, and_false, false_and, or_true, true_or, or_false, false_or, ne_eq]; done) | (simp only [bI, c21b, if_true, if_false, Bool.false_eq_true, not_false_eq_true, not_true_eq_false, decide_true, decide_false, Bool.and_true, Bool.true_and, Bool.and_false, Bool.false_and, Bool.or_true, Bool.true_or, Bool.or_false, Bool.false_or, and_self, and_true, true_and, and_false, false_and, or_true, true_or, or_false, false_or, ne_eq]; rfl)) (by first | (simp only [bI, c21b, if_true, if_false, Bool.false_eq_true, not_false_eq_true, not_true_eq_false, decide_true, decide_false, Bool.and_true, Bool.true_and, Bool.and_false, Bool.false_and, Bool.or_true, Bool.true_or, Bool.or_false, Bool.false_or, and_self, and_true, true_and, and_false, false_and, or_true, true_or, or_false, false_or, ne_eq]; done) | (simp only [bI, c21b, if_true, if_false, Bool.false_eq_true, not_false_eq_true, not_true_eq_false, decide_true, decide_false, Bool.and_true, Bool.true_and, Bool.and_false, Bool.false_and, Bool.or_true, Bool.true_or, Bool.or_false, Bool.false_or, and_self, and_true, true_and, and_false, false_and, or_true, true_or, or_false, false_or, ne_eq]; rfl))
  · replace c21 : ¬ (bI (pDumpsFor (μ.2 2) (μ.2 4) k)) = 0 := c21
    have c21b := bI_t c21
    refine ax_iconst (pc := 24) (v := nI 1) G dX10_needsDump_24 ic_1 ?_
    refine ax_goto (pc := 25) (tgt := 29) G dX10_needsDump_25 rfl ?_
    exact ax_iretE (pc := 29) G E rfl (rfl) dX10_needsDump_29 (by first | (simp only [bI, c21b, if_true, if_false, Bool.false_eq_true, not_false_eq_true, not_true_eq_false, decide_true, decide_false, Bool.and_true, Bool.true_and, Bool.and_false, Bool.false_and, Bool.or_true, Bool.true_or, Bool.or_false, Bool.false_or, and_self, and_true, true_and, and_false, false_and, or_true, true_or, or_false, false_or, ne_eq]; done) | (simp only [bI, c21b, if_true, if_false, Bool.false_eq_true, not_false_eq_true, not_true_eq_false, decide_true, decide_false, Bool.and_true, Bool.true_and, Bool.and_false, Bool.false_and, Bool.or_true, Bool.true_or, Bool.or_false, Bool.false_or, and_self, and_true, true_and, and_false, false_and, or_true, true_or, or_false, false_or, ne_eq]; rfl)) (by first | (simp only [bI, c21b, if_true, if_false, Bool.false_eq_true, not_false_eq_true, not_true_eq_false, decide_true, decide_false, Bool.and_true, Bool.true_and, Bool.and_false, Bool.false_and, Bool.or_true, Bool.true_or, Bool.or_false, Bool.false_or, and_self, and_true, true_and, and_false, false_and, or_true, true_or, or_false, false_or, ne_eq]; done) | (simp only [bI, c21b, if_true, if_false, Bool.false_eq_true, not_false_eq_true, not_true_eq_false, decide_true, decide_false, Bool.and_true, Bool.true_and, Bool.and_false, Bool.false_and, Bool.or_true, Bool.true_or, Bool.or_false, Bool.false_or, and_self, and_true, true_and, and_false, false_and, or_true, true_or, or_false, false_or, ne_eq]; rfl))

theorem mq_needsDump_N {Ω : ax_O} (hA : ax_Amb Ω) {h : ax_H} {m : Nat} {μ : md_S} (hm : Ω.2.1.heap.size ≤ m) (h19 : μ.1 19 = nI 0) (k : Int32)  : ax_Met Ω yX10_needsDump 9 0 0 [.ref m, .int k] (md_H h m μ) (.inl (some (.int (nI 0)))) (md_H h m (md_si μ 0 (nI 1))) := by
  refine ax_met q2948 q142 (by decide +kernel) (by decide) hA (Nat.le_of_ble_eq_true rfl) (fun Γ G E => ?_)
  show ax_W Ω Γ 0 0 (md_H h m μ) 0 [some (.ref m), some (.int k)] []
  refine ax_aload_n (pc := 0) G dX10_needsDump_0 rfl rfl ?_
  refine ax_aload_n (pc := 1) G dX10_needsDump_1 rfl rfl ?_
  refine ax_iload_n (pc := 2) G dX10_needsDump_2 rfl rfl ?_
  refine ax_cV1 (pc := 3) (kb := 0) (nb := 0) G (mt_isVisit hA (μ := μ) k) lVX10_372_8 dX10_needsDump_3 md_obj rfl (by decide) (Nat.le_of_ble_eq_true rfl) rfl ?_
  refine ax_cV1 (pc := 6) (kb := 0) (nb := 0) G (mt_mayAskN hA (μ := μ) hm h19 (pIn k (nI 0) ((μ.2 2) 65 - nI 1))) lVX10_368_8 dX10_needsDump_6 md_obj rfl (by decide) (Nat.le_of_ble_eq_true rfl) rfl ?_
  show ax_W Ω Γ _ _ (md_H h m (md_si μ 0 (nI 1))) _ _ _
  refine ax_if_eq (pc := 9) (tgt := 28) G dX10_needsDump_9 rfl (fun _ => ?_) (fun c9 => absurd rfl c9)
  refine ax_iconst (pc := 28) (v := nI 0) G dX10_needsDump_28 ic_0 ?_
  exact ax_iretE (pc := 29) G E rfl (rfl) dX10_needsDump_29 (rfl) (rfl)

theorem mq_needsDump_B {Ω : ax_O} (hA : ax_Amb Ω) {h : ax_H} {m : Nat} {μ : md_S} (hm : Ω.2.1.heap.size ≤ m) (h19 : μ.1 19 = nI 1) (k : Int32) (hb : pIn k (nI 0) ((μ.2 2) 65 - nI 1) = false)  : ax_Met Ω yX10_needsDump 9 0 0 [.ref m, .int k] (md_H h m μ) (.inl (some (.int (nI 0)))) (md_H h m (md_si μ 0 (nI 2))) := by
  refine ax_met q2948 q142 (by decide +kernel) (by decide) hA (Nat.le_of_ble_eq_true rfl) (fun Γ G E => ?_)
  show ax_W Ω Γ 0 0 (md_H h m μ) 0 [some (.ref m), some (.int k)] []
  refine ax_aload_n (pc := 0) G dX10_needsDump_0 rfl rfl ?_
  refine ax_aload_n (pc := 1) G dX10_needsDump_1 rfl rfl ?_
  refine ax_iload_n (pc := 2) G dX10_needsDump_2 rfl rfl ?_
  refine ax_cV1 (pc := 3) (kb := 0) (nb := 0) G (mt_isVisit hA (μ := μ) k) lVX10_372_8 dX10_needsDump_3 md_obj rfl (by decide) (Nat.le_of_ble_eq_true rfl) rfl ?_
  refine ax_top (show Value.int (bI (pIn k (nI 0) ((μ.2 2) 65 - nI 1))) = .int (nI 0) from congrArg Value.int (by rw [hb]; rfl)) ?_
  refine ax_cV1 (pc := 6) (kb := 0) (nb := 0) G (mt_mayAskB hA (μ := μ) hm h19) lVX10_368_8 dX10_needsDump_6 md_obj rfl (by decide) (Nat.le_of_ble_eq_true rfl) rfl ?_
  show ax_W Ω Γ _ _ (md_H h m (md_si μ 0 (nI 2))) _ _ _
  refine ax_if_eq (pc := 9) (tgt := 28) G dX10_needsDump_9 rfl (fun _ => ?_) (fun c9 => absurd rfl c9)
  refine ax_iconst (pc := 28) (v := nI 0) G dX10_needsDump_28 ic_0 ?_
  exact ax_iretE (pc := 29) G E rfl (rfl) dX10_needsDump_29 (rfl) (rfl)

theorem mq_startIf_Y {Ω : ax_O} (hA : ax_Amb Ω) {h : ax_H} {m : Nat} {μ : md_S} (hm : Ω.2.1.heap.size ≤ m) (h19 : μ.1 19 = nI 1) {P V O A : Nat} (hp : pWP (μ.2 2) P V O) (hs : pWS (μ.2 4) A) (k : Nat) (hk : k < V)  : ax_Met Ω yX10_startIf 9 0 0 [.ref m, .int (nI k)] (md_H h m μ) (.inl (some (.int (pStartFor (μ.2 2) (μ.2 4) k)))) (md_H h m (md_si μ 0 (nI 0))) := by
  refine ax_met q2956 q142 (by decide +kernel) (by decide) hA (Nat.le_of_ble_eq_true rfl) (fun Γ G E => ?_)
  have hl_k := hp.lV
  show ax_W Ω Γ 0 0 (md_H h m μ) 0 [some (.ref m), some (.int (nI k))] []
  refine ax_aload_n (pc := 0) G dX10_startIf_0 rfl rfl ?_
  refine ax_aload_n (pc := 1) G dX10_startIf_1 rfl rfl ?_
  refine ax_iload_n (pc := 2) G dX10_startIf_2 rfl rfl ?_
  refine ax_cV1 (pc := 3) (kb := 0) (nb := 0) G (mt_isVisit hA (μ := μ) (nI k)) lVX10_372_8 dX10_startIf_3 md_obj rfl (by decide) (Nat.le_of_ble_eq_true rfl) rfl ?_
  refine ax_top (show Value.int (bI (pIn (nI k) (nI 0) ((μ.2 2) 65 - nI 1))) = .int (nI 1) from congrArg Value.int (by rw [pIn_k hp.hV hk (by have := hp.lV; omega)]; rfl)) ?_
  refine ax_cV1 (pc := 6) (kb := 0) (nb := 0) G (mt_mayAskY hA (μ := μ) hm h19) lVX10_368_8 dX10_startIf_6 md_obj rfl (by decide) (Nat.le_of_ble_eq_true rfl) rfl ?_
  show ax_W Ω Γ _ _ (md_H h m (md_si μ 0 (nI 0))) _ _ _
  refine ax_if_eq (pc := 9) (tgt := 24) G dX10_startIf_9 rfl (fun c9 => absurd c9 (by decide)) (fun _ => ?_)
  refine ax_aload_n (pc := 12) G dX10_startIf_12 rfl rfl ?_
  refine ax_aload_n (pc := 13) G dX10_startIf_13 rfl rfl ?_
  refine md_get (pc := 14) (v := .ref (m + 4)) G flX10_23_8 dX10_startIf_14 rfl ?_
  refine ax_iload_n (pc := 17) G dX10_startIf_17 rfl rfl ?_
  refine ax_cV1 (pc := 18) (kb := 0) (nb := 0) G (md_ro (mt_startFor hA (μ := (md_si μ 0 (nI 0))) (s := μ.2 4) (j := 4) (Or.inl rfl) hp k (by omega))) lVX10_250_8 dX10_startIf_18 md_obj rfl (by decide) (Nat.le_of_ble_eq_true rfl) rfl ?_
  refine ax_goto (pc := 21) (tgt := 25) G dX10_startIf_21 rfl ?_
  exact ax_iretE (pc := 25) G E rfl (rfl) dX10_startIf_25 (rfl) (rfl)

theorem mq_startIf_N {Ω : ax_O} (hA : ax_Amb Ω) {h : ax_H} {m : Nat} {μ : md_S} (hm : Ω.2.1.heap.size ≤ m) (h19 : μ.1 19 = nI 0) (k : Int32)  : ax_Met Ω yX10_startIf 9 0 0 [.ref m, .int k] (md_H h m μ) (.inl (some (.int (nI 0)))) (md_H h m (md_si μ 0 (nI 1))) := by
  refine ax_met q2956 q142 (by decide +kernel) (by decide) hA (Nat.le_of_ble_eq_true rfl) (fun Γ G E => ?_)
  show ax_W Ω Γ 0 0 (md_H h m μ) 0 [some (.ref m), some (.int k)] []
  refine ax_aload_n (pc := 0) G dX10_startIf_0 rfl rfl ?_
  refine ax_aload_n (pc := 1) G dX10_startIf_1 rfl rfl ?_
  refine ax_iload_n (pc := 2) G dX10_startIf_2 rfl rfl ?_
  refine ax_cV1 (pc := 3) (kb := 0) (nb := 0) G (mt_isVisit hA (μ := μ) k) lVX10_372_8 dX10_startIf_3 md_obj rfl (by decide) (Nat.le_of_ble_eq_true rfl) rfl ?_
  refine ax_cV1 (pc := 6) (kb := 0) (nb := 0) G (mt_mayAskN hA (μ := μ) hm h19 (pIn k (nI 0) ((μ.2 2) 65 - nI 1))) lVX10_368_8 dX10_startIf_6 md_obj rfl (by decide) (Nat.le_of_ble_eq_true rfl) rfl ?_
  show ax_W Ω Γ _ _ (md_H h m (md_si μ 0 (nI 1))) _ _ _
  refine ax_if_eq (pc := 9) (tgt := 24) G dX10_startIf_9 rfl (fun _ => ?_) (fun c9 => absurd rfl c9)
  refine ax_iconst (pc := 24) (v := nI 0) G dX10_startIf_24 ic_0 ?_
  exact ax_iretE (pc := 25) G E rfl (rfl) dX10_startIf_25 (rfl) (rfl)

theorem mq_startIf_B {Ω : ax_O} (hA : ax_Amb Ω) {h : ax_H} {m : Nat} {μ : md_S} (hm : Ω.2.1.heap.size ≤ m) (h19 : μ.1 19 = nI 1) (k : Int32) (hb : pIn k (nI 0) ((μ.2 2) 65 - nI 1) = false)  : ax_Met Ω yX10_startIf 9 0 0 [.ref m, .int k] (md_H h m μ) (.inl (some (.int (nI 0)))) (md_H h m (md_si μ 0 (nI 2))) := by
  refine ax_met q2956 q142 (by decide +kernel) (by decide) hA (Nat.le_of_ble_eq_true rfl) (fun Γ G E => ?_)
  show ax_W Ω Γ 0 0 (md_H h m μ) 0 [some (.ref m), some (.int k)] []
  refine ax_aload_n (pc := 0) G dX10_startIf_0 rfl rfl ?_
  refine ax_aload_n (pc := 1) G dX10_startIf_1 rfl rfl ?_
  refine ax_iload_n (pc := 2) G dX10_startIf_2 rfl rfl ?_
  refine ax_cV1 (pc := 3) (kb := 0) (nb := 0) G (mt_isVisit hA (μ := μ) k) lVX10_372_8 dX10_startIf_3 md_obj rfl (by decide) (Nat.le_of_ble_eq_true rfl) rfl ?_
  refine ax_top (show Value.int (bI (pIn k (nI 0) ((μ.2 2) 65 - nI 1))) = .int (nI 0) from congrArg Value.int (by rw [hb]; rfl)) ?_
  refine ax_cV1 (pc := 6) (kb := 0) (nb := 0) G (mt_mayAskB hA (μ := μ) hm h19) lVX10_368_8 dX10_startIf_6 md_obj rfl (by decide) (Nat.le_of_ble_eq_true rfl) rfl ?_
  show ax_W Ω Γ _ _ (md_H h m (md_si μ 0 (nI 2))) _ _ _
  refine ax_if_eq (pc := 9) (tgt := 24) G dX10_startIf_9 rfl (fun _ => ?_) (fun c9 => absurd rfl c9)
  refine ax_iconst (pc := 24) (v := nI 0) G dX10_startIf_24 ic_0 ?_
  exact ax_iretE (pc := 25) G E rfl (rfl) dX10_startIf_25 (rfl) (rfl)

theorem mq_reason_Y {Ω : ax_O} (hA : ax_Amb Ω) {h : ax_H} {m : Nat} {μ : md_S} (hm : Ω.2.1.heap.size ≤ m) (h19 : μ.1 19 = nI 1) {P V O A : Nat} (hp : pWP (μ.2 2) P V O) (hs : pWS (μ.2 4) A) (k : Nat) (hk : k < V)  : ax_Met Ω yX10_reason 9 0 0 [.ref m, .int (nI k)] (md_H h m μ) (.inl (some (.int (pReason (μ.2 2) (μ.2 4) k)))) (md_H h m (md_si μ 0 (nI 0))) := by
  refine ax_met q2972 q142 (by decide +kernel) (by decide) hA (Nat.le_of_ble_eq_true rfl) (fun Γ G E => ?_)
  have hl_k := hp.lV
  show ax_W Ω Γ 0 0 (md_H h m μ) 0 [some (.ref m), some (.int (nI k))] []
  refine ax_aload_n (pc := 0) G dX10_reason_0 rfl rfl ?_
  refine ax_aload_n (pc := 1) G dX10_reason_1 rfl rfl ?_
  refine ax_iload_n (pc := 2) G dX10_reason_2 rfl rfl ?_
  refine ax_cV1 (pc := 3) (kb := 0) (nb := 0) G (mt_isVisit hA (μ := μ) (nI k)) lVX10_372_8 dX10_reason_3 md_obj rfl (by decide) (Nat.le_of_ble_eq_true rfl) rfl ?_
  refine ax_top (show Value.int (bI (pIn (nI k) (nI 0) ((μ.2 2) 65 - nI 1))) = .int (nI 1) from congrArg Value.int (by rw [pIn_k hp.hV hk (by have := hp.lV; omega)]; rfl)) ?_
  refine ax_cV1 (pc := 6) (kb := 0) (nb := 0) G (mt_mayAskY hA (μ := μ) hm h19) lVX10_368_8 dX10_reason_6 md_obj rfl (by decide) (Nat.le_of_ble_eq_true rfl) rfl ?_
  show ax_W Ω Γ _ _ (md_H h m (md_si μ 0 (nI 0))) _ _ _
  refine ax_if_eq (pc := 9) (tgt := 24) G dX10_reason_9 rfl (fun c9 => absurd c9 (by decide)) (fun _ => ?_)
  refine ax_aload_n (pc := 12) G dX10_reason_12 rfl rfl ?_
  refine ax_aload_n (pc := 13) G dX10_reason_13 rfl rfl ?_
  refine md_get (pc := 14) (v := .ref (m + 4)) G flX10_23_8 dX10_reason_14 rfl ?_
  refine ax_iload_n (pc := 17) G dX10_reason_17 rfl rfl ?_
  refine ax_cV1 (pc := 18) (kb := 0) (nb := 0) G (md_ro (mt_reasonFor hA (μ := (md_si μ 0 (nI 0))) (s := μ.2 4) (j := 4) (Or.inl rfl) hp hs k (by omega))) lVX10_275_8 dX10_reason_18 md_obj rfl (by decide) (Nat.le_of_ble_eq_true rfl) rfl ?_
  refine ax_goto (pc := 21) (tgt := 25) G dX10_reason_21 rfl ?_
  exact ax_iretE (pc := 25) G E rfl (rfl) dX10_reason_25 (rfl) (rfl)

theorem mq_reason_N {Ω : ax_O} (hA : ax_Amb Ω) {h : ax_H} {m : Nat} {μ : md_S} (hm : Ω.2.1.heap.size ≤ m) (h19 : μ.1 19 = nI 0) (k : Int32)  : ax_Met Ω yX10_reason 9 0 0 [.ref m, .int k] (md_H h m μ) (.inl (some (.int (nI 0)))) (md_H h m (md_si μ 0 (nI 1))) := by
  refine ax_met q2972 q142 (by decide +kernel) (by decide) hA (Nat.le_of_ble_eq_true rfl) (fun Γ G E => ?_)
  show ax_W Ω Γ 0 0 (md_H h m μ) 0 [some (.ref m), some (.int k)] []
  refine ax_aload_n (pc := 0) G dX10_reason_0 rfl rfl ?_
  refine ax_aload_n (pc := 1) G dX10_reason_1 rfl rfl ?_
  refine ax_iload_n (pc := 2) G dX10_reason_2 rfl rfl ?_
  refine ax_cV1 (pc := 3) (kb := 0) (nb := 0) G (mt_isVisit hA (μ := μ) k) lVX10_372_8 dX10_reason_3 md_obj rfl (by decide) (Nat.le_of_ble_eq_true rfl) rfl ?_
  refine ax_cV1 (pc := 6) (kb := 0) (nb := 0) G (mt_mayAskN hA (μ := μ) hm h19 (pIn k (nI 0) ((μ.2 2) 65 - nI 1))) lVX10_368_8 dX10_reason_6 md_obj rfl (by decide) (Nat.le_of_ble_eq_true rfl) rfl ?_
  show ax_W Ω Γ _ _ (md_H h m (md_si μ 0 (nI 1))) _ _ _
  refine ax_if_eq (pc := 9) (tgt := 24) G dX10_reason_9 rfl (fun _ => ?_) (fun c9 => absurd rfl c9)
  refine ax_iconst (pc := 24) (v := nI 0) G dX10_reason_24 ic_0 ?_
  exact ax_iretE (pc := 25) G E rfl (rfl) dX10_reason_25 (rfl) (rfl)

theorem mq_reason_B {Ω : ax_O} (hA : ax_Amb Ω) {h : ax_H} {m : Nat} {μ : md_S} (hm : Ω.2.1.heap.size ≤ m) (h19 : μ.1 19 = nI 1) (k : Int32) (hb : pIn k (nI 0) ((μ.2 2) 65 - nI 1) = false)  : ax_Met Ω yX10_reason 9 0 0 [.ref m, .int k] (md_H h m μ) (.inl (some (.int (nI 0)))) (md_H h m (md_si μ 0 (nI 2))) := by
  refine ax_met q2972 q142 (by decide +kernel) (by decide) hA (Nat.le_of_ble_eq_true rfl) (fun Γ G E => ?_)
  show ax_W Ω Γ 0 0 (md_H h m μ) 0 [some (.ref m), some (.int k)] []
  refine ax_aload_n (pc := 0) G dX10_reason_0 rfl rfl ?_
  refine ax_aload_n (pc := 1) G dX10_reason_1 rfl rfl ?_
  refine ax_iload_n (pc := 2) G dX10_reason_2 rfl rfl ?_
  refine ax_cV1 (pc := 3) (kb := 0) (nb := 0) G (mt_isVisit hA (μ := μ) k) lVX10_372_8 dX10_reason_3 md_obj rfl (by decide) (Nat.le_of_ble_eq_true rfl) rfl ?_
  refine ax_top (show Value.int (bI (pIn k (nI 0) ((μ.2 2) 65 - nI 1))) = .int (nI 0) from congrArg Value.int (by rw [hb]; rfl)) ?_
  refine ax_cV1 (pc := 6) (kb := 0) (nb := 0) G (mt_mayAskB hA (μ := μ) hm h19) lVX10_368_8 dX10_reason_6 md_obj rfl (by decide) (Nat.le_of_ble_eq_true rfl) rfl ?_
  show ax_W Ω Γ _ _ (md_H h m (md_si μ 0 (nI 2))) _ _ _
  refine ax_if_eq (pc := 9) (tgt := 24) G dX10_reason_9 rfl (fun _ => ?_) (fun c9 => absurd rfl c9)
  refine ax_iconst (pc := 24) (v := nI 0) G dX10_reason_24 ic_0 ?_
  exact ax_iretE (pc := 25) G E rfl (rfl) dX10_reason_25 (rfl) (rfl)

theorem mq_chosen_Y {Ω : ax_O} (hA : ax_Amb Ω) {h : ax_H} {m : Nat} {μ : md_S} (hm : Ω.2.1.heap.size ≤ m) (h19 : μ.1 19 = nI 1) {P V O A : Nat} (hp : pWP (μ.2 2) P V O) (hs : pWS (μ.2 4) A)  : ax_Met Ω yX10_chosen 9 0 0 [.ref m] (md_H h m μ) (.inl (some (.int (oI (pCh (μ.2 2) (μ.2 4) V))))) (md_H h m (md_si μ 0 (nI 0))) := by
  refine ax_met q2995 q142 (by decide +kernel) (by decide) hA (Nat.le_of_ble_eq_true rfl) (fun Γ G E => ?_)
  show ax_W Ω Γ 0 0 (md_H h m μ) 0 [some (.ref m)] []
  refine ax_aload_n (pc := 0) G dX10_chosen_0 rfl rfl ?_
  refine ax_iconst (pc := 1) (v := nI 1) G dX10_chosen_1 ic_1 ?_
  refine ax_cV1 (pc := 2) (kb := 0) (nb := 0) G (mt_mayAskY hA (μ := μ) hm h19) lVX10_368_8 dX10_chosen_2 md_obj rfl (by decide) (Nat.le_of_ble_eq_true rfl) rfl ?_
  show ax_W Ω Γ _ _ (md_H h m (md_si μ 0 (nI 0))) _ _ _
  refine ax_if_eq (pc := 5) (tgt := 19) G dX10_chosen_5 rfl (fun c9 => absurd c9 (by decide)) (fun _ => ?_)
  refine ax_aload_n (pc := 8) G dX10_chosen_8 rfl rfl ?_
  refine ax_aload_n (pc := 9) G dX10_chosen_9 rfl rfl ?_
  refine md_get (pc := 10) (v := .ref (m + 4)) G flX10_23_8 dX10_chosen_10 rfl ?_
  refine ax_cV1 (pc := 13) (kb := 0) (nb := 0) G (md_ro (mt_chosenOf hA (μ := (md_si μ 0 (nI 0))) (s := μ.2 4) (j := 4) (Or.inl rfl) hp hs)) lVX10_336_8 dX10_chosen_13 md_obj rfl (by decide) (Nat.le_of_ble_eq_true rfl) rfl ?_
  refine ax_goto (pc := 16) (tgt := 20) G dX10_chosen_16 rfl ?_
  exact ax_iretE (pc := 20) G E rfl (rfl) dX10_chosen_20 (rfl) (rfl)

theorem mq_chosen_N {Ω : ax_O} (hA : ax_Amb Ω) {h : ax_H} {m : Nat} {μ : md_S} (hm : Ω.2.1.heap.size ≤ m) (h19 : μ.1 19 = nI 0)  : ax_Met Ω yX10_chosen 9 0 0 [.ref m] (md_H h m μ) (.inl (some (.int (nI 0)))) (md_H h m (md_si μ 0 (nI 1))) := by
  refine ax_met q2995 q142 (by decide +kernel) (by decide) hA (Nat.le_of_ble_eq_true rfl) (fun Γ G E => ?_)
  show ax_W Ω Γ 0 0 (md_H h m μ) 0 [some (.ref m)] []
  refine ax_aload_n (pc := 0) G dX10_chosen_0 rfl rfl ?_
  refine ax_iconst (pc := 1) (v := nI 1) G dX10_chosen_1 ic_1 ?_
  refine ax_cV1 (pc := 2) (kb := 0) (nb := 0) G (mt_mayAskN hA (μ := μ) hm h19 true) lVX10_368_8 dX10_chosen_2 md_obj rfl (by decide) (Nat.le_of_ble_eq_true rfl) rfl ?_
  show ax_W Ω Γ _ _ (md_H h m (md_si μ 0 (nI 1))) _ _ _
  refine ax_if_eq (pc := 5) (tgt := 19) G dX10_chosen_5 rfl (fun _ => ?_) (fun c9 => absurd rfl c9)
  refine ax_iconst (pc := 19) (v := nI 0) G dX10_chosen_19 ic_0 ?_
  exact ax_iretE (pc := 20) G E rfl (rfl) dX10_chosen_20 (rfl) (rfl)

theorem mq_visit_Y {Ω : ax_O} (hA : ax_Amb Ω) {h : ax_H} {m : Nat} {μ : md_S} (hm : Ω.2.1.heap.size ≤ m) (h19 : μ.1 19 = nI 1) {P V O A : Nat} (hp : pWP (μ.2 2) P V O) (hs : pWS (μ.2 4) A) (k : Nat) (hk : k < V) (w : Nat) (hw : w ≤ 7)  : ax_Met Ω yX10_visit 9 0 0 [.ref m, .int (nI k), .int (nI w)] (md_H h m μ) (.inl (some (.int (if w = 4 then (μ.2 4) (107 + k) else (μ.2 2) (66 + 8 * k + w))))) (md_H h m (md_si μ 0 (nI 0))) := by
  refine ax_met q2820 q142 (by decide +kernel) (by decide) hA (Nat.le_of_ble_eq_true rfl) (fun Γ G E => ?_)
  have hl_k := hp.lV
  show ax_W Ω Γ 0 0 (md_H h m μ) 0 [some (.ref m), some (.int (nI k)), some (.int (nI w))] []
  refine ax_aload_n (pc := 0) G dX10_visit_0 rfl rfl ?_
  refine ax_aload_n (pc := 1) G dX10_visit_1 rfl rfl ?_
  refine ax_iload_n (pc := 2) G dX10_visit_2 rfl rfl ?_
  refine ax_cV1 (pc := 3) (kb := 0) (nb := 0) G (mt_isVisit hA (μ := μ) (nI k)) lVX10_372_8 dX10_visit_3 md_obj rfl (by decide) (Nat.le_of_ble_eq_true rfl) rfl ?_
  refine ax_top (show Value.int (bI (pIn (nI k) (nI 0) ((μ.2 2) 65 - nI 1))) = .int (nI 1) from congrArg Value.int (by rw [pIn_k hp.hV hk (by have := hp.lV; omega)]; rfl)) ?_
  refine ax_iload_n (pc := 6) G dX10_visit_6 rfl rfl ?_
  refine ax_iconst (pc := 7) (v := nI 0) G dX10_visit_7 ic_0 ?_
  refine ax_bipush (pc := 8) (v := nI 7) G dX10_visit_8 ib_7 ?_
  refine ax_cS1 (pc := 10) (kb := 0) (nb := 0) G (mt_in hA (nI w) (nI 0) (nI 7)) lSX10_74 dX10_visit_10 rfl (by decide) (Nat.le_of_ble_eq_true rfl) rfl ?_
  refine ax_top (show Value.int (bI (pIn (nI w) (nI 0) (nI 7))) = .int (nI 1) from congrArg Value.int (by rw [pIn_c (Nat.zero_le _) hw (by decide)]; rfl)) ?_
  refine ax_cV1 (pc := 13) (kb := 0) (nb := 0) G (mt_mayAskForY hA (μ := μ) hm h19) lVX10_361_8 dX10_visit_13 md_obj rfl (by decide) (Nat.le_of_ble_eq_true rfl) rfl ?_
  show ax_W Ω Γ _ _ (md_H h m (md_si μ 0 (nI 0))) _ _ _
  refine ax_if_ne (pc := 16) (tgt := 21) G dX10_visit_16 rfl (fun _ => ?_) (fun c9 => absurd c9 (by decide))
  refine ax_iload_n (pc := 21) G dX10_visit_21 rfl rfl ?_
  refine ax_iconst (pc := 22) (v := nI 4) G dX10_visit_22 ic_4 ?_
  refine ax_icmp_neN (pc := 23) (tgt := 38) G dX10_visit_23 rfl (by omega) (by omega) (fun c23 => ?_) (fun c23 => ?_)
  · refine ax_aload_n (pc := 38) G dX10_visit_38 rfl rfl ?_
    refine md_get (pc := 39) (v := .ref (m + 2)) G flX10_17_8 dX10_visit_39 rfl ?_
    refine ax_bipush (pc := 42) (v := nI 66) G dX10_visit_42 ib_66 ?_
    refine ax_bipush (pc := 44) (v := nI 8) G dX10_visit_44 ib_8 ?_
    refine ax_iload_n (pc := 46) G dX10_visit_46 rfl rfl ?_
    refine ax_imulN (pc := 47) G dX10_visit_47 ?_
    refine ax_iaddN (pc := 48) G dX10_visit_48 ?_
    refine ax_iload_n (pc := 49) G dX10_visit_49 rfl rfl ?_
    refine ax_iaddN (pc := 50) G dX10_visit_50 ?_
    refine md_ld (pc := 51) (i := 66 + (8 * k) + w) (j := 2) G 235 dX10_visit_51 (by decide) (by decide) rfl rfl rfl (by omega) (by decide) ?_
    exact ax_iretE (pc := 52) G E rfl (rfl) dX10_visit_52 (by first | (simp only [c23, if_true, if_false, Bool.false_eq_true, not_false_eq_true, not_true_eq_false, decide_true, decide_false, Bool.and_true, Bool.true_and, Bool.and_false, Bool.false_and, Bool.or_true, Bool.true_or, Bool.or_false, Bool.false_or, and_self, and_true, true_and, and_false, false_and, or_true, true_or, or_false, false_or, ne_eq]; done) | (simp only [c23, if_true, if_false, Bool.false_eq_true, not_false_eq_true, not_true_eq_false, decide_true, decide_false, Bool.and_true, Bool.true_and, Bool.and_false, Bool.false_and, Bool.or_true, Bool.true_or, Bool.or_false, Bool.false_or, and_self, and_true, true_and, and_false, false_and, or_true, true_or, or_false, false_or, ne_eq]; rfl)) (by first | (simp only [c23, if_true, if_false, Bool.false_eq_true, not_false_eq_true, not_true_eq_false, decide_true, decide_false, Bool.and_true, Bool.true_and, Bool.and_false, Bool.false_and, Bool.or_true, Bool.true_or, Bool.or_false, Bool.false_or, and_self, and_true, true_and, and_false, false_and, or_true, true_or, or_false, false_or, ne_eq]; done) | (simp only [c23, if_true, if_false, Bool.false_eq_true, not_false_eq_true, not_true_eq_false, decide_true, decide_false, Bool.and_true, Bool.true_and, Bool.and_false, Bool.false_and, Bool.or_true, Bool.true_or, Bool.or_false, Bool.false_or, and_self, and_true, true_and, and_false, false_and, or_true, true_or, or_false, false_or, ne_eq]; rfl))
  · refine ax_aload_n (pc := 26) G dX10_visit_26 rfl rfl ?_
    refine md_get (pc := 27) (v := .ref (m + 4)) G flX10_23_8 dX10_visit_27 rfl ?_
    refine ax_bipush (pc := 30) (v := nI 107) G dX10_visit_30 ib_107 ?_
    refine ax_iload_n (pc := 32) G dX10_visit_32 rfl rfl ?_
    refine ax_iaddN (pc := 33) G dX10_visit_33 ?_
    refine md_ld (pc := 34) (i := 107 + k) (j := 4) G 627 dX10_visit_34 (by decide) (by decide) rfl rfl rfl (by omega) (by decide) ?_
    refine ax_goto (pc := 35) (tgt := 52) G dX10_visit_35 rfl ?_
    exact ax_iretE (pc := 52) G E rfl (rfl) dX10_visit_52 (by first | (simp only [c23, if_true, if_false, Bool.false_eq_true, not_false_eq_true, not_true_eq_false, decide_true, decide_false, Bool.and_true, Bool.true_and, Bool.and_false, Bool.false_and, Bool.or_true, Bool.true_or, Bool.or_false, Bool.false_or, and_self, and_true, true_and, and_false, false_and, or_true, true_or, or_false, false_or, ne_eq]; done) | (simp only [c23, if_true, if_false, Bool.false_eq_true, not_false_eq_true, not_true_eq_false, decide_true, decide_false, Bool.and_true, Bool.true_and, Bool.and_false, Bool.false_and, Bool.or_true, Bool.true_or, Bool.or_false, Bool.false_or, and_self, and_true, true_and, and_false, false_and, or_true, true_or, or_false, false_or, ne_eq]; rfl)) (by first | (simp only [c23, if_true, if_false, Bool.false_eq_true, not_false_eq_true, not_true_eq_false, decide_true, decide_false, Bool.and_true, Bool.true_and, Bool.and_false, Bool.false_and, Bool.or_true, Bool.true_or, Bool.or_false, Bool.false_or, and_self, and_true, true_and, and_false, false_and, or_true, true_or, or_false, false_or, ne_eq]; done) | (simp only [c23, if_true, if_false, Bool.false_eq_true, not_false_eq_true, not_true_eq_false, decide_true, decide_false, Bool.and_true, Bool.true_and, Bool.and_false, Bool.false_and, Bool.or_true, Bool.true_or, Bool.or_false, Bool.false_or, and_self, and_true, true_and, and_false, false_and, or_true, true_or, or_false, false_or, ne_eq]; rfl))

theorem mq_visit_N {Ω : ax_O} (hA : ax_Amb Ω) {h : ax_H} {m : Nat} {μ : md_S} (hm : Ω.2.1.heap.size ≤ m) (h19 : μ.1 19 = nI 0) (k : Int32) (w : Int32)  : ax_Met Ω yX10_visit 9 0 0 [.ref m, .int k, .int w] (md_H h m μ) (.inl (some (.int (nI 0)))) (md_H h m (md_si μ 0 (nI 1))) := by
  refine ax_met q2820 q142 (by decide +kernel) (by decide) hA (Nat.le_of_ble_eq_true rfl) (fun Γ G E => ?_)
  show ax_W Ω Γ 0 0 (md_H h m μ) 0 [some (.ref m), some (.int k), some (.int w)] []
  refine ax_aload_n (pc := 0) G dX10_visit_0 rfl rfl ?_
  refine ax_aload_n (pc := 1) G dX10_visit_1 rfl rfl ?_
  refine ax_iload_n (pc := 2) G dX10_visit_2 rfl rfl ?_
  refine ax_cV1 (pc := 3) (kb := 0) (nb := 0) G (mt_isVisit hA (μ := μ) k) lVX10_372_8 dX10_visit_3 md_obj rfl (by decide) (Nat.le_of_ble_eq_true rfl) rfl ?_
  refine ax_iload_n (pc := 6) G dX10_visit_6 rfl rfl ?_
  refine ax_iconst (pc := 7) (v := nI 0) G dX10_visit_7 ic_0 ?_
  refine ax_bipush (pc := 8) (v := nI 7) G dX10_visit_8 ib_7 ?_
  refine ax_cS1 (pc := 10) (kb := 0) (nb := 0) G (mt_in hA w (nI 0) (nI 7)) lSX10_74 dX10_visit_10 rfl (by decide) (Nat.le_of_ble_eq_true rfl) rfl ?_
  refine ax_cV1 (pc := 13) (kb := 0) (nb := 0) G (mt_mayAskForN hA (μ := μ) hm h19 (pIn k (nI 0) ((μ.2 2) 65 - nI 1)) (pIn w (nI 0) (nI 7))) lVX10_361_8 dX10_visit_13 md_obj rfl (by decide) (Nat.le_of_ble_eq_true rfl) rfl ?_
  show ax_W Ω Γ _ _ (md_H h m (md_si μ 0 (nI 1))) _ _ _
  refine ax_if_ne (pc := 16) (tgt := 21) G dX10_visit_16 rfl (fun c9 => absurd rfl c9) (fun _ => ?_)
  refine ax_iconst (pc := 19) (v := nI 0) G dX10_visit_19 ic_0 ?_
  exact ax_iretE (pc := 20) G E rfl (rfl) dX10_visit_20 (rfl) (rfl)

theorem mq_visit_B {Ω : ax_O} (hA : ax_Amb Ω) {h : ax_H} {m : Nat} {μ : md_S} (hm : Ω.2.1.heap.size ≤ m) (h19 : μ.1 19 = nI 1) (k : Int32) (hb : pIn k (nI 0) ((μ.2 2) 65 - nI 1) = false) (w : Int32)  : ax_Met Ω yX10_visit 9 0 0 [.ref m, .int k, .int w] (md_H h m μ) (.inl (some (.int (nI 0)))) (md_H h m (md_si μ 0 (nI 2))) := by
  refine ax_met q2820 q142 (by decide +kernel) (by decide) hA (Nat.le_of_ble_eq_true rfl) (fun Γ G E => ?_)
  show ax_W Ω Γ 0 0 (md_H h m μ) 0 [some (.ref m), some (.int k), some (.int w)] []
  refine ax_aload_n (pc := 0) G dX10_visit_0 rfl rfl ?_
  refine ax_aload_n (pc := 1) G dX10_visit_1 rfl rfl ?_
  refine ax_iload_n (pc := 2) G dX10_visit_2 rfl rfl ?_
  refine ax_cV1 (pc := 3) (kb := 0) (nb := 0) G (mt_isVisit hA (μ := μ) k) lVX10_372_8 dX10_visit_3 md_obj rfl (by decide) (Nat.le_of_ble_eq_true rfl) rfl ?_
  refine ax_top (show Value.int (bI (pIn k (nI 0) ((μ.2 2) 65 - nI 1))) = .int (nI 0) from congrArg Value.int (by rw [hb]; rfl)) ?_
  refine ax_iload_n (pc := 6) G dX10_visit_6 rfl rfl ?_
  refine ax_iconst (pc := 7) (v := nI 0) G dX10_visit_7 ic_0 ?_
  refine ax_bipush (pc := 8) (v := nI 7) G dX10_visit_8 ib_7 ?_
  refine ax_cS1 (pc := 10) (kb := 0) (nb := 0) G (mt_in hA w (nI 0) (nI 7)) lSX10_74 dX10_visit_10 rfl (by decide) (Nat.le_of_ble_eq_true rfl) rfl ?_
  refine ax_cV1 (pc := 13) (kb := 0) (nb := 0) G (mt_mayAskForB hA (μ := μ) hm h19 (pIn w (nI 0) (nI 7))) lVX10_361_8 dX10_visit_13 md_obj rfl (by decide) (Nat.le_of_ble_eq_true rfl) rfl ?_
  show ax_W Ω Γ _ _ (md_H h m (md_si μ 0 (nI 2))) _ _ _
  refine ax_if_ne (pc := 16) (tgt := 21) G dX10_visit_16 rfl (fun c9 => absurd rfl c9) (fun _ => ?_)
  refine ax_iconst (pc := 19) (v := nI 0) G dX10_visit_19 ic_0 ?_
  exact ax_iretE (pc := 20) G E rfl (rfl) dX10_visit_20 (rfl) (rfl)

theorem mq_visit_B2 {Ω : ax_O} (hA : ax_Amb Ω) {h : ax_H} {m : Nat} {μ : md_S} (hm : Ω.2.1.heap.size ≤ m) (h19 : μ.1 19 = nI 1) {P V O A : Nat} (hp : pWP (μ.2 2) P V O) (hs : pWS (μ.2 4) A) (k : Nat) (hk : k < V) (w : Int32) (hb : pIn w (nI 0) (nI 7) = false)  : ax_Met Ω yX10_visit 9 0 0 [.ref m, .int (nI k), .int w] (md_H h m μ) (.inl (some (.int (nI 0)))) (md_H h m (md_si μ 0 (nI 3))) := by
  refine ax_met q2820 q142 (by decide +kernel) (by decide) hA (Nat.le_of_ble_eq_true rfl) (fun Γ G E => ?_)
  have hl_k := hp.lV
  show ax_W Ω Γ 0 0 (md_H h m μ) 0 [some (.ref m), some (.int (nI k)), some (.int w)] []
  refine ax_aload_n (pc := 0) G dX10_visit_0 rfl rfl ?_
  refine ax_aload_n (pc := 1) G dX10_visit_1 rfl rfl ?_
  refine ax_iload_n (pc := 2) G dX10_visit_2 rfl rfl ?_
  refine ax_cV1 (pc := 3) (kb := 0) (nb := 0) G (mt_isVisit hA (μ := μ) (nI k)) lVX10_372_8 dX10_visit_3 md_obj rfl (by decide) (Nat.le_of_ble_eq_true rfl) rfl ?_
  refine ax_top (show Value.int (bI (pIn (nI k) (nI 0) ((μ.2 2) 65 - nI 1))) = .int (nI 1) from congrArg Value.int (by rw [pIn_k hp.hV hk (by have := hp.lV; omega)]; rfl)) ?_
  refine ax_iload_n (pc := 6) G dX10_visit_6 rfl rfl ?_
  refine ax_iconst (pc := 7) (v := nI 0) G dX10_visit_7 ic_0 ?_
  refine ax_bipush (pc := 8) (v := nI 7) G dX10_visit_8 ib_7 ?_
  refine ax_cS1 (pc := 10) (kb := 0) (nb := 0) G (mt_in hA w (nI 0) (nI 7)) lSX10_74 dX10_visit_10 rfl (by decide) (Nat.le_of_ble_eq_true rfl) rfl ?_
  refine ax_top (show Value.int (bI (pIn w (nI 0) (nI 7))) = .int (nI 0) from congrArg Value.int (by rw [hb]; rfl)) ?_
  refine ax_cV1 (pc := 13) (kb := 0) (nb := 0) G (mt_mayAskForC hA (μ := μ) hm h19) lVX10_361_8 dX10_visit_13 md_obj rfl (by decide) (Nat.le_of_ble_eq_true rfl) rfl ?_
  show ax_W Ω Γ _ _ (md_H h m (md_si μ 0 (nI 3))) _ _ _
  refine ax_if_ne (pc := 16) (tgt := 21) G dX10_visit_16 rfl (fun c9 => absurd rfl c9) (fun _ => ?_)
  refine ax_iconst (pc := 19) (v := nI 0) G dX10_visit_19 ic_0 ?_
  exact ax_iretE (pc := 20) G E rfl (rfl) dX10_visit_20 (rfl) (rfl)

theorem mq_alertDelay_Y {Ω : ax_O} (hA : ax_Amb Ω) {h : ax_H} {m : Nat} {μ : md_S} (hm : Ω.2.1.heap.size ≤ m) (h19 : μ.1 19 = nI 1) {P V O A : Nat} (hp : pWP (μ.2 2) P V O) (hs : pWS (μ.2 4) A) (k : Nat) (hk : k < A)  : ax_Met Ω yX10_alertDelay 9 0 0 [.ref m, .int (nI k)] (md_H h m μ) (.inl (some (.int (if (μ.2 4) (127 + 10 * k + 7) = nI 1 then (μ.2 4) (127 + 10 * k + 8) - (μ.2 4) (127 + 10 * k + 1) else -1)))) (md_H h m (md_si μ 0 (nI 0))) := by
  refine ax_met q2860 q142 (by decide +kernel) (by decide) hA (Nat.le_of_ble_eq_true rfl) (fun Γ G E => ?_)
  have hl_k := hs.lA
  show ax_W Ω Γ 0 0 (md_H h m μ) 0 [some (.ref m), some (.int (nI k))] []
  refine ax_aload_n (pc := 0) G dX10_alertDelay_0 rfl rfl ?_
  refine ax_aload_n (pc := 1) G dX10_alertDelay_1 rfl rfl ?_
  refine ax_iload_n (pc := 2) G dX10_alertDelay_2 rfl rfl ?_
  refine ax_cV1 (pc := 3) (kb := 0) (nb := 0) G (mt_isAlert hA (μ := μ) (nI k)) lVX10_375_8 dX10_alertDelay_3 md_obj rfl (by decide) (Nat.le_of_ble_eq_true rfl) rfl ?_
  refine ax_top (show Value.int (bI (pIn (nI k) (nI 0) ((μ.2 4) 14 - nI 1))) = .int (nI 1) from congrArg Value.int (by rw [pIn_k hs.hA hk (by have := hs.lA; omega)]; rfl)) ?_
  refine ax_cV1 (pc := 6) (kb := 0) (nb := 0) G (mt_mayAskY hA (μ := μ) hm h19) lVX10_368_8 dX10_alertDelay_6 md_obj rfl (by decide) (Nat.le_of_ble_eq_true rfl) rfl ?_
  show ax_W Ω Γ _ _ (md_H h m (md_si μ 0 (nI 0))) _ _ _
  refine ax_if_ne (pc := 9) (tgt := 14) G dX10_alertDelay_9 rfl (fun _ => ?_) (fun c9 => absurd c9 (by decide))
  refine ax_aload_n (pc := 14) G dX10_alertDelay_14 rfl rfl ?_
  refine ax_iload_n (pc := 15) G dX10_alertDelay_15 rfl rfl ?_
  refine ax_bipush (pc := 16) (v := nI 7) G dX10_alertDelay_16 ib_7 ?_
  refine ax_cV1 (pc := 18) (kb := 0) (nb := 0) G (mt_ofAlert hA (μ := (md_si μ 0 (nI 0))) k 7 (by omega) (by omega)) lVX10_378_8 dX10_alertDelay_18 md_obj rfl (by decide) (Nat.le_of_ble_eq_true rfl) rfl ?_
  refine ax_iconst (pc := 21) (v := nI 1) G dX10_alertDelay_21 ic_1 ?_
  refine ax_icmp_ne (pc := 22) (tgt := 42) G dX10_alertDelay_22 rfl (fun c22 => ?_) (fun c22 => ?_)
  · replace c22 : ¬ ((μ.2 4) (127 + 10 * k + 7)) = (nI 1) := c22
    refine ax_iconst (pc := 42) (v := (-1)) G dX10_alertDelay_42 (by decide) ?_
    exact ax_iretE (pc := 43) G E rfl (rfl) dX10_alertDelay_43 (by first | (simp only [c22, if_true, if_false, Bool.false_eq_true, not_false_eq_true, not_true_eq_false, decide_true, decide_false, Bool.and_true, Bool.true_and, Bool.and_false, Bool.false_and, Bool.or_true, Bool.true_or, Bool.or_false, Bool.false_or, and_self, and_true, true_and, and_false, false_and, or_true, true_or, or_false, false_or, ne_eq]; done) | (simp only [c22, if_true, if_false, Bool.false_eq_true, not_false_eq_true, not_true_eq_false, decide_true, decide_false, Bool.and_true, Bool.true_and, Bool.and_false, Bool.false_and, Bool.or_true, Bool.true_or, Bool.or_false, Bool.false_or, and_self, and_true, true_and, and_false, false_and, or_true, true_or, or_false, false_or, ne_eq]; rfl)) (by first | (simp only [c22, if_true, if_false, Bool.false_eq_true, not_false_eq_true, not_true_eq_false, decide_true, decide_false, Bool.and_true, Bool.true_and, Bool.and_false, Bool.false_and, Bool.or_true, Bool.true_or, Bool.or_false, Bool.false_or, and_self, and_true, true_and, and_false, false_and, or_true, true_or, or_false, false_or, ne_eq]; done) | (simp only [c22, if_true, if_false, Bool.false_eq_true, not_false_eq_true, not_true_eq_false, decide_true, decide_false, Bool.and_true, Bool.true_and, Bool.and_false, Bool.false_and, Bool.or_true, Bool.true_or, Bool.or_false, Bool.false_or, and_self, and_true, true_and, and_false, false_and, or_true, true_or, or_false, false_or, ne_eq]; rfl))
  · replace c22 : ((μ.2 4) (127 + 10 * k + 7)) = (nI 1) := c22
    refine ax_aload_n (pc := 25) G dX10_alertDelay_25 rfl rfl ?_
    refine ax_iload_n (pc := 26) G dX10_alertDelay_26 rfl rfl ?_
    refine ax_bipush (pc := 27) (v := nI 8) G dX10_alertDelay_27 ib_8 ?_
    refine ax_cV1 (pc := 29) (kb := 0) (nb := 0) G (mt_ofAlert hA (μ := (md_si μ 0 (nI 0))) k 8 (by omega) (by omega)) lVX10_378_8 dX10_alertDelay_29 md_obj rfl (by decide) (Nat.le_of_ble_eq_true rfl) rfl ?_
    refine ax_aload_n (pc := 32) G dX10_alertDelay_32 rfl rfl ?_
    refine ax_iload_n (pc := 33) G dX10_alertDelay_33 rfl rfl ?_
    refine ax_iconst (pc := 34) (v := nI 1) G dX10_alertDelay_34 ic_1 ?_
    refine ax_cV1 (pc := 35) (kb := 0) (nb := 0) G (mt_ofAlert hA (μ := (md_si μ 0 (nI 0))) k 1 (by omega) (by omega)) lVX10_378_8 dX10_alertDelay_35 md_obj rfl (by decide) (Nat.le_of_ble_eq_true rfl) rfl ?_
    refine ax_isub (pc := 38) G dX10_alertDelay_38 ?_
    refine ax_goto (pc := 39) (tgt := 43) G dX10_alertDelay_39 rfl ?_
    exact ax_iretE (pc := 43) G E rfl (rfl) dX10_alertDelay_43 (by first | (simp only [c22, if_true, if_false, Bool.false_eq_true, not_false_eq_true, not_true_eq_false, decide_true, decide_false, Bool.and_true, Bool.true_and, Bool.and_false, Bool.false_and, Bool.or_true, Bool.true_or, Bool.or_false, Bool.false_or, and_self, and_true, true_and, and_false, false_and, or_true, true_or, or_false, false_or, ne_eq]; done) | (simp only [c22, if_true, if_false, Bool.false_eq_true, not_false_eq_true, not_true_eq_false, decide_true, decide_false, Bool.and_true, Bool.true_and, Bool.and_false, Bool.false_and, Bool.or_true, Bool.true_or, Bool.or_false, Bool.false_or, and_self, and_true, true_and, and_false, false_and, or_true, true_or, or_false, false_or, ne_eq]; rfl) | (simp only [if_pos c22, decide_eq_true c22, if_true, if_false, Bool.false_eq_true, not_false_eq_true, not_true_eq_false, decide_true, decide_false, Bool.and_true, Bool.true_and, Bool.and_false, Bool.false_and, Bool.or_true, Bool.true_or, Bool.or_false, Bool.false_or, and_self, and_true, true_and, and_false, false_and, or_true, true_or, or_false, false_or, ne_eq]; done) | (simp only [if_pos c22, decide_eq_true c22, if_true, if_false, Bool.false_eq_true, not_false_eq_true, not_true_eq_false, decide_true, decide_false, Bool.and_true, Bool.true_and, Bool.and_false, Bool.false_and, Bool.or_true, Bool.true_or, Bool.or_false, Bool.false_or, and_self, and_true, true_and, and_false, false_and, or_true, true_or, or_false, false_or, ne_eq]; rfl)) (by first | (simp only [c22, if_true, if_false, Bool.false_eq_true, not_false_eq_true, not_true_eq_false, decide_true, decide_false, Bool.and_true, Bool.true_and, Bool.and_false, Bool.false_and, Bool.or_true, Bool.true_or, Bool.or_false, Bool.false_or, and_self, and_true, true_and, and_false, false_and, or_true, true_or, or_false, false_or, ne_eq]; done) | (simp only [c22, if_true, if_false, Bool.false_eq_true, not_false_eq_true, not_true_eq_false, decide_true, decide_false, Bool.and_true, Bool.true_and, Bool.and_false, Bool.false_and, Bool.or_true, Bool.true_or, Bool.or_false, Bool.false_or, and_self, and_true, true_and, and_false, false_and, or_true, true_or, or_false, false_or, ne_eq]; rfl) | (simp only [if_pos c22, decide_eq_true c22, if_true, if_false, Bool.false_eq_true, not_false_eq_true, not_true_eq_false, decide_true, decide_false, Bool.and_true, Bool.true_and, Bool.and_false, Bool.false_and, Bool.or_true, Bool.true_or, Bool.or_false, Bool.false_or, and_self, and_true, true_and, and_false, false_and, or_true, true_or, or_false, false_or, ne_eq]; done) | (simp only [if_pos c22, decide_eq_true c22, if_true, if_false, Bool.false_eq_true, not_false_eq_true, not_true_eq_false, decide_true, decide_false, Bool.and_true, Bool.true_and, Bool.and_false, Bool.false_and, Bool.or_true, Bool.true_or, Bool.or_false, Bool.false_or, and_self, and_true, true_and, and_false, false_and, or_true, true_or, or_false, false_or, ne_eq]; rfl))

theorem mq_alertDelay_N {Ω : ax_O} (hA : ax_Amb Ω) {h : ax_H} {m : Nat} {μ : md_S} (hm : Ω.2.1.heap.size ≤ m) (h19 : μ.1 19 = nI 0) (k : Int32)  : ax_Met Ω yX10_alertDelay 9 0 0 [.ref m, .int k] (md_H h m μ) (.inl (some (.int (nI 0)))) (md_H h m (md_si μ 0 (nI 1))) := by
  refine ax_met q2860 q142 (by decide +kernel) (by decide) hA (Nat.le_of_ble_eq_true rfl) (fun Γ G E => ?_)
  show ax_W Ω Γ 0 0 (md_H h m μ) 0 [some (.ref m), some (.int k)] []
  refine ax_aload_n (pc := 0) G dX10_alertDelay_0 rfl rfl ?_
  refine ax_aload_n (pc := 1) G dX10_alertDelay_1 rfl rfl ?_
  refine ax_iload_n (pc := 2) G dX10_alertDelay_2 rfl rfl ?_
  refine ax_cV1 (pc := 3) (kb := 0) (nb := 0) G (mt_isAlert hA (μ := μ) k) lVX10_375_8 dX10_alertDelay_3 md_obj rfl (by decide) (Nat.le_of_ble_eq_true rfl) rfl ?_
  refine ax_cV1 (pc := 6) (kb := 0) (nb := 0) G (mt_mayAskN hA (μ := μ) hm h19 (pIn k (nI 0) ((μ.2 4) 14 - nI 1))) lVX10_368_8 dX10_alertDelay_6 md_obj rfl (by decide) (Nat.le_of_ble_eq_true rfl) rfl ?_
  show ax_W Ω Γ _ _ (md_H h m (md_si μ 0 (nI 1))) _ _ _
  refine ax_if_ne (pc := 9) (tgt := 14) G dX10_alertDelay_9 rfl (fun c9 => absurd rfl c9) (fun _ => ?_)
  refine ax_iconst (pc := 12) (v := nI 0) G dX10_alertDelay_12 ic_0 ?_
  exact ax_iretE (pc := 13) G E rfl (rfl) dX10_alertDelay_13 (rfl) (rfl)

theorem mq_alertDelay_B {Ω : ax_O} (hA : ax_Amb Ω) {h : ax_H} {m : Nat} {μ : md_S} (hm : Ω.2.1.heap.size ≤ m) (h19 : μ.1 19 = nI 1) (k : Int32) (hb : pIn k (nI 0) ((μ.2 4) 14 - nI 1) = false)  : ax_Met Ω yX10_alertDelay 9 0 0 [.ref m, .int k] (md_H h m μ) (.inl (some (.int (nI 0)))) (md_H h m (md_si μ 0 (nI 2))) := by
  refine ax_met q2860 q142 (by decide +kernel) (by decide) hA (Nat.le_of_ble_eq_true rfl) (fun Γ G E => ?_)
  show ax_W Ω Γ 0 0 (md_H h m μ) 0 [some (.ref m), some (.int k)] []
  refine ax_aload_n (pc := 0) G dX10_alertDelay_0 rfl rfl ?_
  refine ax_aload_n (pc := 1) G dX10_alertDelay_1 rfl rfl ?_
  refine ax_iload_n (pc := 2) G dX10_alertDelay_2 rfl rfl ?_
  refine ax_cV1 (pc := 3) (kb := 0) (nb := 0) G (mt_isAlert hA (μ := μ) k) lVX10_375_8 dX10_alertDelay_3 md_obj rfl (by decide) (Nat.le_of_ble_eq_true rfl) rfl ?_
  refine ax_top (show Value.int (bI (pIn k (nI 0) ((μ.2 4) 14 - nI 1))) = .int (nI 0) from congrArg Value.int (by rw [hb]; rfl)) ?_
  refine ax_cV1 (pc := 6) (kb := 0) (nb := 0) G (mt_mayAskB hA (μ := μ) hm h19) lVX10_368_8 dX10_alertDelay_6 md_obj rfl (by decide) (Nat.le_of_ble_eq_true rfl) rfl ?_
  show ax_W Ω Γ _ _ (md_H h m (md_si μ 0 (nI 2))) _ _ _
  refine ax_if_ne (pc := 9) (tgt := 14) G dX10_alertDelay_9 rfl (fun c9 => absurd rfl c9) (fun _ => ?_)
  refine ax_iconst (pc := 12) (v := nI 0) G dX10_alertDelay_12 ic_0 ?_
  exact ax_iretE (pc := 13) G E rfl (rfl) dX10_alertDelay_13 (rfl) (rfl)

theorem mq_alertReason_Y {Ω : ax_O} (hA : ax_Amb Ω) {h : ax_H} {m : Nat} {μ : md_S} (hm : Ω.2.1.heap.size ≤ m) (h19 : μ.1 19 = nI 1) {P V O A : Nat} (hp : pWP (μ.2 2) P V O) (hs : pWS (μ.2 4) A) (k : Nat) (hk : k < A)  : ax_Met Ω yX10_alertReason 9 0 0 [.ref m, .int (nI k)] (md_H h m μ) (.inl (some (.int (if (μ.2 4) 0 < (μ.2 4) (127 + 10 * k + 1) then nI 8 else pReason (μ.2 2) (μ.2 4) (20 + k))))) (md_H h m (md_si μ 0 (nI 0))) := by
  refine ax_met q3083 q142 (by decide +kernel) (by decide) hA (Nat.le_of_ble_eq_true rfl) (fun Γ G E => ?_)
  have hl_k := hs.lA
  show ax_W Ω Γ 0 0 (md_H h m μ) 0 [some (.ref m), some (.int (nI k))] []
  refine ax_aload_n (pc := 0) G dX10_alertReason_0 rfl rfl ?_
  refine ax_aload_n (pc := 1) G dX10_alertReason_1 rfl rfl ?_
  refine ax_iload_n (pc := 2) G dX10_alertReason_2 rfl rfl ?_
  refine ax_cV1 (pc := 3) (kb := 0) (nb := 0) G (mt_isAlert hA (μ := μ) (nI k)) lVX10_375_8 dX10_alertReason_3 md_obj rfl (by decide) (Nat.le_of_ble_eq_true rfl) rfl ?_
  refine ax_top (show Value.int (bI (pIn (nI k) (nI 0) ((μ.2 4) 14 - nI 1))) = .int (nI 1) from congrArg Value.int (by rw [pIn_k hs.hA hk (by have := hs.lA; omega)]; rfl)) ?_
  refine ax_cV1 (pc := 6) (kb := 0) (nb := 0) G (mt_mayAskY hA (μ := μ) hm h19) lVX10_368_8 dX10_alertReason_6 md_obj rfl (by decide) (Nat.le_of_ble_eq_true rfl) rfl ?_
  show ax_W Ω Γ _ _ (md_H h m (md_si μ 0 (nI 0))) _ _ _
  refine ax_if_ne (pc := 9) (tgt := 14) G dX10_alertReason_9 rfl (fun _ => ?_) (fun c9 => absurd c9 (by decide))
  refine ax_aload_n (pc := 14) G dX10_alertReason_14 rfl rfl ?_
  refine ax_iload_n (pc := 15) G dX10_alertReason_15 rfl rfl ?_
  refine ax_iconst (pc := 16) (v := nI 1) G dX10_alertReason_16 ic_1 ?_
  refine ax_cV1 (pc := 17) (kb := 0) (nb := 0) G (mt_ofAlert hA (μ := (md_si μ 0 (nI 0))) k 1 (by omega) (by omega)) lVX10_378_8 dX10_alertReason_17 md_obj rfl (by decide) (Nat.le_of_ble_eq_true rfl) rfl ?_
  refine ax_aload_n (pc := 20) G dX10_alertReason_20 rfl rfl ?_
  refine md_get (pc := 21) (v := .ref (m + 4)) G flX10_23_8 dX10_alertReason_21 rfl ?_
  refine ax_iconst (pc := 24) (v := nI 0) G dX10_alertReason_24 ic_0 ?_
  refine md_ld (pc := 25) (i := 0) (j := 4) G 627 dX10_alertReason_25 (by decide) (by decide) rfl rfl rfl (by omega) (by decide) ?_
  refine ax_icmp_le (pc := 26) (tgt := 34) G dX10_alertReason_26 rfl (fun c26 => ?_) (fun c26 => ?_)
  · replace c26 : ((μ.2 4) (127 + 10 * k + 1)) ≤ ((μ.2 4) 0) := c26
    refine ax_aload_n (pc := 34) G dX10_alertReason_34 rfl rfl ?_
    refine ax_aload_n (pc := 35) G dX10_alertReason_35 rfl rfl ?_
    refine md_get (pc := 36) (v := .ref (m + 4)) G flX10_23_8 dX10_alertReason_36 rfl ?_
    refine ax_bipush (pc := 39) (v := nI 20) G dX10_alertReason_39 ib_20 ?_
    refine ax_iload_n (pc := 41) G dX10_alertReason_41 rfl rfl ?_
    refine ax_iaddN (pc := 42) G dX10_alertReason_42 ?_
    refine ax_cV1 (pc := 43) (kb := 0) (nb := 0) G (md_ro (mt_reasonFor hA (μ := (md_si μ 0 (nI 0))) (s := μ.2 4) (j := 4) (Or.inl rfl) hp hs (20 + k) (by omega))) lVX10_275_8 dX10_alertReason_43 md_obj rfl (by decide) (Nat.le_of_ble_eq_true rfl) rfl ?_
    exact ax_iretE (pc := 46) G E rfl (rfl) dX10_alertReason_46 (by first | (simp only [c26, Int32.not_lt.mpr c26, if_true, if_false, Bool.false_eq_true, not_false_eq_true, not_true_eq_false, decide_true, decide_false, Bool.and_true, Bool.true_and, Bool.and_false, Bool.false_and, Bool.or_true, Bool.true_or, Bool.or_false, Bool.false_or, and_self, and_true, true_and, and_false, false_and, or_true, true_or, or_false, false_or, ne_eq]; done) | (simp only [c26, Int32.not_lt.mpr c26, if_true, if_false, Bool.false_eq_true, not_false_eq_true, not_true_eq_false, decide_true, decide_false, Bool.and_true, Bool.true_and, Bool.and_false, Bool.false_and, Bool.or_true, Bool.true_or, Bool.or_false, Bool.false_or, and_self, and_true, true_and, and_false, false_and, or_true, true_or, or_false, false_or, ne_eq]; rfl)) (by first | (simp only [c26, Int32.not_lt.mpr c26, if_true, if_false, Bool.false_eq_true, not_false_eq_true, not_true_eq_false, decide_true, decide_false, Bool.and_true, Bool.true_and, Bool.and_false, Bool.false_and, Bool.or_true, Bool.true_or, Bool.or_false, Bool.false_or, and_self, and_true, true_and, and_false, false_and, or_true, true_or, or_false, false_or, ne_eq]; done) | (simp only [c26, Int32.not_lt.mpr c26, if_true, if_false, Bool.false_eq_true, not_false_eq_true, not_true_eq_false, decide_true, decide_false, Bool.and_true, Bool.true_and, Bool.and_false, Bool.false_and, Bool.or_true, Bool.true_or, Bool.or_false, Bool.false_or, and_self, and_true, true_and, and_false, false_and, or_true, true_or, or_false, false_or, ne_eq]; rfl))
  · replace c26 : ¬ ((μ.2 4) (127 + 10 * k + 1)) ≤ ((μ.2 4) 0) := c26
    refine ax_bipush (pc := 29) (v := nI 8) G dX10_alertReason_29 ib_8 ?_
    refine ax_goto (pc := 31) (tgt := 46) G dX10_alertReason_31 rfl ?_
    exact ax_iretE (pc := 46) G E rfl (rfl) dX10_alertReason_46 (by first | (simp only [c26, Int32.not_le.mp c26, if_true, if_false, Bool.false_eq_true, not_false_eq_true, not_true_eq_false, decide_true, decide_false, Bool.and_true, Bool.true_and, Bool.and_false, Bool.false_and, Bool.or_true, Bool.true_or, Bool.or_false, Bool.false_or, and_self, and_true, true_and, and_false, false_and, or_true, true_or, or_false, false_or, ne_eq]; done) | (simp only [c26, Int32.not_le.mp c26, if_true, if_false, Bool.false_eq_true, not_false_eq_true, not_true_eq_false, decide_true, decide_false, Bool.and_true, Bool.true_and, Bool.and_false, Bool.false_and, Bool.or_true, Bool.true_or, Bool.or_false, Bool.false_or, and_self, and_true, true_and, and_false, false_and, or_true, true_or, or_false, false_or, ne_eq]; rfl)) (by first | (simp only [c26, Int32.not_le.mp c26, if_true, if_false, Bool.false_eq_true, not_false_eq_true, not_true_eq_false, decide_true, decide_false, Bool.and_true, Bool.true_and, Bool.and_false, Bool.false_and, Bool.or_true, Bool.true_or, Bool.or_false, Bool.false_or, and_self, and_true, true_and, and_false, false_and, or_true, true_or, or_false, false_or, ne_eq]; done) | (simp only [c26, Int32.not_le.mp c26, if_true, if_false, Bool.false_eq_true, not_false_eq_true, not_true_eq_false, decide_true, decide_false, Bool.and_true, Bool.true_and, Bool.and_false, Bool.false_and, Bool.or_true, Bool.true_or, Bool.or_false, Bool.false_or, and_self, and_true, true_and, and_false, false_and, or_true, true_or, or_false, false_or, ne_eq]; rfl))

theorem mq_alertReason_N {Ω : ax_O} (hA : ax_Amb Ω) {h : ax_H} {m : Nat} {μ : md_S} (hm : Ω.2.1.heap.size ≤ m) (h19 : μ.1 19 = nI 0) (k : Int32)  : ax_Met Ω yX10_alertReason 9 0 0 [.ref m, .int k] (md_H h m μ) (.inl (some (.int (nI 0)))) (md_H h m (md_si μ 0 (nI 1))) := by
  refine ax_met q3083 q142 (by decide +kernel) (by decide) hA (Nat.le_of_ble_eq_true rfl) (fun Γ G E => ?_)
  show ax_W Ω Γ 0 0 (md_H h m μ) 0 [some (.ref m), some (.int k)] []
  refine ax_aload_n (pc := 0) G dX10_alertReason_0 rfl rfl ?_
  refine ax_aload_n (pc := 1) G dX10_alertReason_1 rfl rfl ?_
  refine ax_iload_n (pc := 2) G dX10_alertReason_2 rfl rfl ?_
  refine ax_cV1 (pc := 3) (kb := 0) (nb := 0) G (mt_isAlert hA (μ := μ) k) lVX10_375_8 dX10_alertReason_3 md_obj rfl (by decide) (Nat.le_of_ble_eq_true rfl) rfl ?_
  refine ax_cV1 (pc := 6) (kb := 0) (nb := 0) G (mt_mayAskN hA (μ := μ) hm h19 (pIn k (nI 0) ((μ.2 4) 14 - nI 1))) lVX10_368_8 dX10_alertReason_6 md_obj rfl (by decide) (Nat.le_of_ble_eq_true rfl) rfl ?_
  show ax_W Ω Γ _ _ (md_H h m (md_si μ 0 (nI 1))) _ _ _
  refine ax_if_ne (pc := 9) (tgt := 14) G dX10_alertReason_9 rfl (fun c9 => absurd rfl c9) (fun _ => ?_)
  refine ax_iconst (pc := 12) (v := nI 0) G dX10_alertReason_12 ic_0 ?_
  exact ax_iretE (pc := 13) G E rfl (rfl) dX10_alertReason_13 (rfl) (rfl)

theorem mq_alertReason_B {Ω : ax_O} (hA : ax_Amb Ω) {h : ax_H} {m : Nat} {μ : md_S} (hm : Ω.2.1.heap.size ≤ m) (h19 : μ.1 19 = nI 1) (k : Int32) (hb : pIn k (nI 0) ((μ.2 4) 14 - nI 1) = false)  : ax_Met Ω yX10_alertReason 9 0 0 [.ref m, .int k] (md_H h m μ) (.inl (some (.int (nI 0)))) (md_H h m (md_si μ 0 (nI 2))) := by
  refine ax_met q3083 q142 (by decide +kernel) (by decide) hA (Nat.le_of_ble_eq_true rfl) (fun Γ G E => ?_)
  show ax_W Ω Γ 0 0 (md_H h m μ) 0 [some (.ref m), some (.int k)] []
  refine ax_aload_n (pc := 0) G dX10_alertReason_0 rfl rfl ?_
  refine ax_aload_n (pc := 1) G dX10_alertReason_1 rfl rfl ?_
  refine ax_iload_n (pc := 2) G dX10_alertReason_2 rfl rfl ?_
  refine ax_cV1 (pc := 3) (kb := 0) (nb := 0) G (mt_isAlert hA (μ := μ) k) lVX10_375_8 dX10_alertReason_3 md_obj rfl (by decide) (Nat.le_of_ble_eq_true rfl) rfl ?_
  refine ax_top (show Value.int (bI (pIn k (nI 0) ((μ.2 4) 14 - nI 1))) = .int (nI 0) from congrArg Value.int (by rw [hb]; rfl)) ?_
  refine ax_cV1 (pc := 6) (kb := 0) (nb := 0) G (mt_mayAskB hA (μ := μ) hm h19) lVX10_368_8 dX10_alertReason_6 md_obj rfl (by decide) (Nat.le_of_ble_eq_true rfl) rfl ?_
  show ax_W Ω Γ _ _ (md_H h m (md_si μ 0 (nI 2))) _ _ _
  refine ax_if_ne (pc := 9) (tgt := 14) G dX10_alertReason_9 rfl (fun c9 => absurd rfl c9) (fun _ => ?_)
  refine ax_iconst (pc := 12) (v := nI 0) G dX10_alertReason_12 ic_0 ?_
  exact ax_iretE (pc := 13) G E rfl (rfl) dX10_alertReason_13 (rfl) (rfl)

theorem mq_setting_Y {Ω : ax_O} (hA : ax_Amb Ω) {h : ax_H} {m : Nat} {μ : md_S} (hm : Ω.2.1.heap.size ≤ m) (h19 : μ.1 19 = nI 1) {P V O A : Nat} (hp : pWP (μ.2 2) P V O) (hs : pWS (μ.2 4) A) (w : Nat) (hw : w ≤ 10)  : ax_Met Ω yX10_setting 9 0 0 [.ref m, .int (nI w)] (md_H h m μ) (.inl (some (.int (if w = 5 then (μ.2 4) 15 else if w = 10 then (μ.2 4) 5 else (μ.2 2) w)))) (md_H h m (md_si μ 0 (nI 0))) := by
  refine ax_met q2884 q142 (by decide +kernel) (by decide) hA (Nat.le_of_ble_eq_true rfl) (fun Γ G E => ?_)
  show ax_W Ω Γ 0 0 (md_H h m μ) 0 [some (.ref m), some (.int (nI w))] []
  refine ax_aload_n (pc := 0) G dX10_setting_0 rfl rfl ?_
  refine ax_iload_n (pc := 1) G dX10_setting_1 rfl rfl ?_
  refine ax_iconst (pc := 2) (v := nI 0) G dX10_setting_2 ic_0 ?_
  refine ax_bipush (pc := 3) (v := nI 10) G dX10_setting_3 ib_10 ?_
  refine ax_cS1 (pc := 5) (kb := 0) (nb := 0) G (mt_in hA (nI w) (nI 0) (nI 10)) lSX10_74 dX10_setting_5 rfl (by decide) (Nat.le_of_ble_eq_true rfl) rfl ?_
  refine ax_top (show Value.int (bI (pIn (nI w) (nI 0) (nI 10))) = .int (nI 1) from congrArg Value.int (by rw [pIn_c (Nat.zero_le _) hw (by decide)]; rfl)) ?_
  refine ax_cV1 (pc := 8) (kb := 0) (nb := 0) G (mt_mayAskY hA (μ := μ) hm h19) lVX10_368_8 dX10_setting_8 md_obj rfl (by decide) (Nat.le_of_ble_eq_true rfl) rfl ?_
  show ax_W Ω Γ _ _ (md_H h m (md_si μ 0 (nI 0))) _ _ _
  refine ax_if_ne (pc := 11) (tgt := 16) G dX10_setting_11 rfl (fun _ => ?_) (fun c9 => absurd c9 (by decide))
  refine ax_iload_n (pc := 16) G dX10_setting_16 rfl rfl ?_
  refine ax_iconst (pc := 17) (v := nI 5) G dX10_setting_17 ic_5 ?_
  refine ax_icmp_neN (pc := 18) (tgt := 31) G dX10_setting_18 rfl (by omega) (by omega) (fun c18 => ?_) (fun c18 => ?_)
  · refine ax_iload_n (pc := 31) G dX10_setting_31 rfl rfl ?_
    refine ax_bipush (pc := 32) (v := nI 10) G dX10_setting_32 ib_10 ?_
    refine ax_icmp_neN (pc := 34) (tgt := 46) G dX10_setting_34 rfl (by omega) (by omega) (fun c34 => ?_) (fun c34 => ?_)
    · refine ax_aload_n (pc := 46) G dX10_setting_46 rfl rfl ?_
      refine md_get (pc := 47) (v := .ref (m + 2)) G flX10_17_8 dX10_setting_47 rfl ?_
      refine ax_iload_n (pc := 50) G dX10_setting_50 rfl rfl ?_
      refine md_ld (pc := 51) (i := w) (j := 2) G 235 dX10_setting_51 (by decide) (by decide) rfl rfl rfl (by omega) (by decide) ?_
      exact ax_iretE (pc := 52) G E rfl (rfl) dX10_setting_52 (by first | (simp only [c18, c34, if_true, if_false, Bool.false_eq_true, not_false_eq_true, not_true_eq_false, decide_true, decide_false, Bool.and_true, Bool.true_and, Bool.and_false, Bool.false_and, Bool.or_true, Bool.true_or, Bool.or_false, Bool.false_or, and_self, and_true, true_and, and_false, false_and, or_true, true_or, or_false, false_or, ne_eq]; done) | (simp only [c18, c34, if_true, if_false, Bool.false_eq_true, not_false_eq_true, not_true_eq_false, decide_true, decide_false, Bool.and_true, Bool.true_and, Bool.and_false, Bool.false_and, Bool.or_true, Bool.true_or, Bool.or_false, Bool.false_or, and_self, and_true, true_and, and_false, false_and, or_true, true_or, or_false, false_or, ne_eq]; rfl)) (by first | (simp only [c18, c34, if_true, if_false, Bool.false_eq_true, not_false_eq_true, not_true_eq_false, decide_true, decide_false, Bool.and_true, Bool.true_and, Bool.and_false, Bool.false_and, Bool.or_true, Bool.true_or, Bool.or_false, Bool.false_or, and_self, and_true, true_and, and_false, false_and, or_true, true_or, or_false, false_or, ne_eq]; done) | (simp only [c18, c34, if_true, if_false, Bool.false_eq_true, not_false_eq_true, not_true_eq_false, decide_true, decide_false, Bool.and_true, Bool.true_and, Bool.and_false, Bool.false_and, Bool.or_true, Bool.true_or, Bool.or_false, Bool.false_or, and_self, and_true, true_and, and_false, false_and, or_true, true_or, or_false, false_or, ne_eq]; rfl))
    · refine ax_aload_n (pc := 37) G dX10_setting_37 rfl rfl ?_
      refine md_get (pc := 38) (v := .ref (m + 4)) G flX10_23_8 dX10_setting_38 rfl ?_
      refine ax_iconst (pc := 41) (v := nI 5) G dX10_setting_41 ic_5 ?_
      refine md_ld (pc := 42) (i := 5) (j := 4) G 627 dX10_setting_42 (by decide) (by decide) rfl rfl rfl (by omega) (by decide) ?_
      refine ax_goto (pc := 43) (tgt := 52) G dX10_setting_43 rfl ?_
      exact ax_iretE (pc := 52) G E rfl (rfl) dX10_setting_52 (by first | (simp only [c18, c34, if_true, if_false, Bool.false_eq_true, not_false_eq_true, not_true_eq_false, decide_true, decide_false, Bool.and_true, Bool.true_and, Bool.and_false, Bool.false_and, Bool.or_true, Bool.true_or, Bool.or_false, Bool.false_or, and_self, and_true, true_and, and_false, false_and, or_true, true_or, or_false, false_or, ne_eq]; done) | (simp only [c18, c34, if_true, if_false, Bool.false_eq_true, not_false_eq_true, not_true_eq_false, decide_true, decide_false, Bool.and_true, Bool.true_and, Bool.and_false, Bool.false_and, Bool.or_true, Bool.true_or, Bool.or_false, Bool.false_or, and_self, and_true, true_and, and_false, false_and, or_true, true_or, or_false, false_or, ne_eq]; rfl)) (by first | (simp only [c18, c34, if_true, if_false, Bool.false_eq_true, not_false_eq_true, not_true_eq_false, decide_true, decide_false, Bool.and_true, Bool.true_and, Bool.and_false, Bool.false_and, Bool.or_true, Bool.true_or, Bool.or_false, Bool.false_or, and_self, and_true, true_and, and_false, false_and, or_true, true_or, or_false, false_or, ne_eq]; done) | (simp only [c18, c34, if_true, if_false, Bool.false_eq_true, not_false_eq_true, not_true_eq_false, decide_true, decide_false, Bool.and_true, Bool.true_and, Bool.and_false, Bool.false_and, Bool.or_true, Bool.true_or, Bool.or_false, Bool.false_or, and_self, and_true, true_and, and_false, false_and, or_true, true_or, or_false, false_or, ne_eq]; rfl))
  · refine ax_aload_n (pc := 21) G dX10_setting_21 rfl rfl ?_
    refine md_get (pc := 22) (v := .ref (m + 4)) G flX10_23_8 dX10_setting_22 rfl ?_
    refine ax_bipush (pc := 25) (v := nI 15) G dX10_setting_25 ib_15 ?_
    refine md_ld (pc := 27) (i := 15) (j := 4) G 627 dX10_setting_27 (by decide) (by decide) rfl rfl rfl (by omega) (by decide) ?_
    refine ax_goto (pc := 28) (tgt := 52) G dX10_setting_28 rfl ?_
    exact ax_iretE (pc := 52) G E rfl (rfl) dX10_setting_52 (by first | (simp only [c18, if_true, if_false, Bool.false_eq_true, not_false_eq_true, not_true_eq_false, decide_true, decide_false, Bool.and_true, Bool.true_and, Bool.and_false, Bool.false_and, Bool.or_true, Bool.true_or, Bool.or_false, Bool.false_or, and_self, and_true, true_and, and_false, false_and, or_true, true_or, or_false, false_or, ne_eq]; done) | (simp only [c18, if_true, if_false, Bool.false_eq_true, not_false_eq_true, not_true_eq_false, decide_true, decide_false, Bool.and_true, Bool.true_and, Bool.and_false, Bool.false_and, Bool.or_true, Bool.true_or, Bool.or_false, Bool.false_or, and_self, and_true, true_and, and_false, false_and, or_true, true_or, or_false, false_or, ne_eq]; rfl)) (by first | (simp only [c18, if_true, if_false, Bool.false_eq_true, not_false_eq_true, not_true_eq_false, decide_true, decide_false, Bool.and_true, Bool.true_and, Bool.and_false, Bool.false_and, Bool.or_true, Bool.true_or, Bool.or_false, Bool.false_or, and_self, and_true, true_and, and_false, false_and, or_true, true_or, or_false, false_or, ne_eq]; done) | (simp only [c18, if_true, if_false, Bool.false_eq_true, not_false_eq_true, not_true_eq_false, decide_true, decide_false, Bool.and_true, Bool.true_and, Bool.and_false, Bool.false_and, Bool.or_true, Bool.true_or, Bool.or_false, Bool.false_or, and_self, and_true, true_and, and_false, false_and, or_true, true_or, or_false, false_or, ne_eq]; rfl))

theorem mq_setting_N {Ω : ax_O} (hA : ax_Amb Ω) {h : ax_H} {m : Nat} {μ : md_S} (hm : Ω.2.1.heap.size ≤ m) (h19 : μ.1 19 = nI 0) (w : Int32)  : ax_Met Ω yX10_setting 9 0 0 [.ref m, .int w] (md_H h m μ) (.inl (some (.int (nI 0)))) (md_H h m (md_si μ 0 (nI 1))) := by
  refine ax_met q2884 q142 (by decide +kernel) (by decide) hA (Nat.le_of_ble_eq_true rfl) (fun Γ G E => ?_)
  show ax_W Ω Γ 0 0 (md_H h m μ) 0 [some (.ref m), some (.int w)] []
  refine ax_aload_n (pc := 0) G dX10_setting_0 rfl rfl ?_
  refine ax_iload_n (pc := 1) G dX10_setting_1 rfl rfl ?_
  refine ax_iconst (pc := 2) (v := nI 0) G dX10_setting_2 ic_0 ?_
  refine ax_bipush (pc := 3) (v := nI 10) G dX10_setting_3 ib_10 ?_
  refine ax_cS1 (pc := 5) (kb := 0) (nb := 0) G (mt_in hA w (nI 0) (nI 10)) lSX10_74 dX10_setting_5 rfl (by decide) (Nat.le_of_ble_eq_true rfl) rfl ?_
  refine ax_cV1 (pc := 8) (kb := 0) (nb := 0) G (mt_mayAskN hA (μ := μ) hm h19 (pIn w (nI 0) (nI 10))) lVX10_368_8 dX10_setting_8 md_obj rfl (by decide) (Nat.le_of_ble_eq_true rfl) rfl ?_
  show ax_W Ω Γ _ _ (md_H h m (md_si μ 0 (nI 1))) _ _ _
  refine ax_if_ne (pc := 11) (tgt := 16) G dX10_setting_11 rfl (fun c9 => absurd rfl c9) (fun _ => ?_)
  refine ax_iconst (pc := 14) (v := nI 0) G dX10_setting_14 ic_0 ?_
  exact ax_iretE (pc := 15) G E rfl (rfl) dX10_setting_15 (rfl) (rfl)

theorem mq_setting_B {Ω : ax_O} (hA : ax_Amb Ω) {h : ax_H} {m : Nat} {μ : md_S} (hm : Ω.2.1.heap.size ≤ m) (h19 : μ.1 19 = nI 1) (w : Int32) (hb : pIn w (nI 0) (nI 10) = false)  : ax_Met Ω yX10_setting 9 0 0 [.ref m, .int w] (md_H h m μ) (.inl (some (.int (nI 0)))) (md_H h m (md_si μ 0 (nI 2))) := by
  refine ax_met q2884 q142 (by decide +kernel) (by decide) hA (Nat.le_of_ble_eq_true rfl) (fun Γ G E => ?_)
  show ax_W Ω Γ 0 0 (md_H h m μ) 0 [some (.ref m), some (.int w)] []
  refine ax_aload_n (pc := 0) G dX10_setting_0 rfl rfl ?_
  refine ax_iload_n (pc := 1) G dX10_setting_1 rfl rfl ?_
  refine ax_iconst (pc := 2) (v := nI 0) G dX10_setting_2 ic_0 ?_
  refine ax_bipush (pc := 3) (v := nI 10) G dX10_setting_3 ib_10 ?_
  refine ax_cS1 (pc := 5) (kb := 0) (nb := 0) G (mt_in hA w (nI 0) (nI 10)) lSX10_74 dX10_setting_5 rfl (by decide) (Nat.le_of_ble_eq_true rfl) rfl ?_
  refine ax_top (show Value.int (bI (pIn w (nI 0) (nI 10))) = .int (nI 0) from congrArg Value.int (by rw [hb]; rfl)) ?_
  refine ax_cV1 (pc := 8) (kb := 0) (nb := 0) G (mt_mayAskB hA (μ := μ) hm h19) lVX10_368_8 dX10_setting_8 md_obj rfl (by decide) (Nat.le_of_ble_eq_true rfl) rfl ?_
  show ax_W Ω Γ _ _ (md_H h m (md_si μ 0 (nI 2))) _ _ _
  refine ax_if_ne (pc := 11) (tgt := 16) G dX10_setting_11 rfl (fun c9 => absurd rfl c9) (fun _ => ?_)
  refine ax_iconst (pc := 14) (v := nI 0) G dX10_setting_14 ic_0 ?_
  exact ax_iretE (pc := 15) G E rfl (rfl) dX10_setting_15 (rfl) (rfl)

theorem mq_proposals_Y {Ω : ax_O} (hA : ax_Amb Ω) {h : ax_H} {m : Nat} {μ : md_S} (hm : Ω.2.1.heap.size ≤ m) (h19 : μ.1 19 = nI 1)  : ax_Met Ω yX10_proposals 9 0 0 [.ref m] (md_H h m μ) (.inl (some (.int ((μ.2 2) 10)))) (md_H h m (md_si μ 0 (nI 0))) := by
  refine ax_met q2773 q142 (by decide +kernel) (by decide) hA (Nat.le_of_ble_eq_true rfl) (fun Γ G E => ?_)
  show ax_W Ω Γ 0 0 (md_H h m μ) 0 [some (.ref m)] []
  refine ax_aload_n (pc := 0) G dX10_proposals_0 rfl rfl ?_
  refine ax_aload_n (pc := 1) G dX10_proposals_1 rfl rfl ?_
  refine md_get (pc := 2) (v := .ref (m + 2)) G flX10_17_8 dX10_proposals_2 rfl ?_
  refine ax_bipush (pc := 5) (v := nI 10) G dX10_proposals_5 ib_10 ?_
  refine md_ld (pc := 7) (i := 10) (j := 2) G 235 dX10_proposals_7 (by decide) (by decide) rfl rfl rfl (by omega) (by decide) ?_
  refine ax_cV1 (pc := 8) (kb := 0) (nb := 0) G (mt_toldY hA (μ := μ) hm h19 ((μ.2 2) 10)) lVX10_355_8 dX10_proposals_8 md_obj rfl (by decide) (Nat.le_of_ble_eq_true rfl) rfl ?_
  show ax_W Ω Γ _ _ (md_H h m (md_si μ 0 (nI 0))) _ _ _
  exact ax_iretE (pc := 11) G E rfl (rfl) dX10_proposals_11 (rfl) (rfl)

theorem mq_proposals_N {Ω : ax_O} (hA : ax_Amb Ω) {h : ax_H} {m : Nat} {μ : md_S} (hm : Ω.2.1.heap.size ≤ m) (h19 : μ.1 19 = nI 0)  : ax_Met Ω yX10_proposals 9 0 0 [.ref m] (md_H h m μ) (.inl (some (.int (nI 0)))) (md_H h m (md_si μ 0 (nI 0))) := by
  refine ax_met q2773 q142 (by decide +kernel) (by decide) hA (Nat.le_of_ble_eq_true rfl) (fun Γ G E => ?_)
  show ax_W Ω Γ 0 0 (md_H h m μ) 0 [some (.ref m)] []
  refine ax_aload_n (pc := 0) G dX10_proposals_0 rfl rfl ?_
  refine ax_aload_n (pc := 1) G dX10_proposals_1 rfl rfl ?_
  refine md_get (pc := 2) (v := .ref (m + 2)) G flX10_17_8 dX10_proposals_2 rfl ?_
  refine ax_bipush (pc := 5) (v := nI 10) G dX10_proposals_5 ib_10 ?_
  refine md_ld (pc := 7) (i := 10) (j := 2) G 235 dX10_proposals_7 (by decide) (by decide) rfl rfl rfl (by omega) (by decide) ?_
  refine ax_cV1 (pc := 8) (kb := 0) (nb := 0) G (mt_toldN hA (μ := μ) hm h19 ((μ.2 2) 10)) lVX10_355_8 dX10_proposals_8 md_obj rfl (by decide) (Nat.le_of_ble_eq_true rfl) rfl ?_
  show ax_W Ω Γ _ _ (md_H h m (md_si μ 0 (nI 0))) _ _ _
  exact ax_iretE (pc := 11) G E rfl (rfl) dX10_proposals_11 (rfl) (rfl)

theorem mq_visits_Y {Ω : ax_O} (hA : ax_Amb Ω) {h : ax_H} {m : Nat} {μ : md_S} (hm : Ω.2.1.heap.size ≤ m) (h19 : μ.1 19 = nI 1)  : ax_Met Ω yX10_visits 9 0 0 [.ref m] (md_H h m μ) (.inl (some (.int ((μ.2 2) 65)))) (md_H h m (md_si μ 0 (nI 0))) := by
  refine ax_met q2816 q142 (by decide +kernel) (by decide) hA (Nat.le_of_ble_eq_true rfl) (fun Γ G E => ?_)
  show ax_W Ω Γ 0 0 (md_H h m μ) 0 [some (.ref m)] []
  refine ax_aload_n (pc := 0) G dX10_visits_0 rfl rfl ?_
  refine ax_aload_n (pc := 1) G dX10_visits_1 rfl rfl ?_
  refine md_get (pc := 2) (v := .ref (m + 2)) G flX10_17_8 dX10_visits_2 rfl ?_
  refine ax_bipush (pc := 5) (v := nI 65) G dX10_visits_5 ib_65 ?_
  refine md_ld (pc := 7) (i := 65) (j := 2) G 235 dX10_visits_7 (by decide) (by decide) rfl rfl rfl (by omega) (by decide) ?_
  refine ax_cV1 (pc := 8) (kb := 0) (nb := 0) G (mt_toldY hA (μ := μ) hm h19 ((μ.2 2) 65)) lVX10_355_8 dX10_visits_8 md_obj rfl (by decide) (Nat.le_of_ble_eq_true rfl) rfl ?_
  show ax_W Ω Γ _ _ (md_H h m (md_si μ 0 (nI 0))) _ _ _
  exact ax_iretE (pc := 11) G E rfl (rfl) dX10_visits_11 (rfl) (rfl)

theorem mq_visits_N {Ω : ax_O} (hA : ax_Amb Ω) {h : ax_H} {m : Nat} {μ : md_S} (hm : Ω.2.1.heap.size ≤ m) (h19 : μ.1 19 = nI 0)  : ax_Met Ω yX10_visits 9 0 0 [.ref m] (md_H h m μ) (.inl (some (.int (nI 0)))) (md_H h m (md_si μ 0 (nI 0))) := by
  refine ax_met q2816 q142 (by decide +kernel) (by decide) hA (Nat.le_of_ble_eq_true rfl) (fun Γ G E => ?_)
  show ax_W Ω Γ 0 0 (md_H h m μ) 0 [some (.ref m)] []
  refine ax_aload_n (pc := 0) G dX10_visits_0 rfl rfl ?_
  refine ax_aload_n (pc := 1) G dX10_visits_1 rfl rfl ?_
  refine md_get (pc := 2) (v := .ref (m + 2)) G flX10_17_8 dX10_visits_2 rfl ?_
  refine ax_bipush (pc := 5) (v := nI 65) G dX10_visits_5 ib_65 ?_
  refine md_ld (pc := 7) (i := 65) (j := 2) G 235 dX10_visits_7 (by decide) (by decide) rfl rfl rfl (by omega) (by decide) ?_
  refine ax_cV1 (pc := 8) (kb := 0) (nb := 0) G (mt_toldN hA (μ := μ) hm h19 ((μ.2 2) 65)) lVX10_355_8 dX10_visits_8 md_obj rfl (by decide) (Nat.le_of_ble_eq_true rfl) rfl ?_
  show ax_W Ω Γ _ _ (md_H h m (md_si μ 0 (nI 0))) _ _ _
  exact ax_iretE (pc := 11) G E rfl (rfl) dX10_visits_11 (rfl) (rfl)

theorem mq_alerts_Y {Ω : ax_O} (hA : ax_Amb Ω) {h : ax_H} {m : Nat} {μ : md_S} (hm : Ω.2.1.heap.size ≤ m) (h19 : μ.1 19 = nI 1)  : ax_Met Ω yX10_alerts 9 0 0 [.ref m] (md_H h m μ) (.inl (some (.int ((μ.2 4) 14)))) (md_H h m (md_si μ 0 (nI 0))) := by
  refine ax_met q2840 q142 (by decide +kernel) (by decide) hA (Nat.le_of_ble_eq_true rfl) (fun Γ G E => ?_)
  show ax_W Ω Γ 0 0 (md_H h m μ) 0 [some (.ref m)] []
  refine ax_aload_n (pc := 0) G dX10_alerts_0 rfl rfl ?_
  refine ax_aload_n (pc := 1) G dX10_alerts_1 rfl rfl ?_
  refine md_get (pc := 2) (v := .ref (m + 4)) G flX10_23_8 dX10_alerts_2 rfl ?_
  refine ax_bipush (pc := 5) (v := nI 14) G dX10_alerts_5 ib_14 ?_
  refine md_ld (pc := 7) (i := 14) (j := 4) G 627 dX10_alerts_7 (by decide) (by decide) rfl rfl rfl (by omega) (by decide) ?_
  refine ax_cV1 (pc := 8) (kb := 0) (nb := 0) G (mt_toldY hA (μ := μ) hm h19 ((μ.2 4) 14)) lVX10_355_8 dX10_alerts_8 md_obj rfl (by decide) (Nat.le_of_ble_eq_true rfl) rfl ?_
  show ax_W Ω Γ _ _ (md_H h m (md_si μ 0 (nI 0))) _ _ _
  exact ax_iretE (pc := 11) G E rfl (rfl) dX10_alerts_11 (rfl) (rfl)

theorem mq_alerts_N {Ω : ax_O} (hA : ax_Amb Ω) {h : ax_H} {m : Nat} {μ : md_S} (hm : Ω.2.1.heap.size ≤ m) (h19 : μ.1 19 = nI 0)  : ax_Met Ω yX10_alerts 9 0 0 [.ref m] (md_H h m μ) (.inl (some (.int (nI 0)))) (md_H h m (md_si μ 0 (nI 0))) := by
  refine ax_met q2840 q142 (by decide +kernel) (by decide) hA (Nat.le_of_ble_eq_true rfl) (fun Γ G E => ?_)
  show ax_W Ω Γ 0 0 (md_H h m μ) 0 [some (.ref m)] []
  refine ax_aload_n (pc := 0) G dX10_alerts_0 rfl rfl ?_
  refine ax_aload_n (pc := 1) G dX10_alerts_1 rfl rfl ?_
  refine md_get (pc := 2) (v := .ref (m + 4)) G flX10_23_8 dX10_alerts_2 rfl ?_
  refine ax_bipush (pc := 5) (v := nI 14) G dX10_alerts_5 ib_14 ?_
  refine md_ld (pc := 7) (i := 14) (j := 4) G 627 dX10_alerts_7 (by decide) (by decide) rfl rfl rfl (by omega) (by decide) ?_
  refine ax_cV1 (pc := 8) (kb := 0) (nb := 0) G (mt_toldN hA (μ := μ) hm h19 ((μ.2 4) 14)) lVX10_355_8 dX10_alerts_8 md_obj rfl (by decide) (Nat.le_of_ble_eq_true rfl) rfl ?_
  show ax_W Ω Γ _ _ (md_H h m (md_si μ 0 (nI 0))) _ _ _
  exact ax_iretE (pc := 11) G E rfl (rfl) dX10_alerts_11 (rfl) (rfl)

theorem mq_entries_Y {Ω : ax_O} (hA : ax_Amb Ω) {h : ax_H} {m : Nat} {μ : md_S} (hm : Ω.2.1.heap.size ≤ m) (h19 : μ.1 19 = nI 1)  : ax_Met Ω yX10_entries 9 0 0 [.ref m] (md_H h m μ) (.inl (some (.int ((μ.2 4) 16)))) (md_H h m (md_si μ 0 (nI 0))) := by
  refine ax_met q3111 q142 (by decide +kernel) (by decide) hA (Nat.le_of_ble_eq_true rfl) (fun Γ G E => ?_)
  show ax_W Ω Γ 0 0 (md_H h m μ) 0 [some (.ref m)] []
  refine ax_aload_n (pc := 0) G dX10_entries_0 rfl rfl ?_
  refine ax_aload_n (pc := 1) G dX10_entries_1 rfl rfl ?_
  refine md_get (pc := 2) (v := .ref (m + 4)) G flX10_23_8 dX10_entries_2 rfl ?_
  refine ax_bipush (pc := 5) (v := nI 16) G dX10_entries_5 ib_16 ?_
  refine md_ld (pc := 7) (i := 16) (j := 4) G 627 dX10_entries_7 (by decide) (by decide) rfl rfl rfl (by omega) (by decide) ?_
  refine ax_cV1 (pc := 8) (kb := 0) (nb := 0) G (mt_toldY hA (μ := μ) hm h19 ((μ.2 4) 16)) lVX10_355_8 dX10_entries_8 md_obj rfl (by decide) (Nat.le_of_ble_eq_true rfl) rfl ?_
  show ax_W Ω Γ _ _ (md_H h m (md_si μ 0 (nI 0))) _ _ _
  exact ax_iretE (pc := 11) G E rfl (rfl) dX10_entries_11 (rfl) (rfl)

theorem mq_entries_N {Ω : ax_O} (hA : ax_Amb Ω) {h : ax_H} {m : Nat} {μ : md_S} (hm : Ω.2.1.heap.size ≤ m) (h19 : μ.1 19 = nI 0)  : ax_Met Ω yX10_entries 9 0 0 [.ref m] (md_H h m μ) (.inl (some (.int (nI 0)))) (md_H h m (md_si μ 0 (nI 0))) := by
  refine ax_met q3111 q142 (by decide +kernel) (by decide) hA (Nat.le_of_ble_eq_true rfl) (fun Γ G E => ?_)
  show ax_W Ω Γ 0 0 (md_H h m μ) 0 [some (.ref m)] []
  refine ax_aload_n (pc := 0) G dX10_entries_0 rfl rfl ?_
  refine ax_aload_n (pc := 1) G dX10_entries_1 rfl rfl ?_
  refine md_get (pc := 2) (v := .ref (m + 4)) G flX10_23_8 dX10_entries_2 rfl ?_
  refine ax_bipush (pc := 5) (v := nI 16) G dX10_entries_5 ib_16 ?_
  refine md_ld (pc := 7) (i := 16) (j := 4) G 627 dX10_entries_7 (by decide) (by decide) rfl rfl rfl (by omega) (by decide) ?_
  refine ax_cV1 (pc := 8) (kb := 0) (nb := 0) G (mt_toldN hA (μ := μ) hm h19 ((μ.2 4) 16)) lVX10_355_8 dX10_entries_8 md_obj rfl (by decide) (Nat.le_of_ble_eq_true rfl) rfl ?_
  show ax_W Ω Γ _ _ (md_H h m (md_si μ 0 (nI 0))) _ _ _
  exact ax_iretE (pc := 11) G E rfl (rfl) dX10_entries_11 (rfl) (rfl)

theorem mq_buffered {Ω : ax_O} (hA : ax_Amb Ω) {h : ax_H} {m : Nat} {μ : md_S} (hm : Ω.2.1.heap.size ≤ m)  : ax_Met Ω yX10_buffered 9 0 0 [.ref m] (md_H h m μ) (.inl (some (.int (μ.1 2)))) (md_H h m (md_si μ 0 (nI 0))) := by
  refine ax_met q2647 q142 (by decide +kernel) (by decide) hA (Nat.le_of_ble_eq_true rfl) (fun Γ G E => ?_)
  show ax_W Ω Γ 0 0 (md_H h m μ) 0 [some (.ref m)] []
  refine ax_aload_n (pc := 0) G dX10_buffered_0 rfl rfl ?_
  refine ax_iconst (pc := 1) (v := nI 0) G dX10_buffered_1 ic_0 ?_
  refine md_put (pc := 2) G flX10_45_8 dX10_buffered_2 hm (by decide) (rfl) rfl rfl ?_
  refine ax_aload_n (pc := 5) G dX10_buffered_5 rfl rfl ?_
  refine md_get (pc := 6) (v := .int (μ.1 2)) G flX10_48_8 dX10_buffered_6 rfl ?_
  exact ax_iretE (pc := 9) G E rfl (rfl) dX10_buffered_9 (rfl) (rfl)

theorem mq_parseError {Ω : ax_O} (hA : ax_Amb Ω) {h : ax_H} {m : Nat} {μ : md_S} (hm : Ω.2.1.heap.size ≤ m)  : ax_Met Ω yX10_parseError 9 0 0 [.ref m] (md_H h m μ) (.inl (some (.int (μ.1 5)))) (md_H h m (md_si μ 0 (nI 0))) := by
  refine ax_met q2651 q142 (by decide +kernel) (by decide) hA (Nat.le_of_ble_eq_true rfl) (fun Γ G E => ?_)
  show ax_W Ω Γ 0 0 (md_H h m μ) 0 [some (.ref m)] []
  refine ax_aload_n (pc := 0) G dX10_parseError_0 rfl rfl ?_
  refine ax_iconst (pc := 1) (v := nI 0) G dX10_parseError_1 ic_0 ?_
  refine md_put (pc := 2) G flX10_45_8 dX10_parseError_2 hm (by decide) (rfl) rfl rfl ?_
  refine ax_aload_n (pc := 5) G dX10_parseError_5 rfl rfl ?_
  refine md_get (pc := 6) (v := .int (μ.1 5)) G flX10_55_8 dX10_parseError_6 rfl ?_
  exact ax_iretE (pc := 9) G E rfl (rfl) dX10_parseError_9 (rfl) (rfl)

theorem mq_errorPosition {Ω : ax_O} (hA : ax_Amb Ω) {h : ax_H} {m : Nat} {μ : md_S} (hm : Ω.2.1.heap.size ≤ m)  : ax_Met Ω yX10_errorPosition 9 0 0 [.ref m] (md_H h m μ) (.inl (some (.int (μ.1 6)))) (md_H h m (md_si μ 0 (nI 0))) := by
  refine ax_met q2655 q142 (by decide +kernel) (by decide) hA (Nat.le_of_ble_eq_true rfl) (fun Γ G E => ?_)
  show ax_W Ω Γ 0 0 (md_H h m μ) 0 [some (.ref m)] []
  refine ax_aload_n (pc := 0) G dX10_errorPosition_0 rfl rfl ?_
  refine ax_iconst (pc := 1) (v := nI 0) G dX10_errorPosition_1 ic_0 ?_
  refine md_put (pc := 2) G flX10_45_8 dX10_errorPosition_2 hm (by decide) (rfl) rfl rfl ?_
  refine ax_aload_n (pc := 5) G dX10_errorPosition_5 rfl rfl ?_
  refine md_get (pc := 6) (v := .int (μ.1 6)) G flX10_13_8 dX10_errorPosition_6 rfl ?_
  exact ax_iretE (pc := 9) G E rfl (rfl) dX10_errorPosition_9 (rfl) (rfl)

theorem mq_undoable {Ω : ax_O} (hA : ax_Amb Ω) {h : ax_H} {m : Nat} {μ : md_S} (hm : Ω.2.1.heap.size ≤ m)  : ax_Met Ω yX10_undoable 9 0 0 [.ref m] (md_H h m μ) (.inl (some (.int (μ.1 18)))) (md_H h m (md_si μ 0 (nI 0))) := by
  refine ax_met q3229 q142 (by decide +kernel) (by decide) hA (Nat.le_of_ble_eq_true rfl) (fun Γ G E => ?_)
  show ax_W Ω Γ 0 0 (md_H h m μ) 0 [some (.ref m)] []
  refine ax_aload_n (pc := 0) G dX10_undoable_0 rfl rfl ?_
  refine ax_iconst (pc := 1) (v := nI 0) G dX10_undoable_1 ic_0 ?_
  refine md_put (pc := 2) G flX10_45_8 dX10_undoable_2 hm (by decide) (rfl) rfl rfl ?_
  refine ax_aload_n (pc := 5) G dX10_undoable_5 rfl rfl ?_
  refine md_get (pc := 6) (v := .int (μ.1 18)) G flX10_197_8 dX10_undoable_6 rfl ?_
  exact ax_iretE (pc := 9) G E rfl (rfl) dX10_undoable_9 (rfl) (rfl)

theorem mq_thrown {Ω : ax_O} (hA : ax_Amb Ω) {h : ax_H} {m : Nat} {μ : md_S}  : ax_Met Ω yX10_thrown 9 0 0 [.ref m] (md_H h m μ) (.inl (some (.int (μ.1 0)))) (md_H h m μ) := by
  refine ax_met q2635 q142 (by decide +kernel) (by decide) hA (Nat.le_of_ble_eq_true rfl) (fun Γ G E => ?_)
  show ax_W Ω Γ 0 0 (md_H h m μ) 0 [some (.ref m)] []
  refine ax_aload_n (pc := 0) G dX10_thrown_0 rfl rfl ?_
  refine md_get (pc := 1) (v := .int (μ.1 0)) G flX10_45_8 dX10_thrown_1 rfl ?_
  exact ax_iretE (pc := 4) G E rfl (rfl) dX10_thrown_4 (rfl) (rfl)

