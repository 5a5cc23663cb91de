/-! THE MODEL: shares -/
theorem mt_shareOf {Ω : ax_O} (hA : ax_Amb Ω) {h : ax_H} {m : Nat} {μ : md_S} (hm : Ω.2.1.heap.size ≤ m) (k : Nat) (hk : k < 6) (hd9 : ¬ (μ.2 4) (17 + k) = 0 → vf_n32 (FP.fdiv (FP.i2f ((μ.2 4) (23 + k))) (FP.i2f ((μ.2 4) (17 + k)))))  : ax_Met Ω yX10_shareOf 1 0 0 [.ref m, .int (nI k)] (md_H h m μ) (.inl (some (.float (cShare (μ.2 4) k)))) (md_H h m μ) := by
  refine ax_met q3103 q142 (by decide +kernel) (by decide) hA (Nat.le_of_ble_eq_true rfl) (fun Γ G E => ?_)
  show ax_W Ω Γ 0 0 (md_H h m μ) 0 [some (.ref m), some (.int (nI k))] []
  refine ax_aload_n (pc := 0) G dX10_shareOf_0 rfl rfl ?_
  refine md_get (pc := 1) (v := .ref (m + 4)) G flX10_23_8 dX10_shareOf_1 rfl ?_
  refine ax_bipush (pc := 4) (v := nI 17) G dX10_shareOf_4 ib_17 ?_
  refine ax_iload_n (pc := 6) G dX10_shareOf_6 rfl rfl ?_
  refine ax_iaddN (pc := 7) G dX10_shareOf_7 ?_
  refine md_ld (pc := 8) (i := 17 + k) (j := 4) G 627 dX10_shareOf_8 (by decide) (by decide) rfl rfl rfl (by omega) (by decide) ?_
  refine ax_if_ne (pc := 9) (tgt := 16) G dX10_shareOf_9 rfl (fun c9 => ?_) (fun c9 => ?_)
  · refine ax_aload_n (pc := 16) G dX10_shareOf_16 rfl rfl ?_
    refine md_get (pc := 17) (v := .ref (m + 4)) G flX10_23_8 dX10_shareOf_17 rfl ?_
    refine ax_bipush (pc := 20) (v := nI 23) G dX10_shareOf_20 ib_23 ?_
    refine ax_iload_n (pc := 22) G dX10_shareOf_22 rfl rfl ?_
    refine ax_iaddN (pc := 23) G dX10_shareOf_23 ?_
    refine md_ld (pc := 24) (i := 23 + k) (j := 4) G 627 dX10_shareOf_24 (by decide) (by decide) rfl rfl rfl (by omega) (by decide) ?_
    refine ax_i2f (pc := 25) G dX10_shareOf_25 ?_
    refine ax_aload_n (pc := 26) G dX10_shareOf_26 rfl rfl ?_
    refine md_get (pc := 27) (v := .ref (m + 4)) G flX10_23_8 dX10_shareOf_27 rfl ?_
    refine ax_bipush (pc := 30) (v := nI 17) G dX10_shareOf_30 ib_17 ?_
    refine ax_iload_n (pc := 32) G dX10_shareOf_32 rfl rfl ?_
    refine ax_iaddN (pc := 33) G dX10_shareOf_33 ?_
    refine md_ld (pc := 34) (i := 17 + k) (j := 4) G 627 dX10_shareOf_34 (by decide) (by decide) rfl rfl rfl (by omega) (by decide) ?_
    refine ax_i2f (pc := 35) G dX10_shareOf_35 ?_
    refine ax_fdiv (pc := 36) G dX10_shareOf_36 (hd9 (by assumption)) ?_
    exact ax_fretE (pc := 37) G E rfl dX10_shareOf_37 (by rw [cShare, if_neg ‹_›]) (rfl)
  · refine ax_fconst0 (pc := 12) G dX10_shareOf_12 ?_
    refine ax_goto (pc := 13) (tgt := 37) G dX10_shareOf_13 rfl ?_
    exact ax_fretE (pc := 37) G E rfl dX10_shareOf_37 (by rw [cShare, if_pos ‹_›]) (rfl)

theorem mq_share_Y {Ω : ax_O} (hA : ax_Amb Ω) {h : ax_H} {m : Nat} {μ : md_S} (hm : Ω.2.1.heap.size ≤ m) (h19 : μ.1 19 = nI 1) {P V O : Nat} (hp : pWP (μ.2 2) P V O) (k : Nat) (hk : k < P) (hd9 : ¬ (μ.2 4) (17 + k) = 0 → vf_n32 (FP.fdiv (FP.i2f ((μ.2 4) (23 + k))) (FP.i2f ((μ.2 4) (17 + k)))))  : ax_Met Ω yX10_share 9 0 0 [.ref m, .int (nI k)] (md_H h m μ) (.inl (some (.float (cShare (μ.2 4) k)))) (md_H h m (md_si μ 0 (nI 0))) := by
  refine ax_met q3099 q142 (by decide +kernel) (by decide) hA (Nat.le_of_ble_eq_true rfl) (fun Γ G E => ?_)
  have hl_k := hp.lP
  show ax_W Ω Γ 0 0 (md_H h m μ) 0 [some (.ref m), some (.int (nI k))] []
  refine ax_aload_n (pc := 0) G dX10_share_0 rfl rfl ?_
  refine ax_aload_n (pc := 1) G dX10_share_1 rfl rfl ?_
  refine ax_iload_n (pc := 2) G dX10_share_2 rfl rfl ?_
  refine ax_cV1 (pc := 3) (kb := 0) (nb := 0) G (mt_isProposal hA (μ := μ) (nI k)) lVX10_358_8 dX10_share_3 md_obj rfl (by decide) (Nat.le_of_ble_eq_true rfl) rfl ?_
  refine ax_top (show Value.int (bI (pIn (nI k) (nI 0) ((μ.2 2) 10 - nI 1))) = .int (nI 1) from congrArg Value.int (by rw [pIn_k hp.hP hk (by have := hp.lP; omega)]; rfl)) ?_
  refine ax_cV1 (pc := 6) (kb := 0) (nb := 0) G (mt_mayAskY hA (μ := μ) hm h19) lVX10_368_8 dX10_share_6 md_obj rfl (by decide) (Nat.le_of_ble_eq_true rfl) rfl ?_
  show ax_W Ω Γ _ _ (md_H h m (md_si μ 0 (nI 0))) _ _ _
  refine ax_if_eq (pc := 9) (tgt := 20) G dX10_share_9 rfl (fun c9 => absurd c9 (by decide)) (fun _ => ?_)
  refine ax_aload_n (pc := 12) G dX10_share_12 rfl rfl ?_
  refine ax_iload_n (pc := 13) G dX10_share_13 rfl rfl ?_
  refine ax_cV1 (pc := 14) (kb := 0) (nb := 0) G (mt_shareOf hA (μ := (md_si μ 0 (nI 0))) hm k (by omega) hd9) lVX10_387_8 dX10_share_14 md_obj rfl (by decide) (Nat.le_of_ble_eq_true rfl) rfl ?_
  refine ax_goto (pc := 17) (tgt := 21) G dX10_share_17 rfl ?_
  exact ax_fretE (pc := 21) G E rfl dX10_share_21 (rfl) (rfl)

theorem mq_share_N {Ω : ax_O} (hA : ax_Amb Ω) {h : ax_H} {m : Nat} {μ : md_S} (hm : Ω.2.1.heap.size ≤ m) (h19 : μ.1 19 = nI 0) (k : Int32)  : ax_Met Ω yX10_share 9 0 0 [.ref m, .int k] (md_H h m μ) (.inl (some (.float FP.fconst0))) (md_H h m (md_si μ 0 (nI 1))) := by
  refine ax_met q3099 q142 (by decide +kernel) (by decide) hA (Nat.le_of_ble_eq_true rfl) (fun Γ G E => ?_)
  show ax_W Ω Γ 0 0 (md_H h m μ) 0 [some (.ref m), some (.int k)] []
  refine ax_aload_n (pc := 0) G dX10_share_0 rfl rfl ?_
  refine ax_aload_n (pc := 1) G dX10_share_1 rfl rfl ?_
  refine ax_iload_n (pc := 2) G dX10_share_2 rfl rfl ?_
  refine ax_cV1 (pc := 3) (kb := 0) (nb := 0) G (mt_isProposal hA (μ := μ) k) lVX10_358_8 dX10_share_3 md_obj rfl (by decide) (Nat.le_of_ble_eq_true rfl) rfl ?_
  refine ax_cV1 (pc := 6) (kb := 0) (nb := 0) G (mt_mayAskN hA (μ := μ) hm h19 (pIn k (nI 0) ((μ.2 2) 10 - nI 1))) lVX10_368_8 dX10_share_6 md_obj rfl (by decide) (Nat.le_of_ble_eq_true rfl) rfl ?_
  show ax_W Ω Γ _ _ (md_H h m (md_si μ 0 (nI 1))) _ _ _
  refine ax_if_eq (pc := 9) (tgt := 20) G dX10_share_9 rfl (fun _ => ?_) (fun c9 => absurd rfl c9)
  refine ax_fconst0 (pc := 20) G dX10_share_20 ?_
  exact ax_fretE (pc := 21) G E rfl dX10_share_21 (rfl) (rfl)

theorem mq_share_B {Ω : ax_O} (hA : ax_Amb Ω) {h : ax_H} {m : Nat} {μ : md_S} (hm : Ω.2.1.heap.size ≤ m) (h19 : μ.1 19 = nI 1) (k : Int32) (hb : pIn k (nI 0) ((μ.2 2) 10 - nI 1) = false)  : ax_Met Ω yX10_share 9 0 0 [.ref m, .int k] (md_H h m μ) (.inl (some (.float FP.fconst0))) (md_H h m (md_si μ 0 (nI 2))) := by
  refine ax_met q3099 q142 (by decide +kernel) (by decide) hA (Nat.le_of_ble_eq_true rfl) (fun Γ G E => ?_)
  show ax_W Ω Γ 0 0 (md_H h m μ) 0 [some (.ref m), some (.int k)] []
  refine ax_aload_n (pc := 0) G dX10_share_0 rfl rfl ?_
  refine ax_aload_n (pc := 1) G dX10_share_1 rfl rfl ?_
  refine ax_iload_n (pc := 2) G dX10_share_2 rfl rfl ?_
  refine ax_cV1 (pc := 3) (kb := 0) (nb := 0) G (mt_isProposal hA (μ := μ) k) lVX10_358_8 dX10_share_3 md_obj rfl (by decide) (Nat.le_of_ble_eq_true rfl) rfl ?_
  refine ax_top (show Value.int (bI (pIn k (nI 0) ((μ.2 2) 10 - nI 1))) = .int (nI 0) from congrArg Value.int (by rw [hb]; rfl)) ?_
  refine ax_cV1 (pc := 6) (kb := 0) (nb := 0) G (mt_mayAskB hA (μ := μ) hm h19) lVX10_368_8 dX10_share_6 md_obj rfl (by decide) (Nat.le_of_ble_eq_true rfl) rfl ?_
  show ax_W Ω Γ _ _ (md_H h m (md_si μ 0 (nI 2))) _ _ _
  refine ax_if_eq (pc := 9) (tgt := 20) G dX10_share_9 rfl (fun _ => ?_) (fun c9 => absurd rfl c9)
  refine ax_fconst0 (pc := 20) G dX10_share_20 ?_
  exact ax_fretE (pc := 21) G E rfl dX10_share_21 (rfl) (rfl)

theorem mq_spread_N {Ω : ax_O} (hA : ax_Amb Ω) {h : ax_H} {m : Nat} {μ : md_S} (hm : Ω.2.1.heap.size ≤ m) (h19 : μ.1 19 = nI 0)  : ax_Met Ω yX10_spread 9 0 0 [.ref m] (md_H h m μ) (.inl (some (.float FP.fconst0))) (md_H h m (md_si μ 0 (nI 1))) := by
  refine ax_met q3107 q142 (by decide +kernel) (by decide) hA (Nat.le_of_ble_eq_true rfl) (fun Γ G E => ?_)
  show ax_W Ω Γ 0 0 (md_H h m μ) 0 [some (.ref m), none, none, none, none] []
  refine ax_aload_n (pc := 0) G dX10_spread_0 rfl rfl ?_
  refine ax_iconst (pc := 1) (v := nI 1) G dX10_spread_1 ic_1 ?_
  refine ax_cV1 (pc := 2) (kb := 0) (nb := 0) G (mt_mayAskN hA (μ := μ) hm h19 true) lVX10_368_8 dX10_spread_2 md_obj rfl (by decide) (Nat.le_of_ble_eq_true rfl) rfl ?_
  show ax_W Ω Γ _ _ (md_H h m (md_si μ 0 (nI 1))) _ _ _
  refine ax_if_ne (pc := 5) (tgt := 10) G dX10_spread_5 rfl (fun c9 => absurd rfl c9) (fun _ => ?_)
  refine ax_fconst0 (pc := 8) G dX10_spread_8 ?_
  exact ax_fretE (pc := 9) G E rfl dX10_spread_9 (rfl) (rfl)

