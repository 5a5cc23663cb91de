/-! THE MODEL: what is asked -/
theorem mt_mayAskY {Ω : ax_O} (hA : ax_Amb Ω) {h : ax_H} {m : Nat} {μ : md_S} (hm : Ω.2.1.heap.size ≤ m) (h19 : μ.1 19 = nI 1)  : ax_Met Ω yX10_mayAsk 1 0 0 [.ref m, .int (nI 1)] (md_H h m μ) (.inl (some (.int (nI 1)))) (md_H h m (md_si μ 0 (nI 0))) := by
  refine ax_met q2812 q142 (by decide +kernel) (by decide) hA (Nat.le_of_ble_eq_true rfl) (fun Γ G E => ?_)
  show ax_W Ω Γ 0 0 (md_H h m μ) 0 [some (.ref m), some (.int (nI 1))] []
  refine ax_aload_n (pc := 0) G dX10_mayAsk_0 rfl rfl ?_
  refine ax_aload_n (pc := 1) G dX10_mayAsk_1 rfl rfl ?_
  refine md_get (pc := 2) (v := .int (μ.1 19)) G flX10_193_8 dX10_mayAsk_2 rfl ?_
  refine ax_top (show Value.int (μ.1 19) = .int (nI 1) from congrArg Value.int (h19)) ?_
  refine ax_if_ne (pc := 5) (tgt := 12) G dX10_mayAsk_5 rfl (fun _ => ?_) (fun c9 => absurd c9 (by decide))
  refine ax_iload_n (pc := 12) G dX10_mayAsk_12 rfl rfl ?_
  refine ax_if_eq (pc := 13) (tgt := 20) G dX10_mayAsk_13 rfl (fun c9 => absurd c9 (by decide)) (fun _ => ?_)
  refine ax_iconst (pc := 16) (v := nI 0) G dX10_mayAsk_16 ic_0 ?_
  refine ax_goto (pc := 17) (tgt := 21) G dX10_mayAsk_17 rfl ?_
  refine md_put (pc := 21) G flX10_45_8 dX10_mayAsk_21 hm (by decide) (rfl) rfl rfl ?_
  refine ax_aload_n (pc := 24) G dX10_mayAsk_24 rfl rfl ?_
  refine md_get (pc := 25) (v := .int (nI 0)) G flX10_45_8 dX10_mayAsk_25 rfl ?_
  refine ax_if_ne (pc := 28) (tgt := 35) G dX10_mayAsk_28 rfl (fun c9 => absurd rfl c9) (fun _ => ?_)
  refine ax_iconst (pc := 31) (v := nI 1) G dX10_mayAsk_31 ic_1 ?_
  refine ax_goto (pc := 32) (tgt := 36) G dX10_mayAsk_32 rfl ?_
  exact ax_iretE (pc := 36) G E rfl (rfl) dX10_mayAsk_36 (rfl) (rfl)

theorem mt_mayAskN {Ω : ax_O} (hA : ax_Amb Ω) {h : ax_H} {m : Nat} {μ : md_S} (hm : Ω.2.1.heap.size ≤ m) (h19 : μ.1 19 = nI 0) (b : Bool) : ax_Met Ω yX10_mayAsk 1 0 0 [.ref m, .int (bI b)] (md_H h m μ) (.inl (some (.int (nI 0)))) (md_H h m (md_si μ 0 (nI 1))) := by
  refine ax_met q2812 q142 (by decide +kernel) (by decide) hA (Nat.le_of_ble_eq_true rfl) (fun Γ G E => ?_)
  show ax_W Ω Γ 0 0 (md_H h m μ) 0 [some (.ref m), some (.int (bI b))] []
  refine ax_aload_n (pc := 0) G dX10_mayAsk_0 rfl rfl ?_
  refine ax_aload_n (pc := 1) G dX10_mayAsk_1 rfl rfl ?_
  refine md_get (pc := 2) (v := .int (μ.1 19)) G flX10_193_8 dX10_mayAsk_2 rfl ?_
  refine ax_top (show Value.int (μ.1 19) = .int (nI 0) from congrArg Value.int (h19)) ?_
  refine ax_if_ne (pc := 5) (tgt := 12) G dX10_mayAsk_5 rfl (fun c9 => absurd rfl c9) (fun _ => ?_)
  refine ax_iconst (pc := 8) (v := nI 1) G dX10_mayAsk_8 ic_1 ?_
  refine ax_goto (pc := 9) (tgt := 21) G dX10_mayAsk_9 rfl ?_
  refine md_put (pc := 21) G flX10_45_8 dX10_mayAsk_21 hm (by decide) (rfl) rfl rfl ?_
  refine ax_aload_n (pc := 24) G dX10_mayAsk_24 rfl rfl ?_
  refine md_get (pc := 25) (v := .int (nI 1)) G flX10_45_8 dX10_mayAsk_25 rfl ?_
  refine ax_if_ne (pc := 28) (tgt := 35) G dX10_mayAsk_28 rfl (fun _ => ?_) (fun c9 => absurd c9 (by decide))
  refine ax_iconst (pc := 35) (v := nI 0) G dX10_mayAsk_35 ic_0 ?_
  exact ax_iretE (pc := 36) G E rfl (rfl) dX10_mayAsk_36 (rfl) (rfl)

theorem mt_mayAskB {Ω : ax_O} (hA : ax_Amb Ω) {h : ax_H} {m : Nat} {μ : md_S} (hm : Ω.2.1.heap.size ≤ m) (h19 : μ.1 19 = nI 1)  : ax_Met Ω yX10_mayAsk 1 0 0 [.ref m, .int (nI 0)] (md_H h m μ) (.inl (some (.int (nI 0)))) (md_H h m (md_si μ 0 (nI 2))) := by
  refine ax_met q2812 q142 (by decide +kernel) (by decide) hA (Nat.le_of_ble_eq_true rfl) (fun Γ G E => ?_)
  show ax_W Ω Γ 0 0 (md_H h m μ) 0 [some (.ref m), some (.int (nI 0))] []
  refine ax_aload_n (pc := 0) G dX10_mayAsk_0 rfl rfl ?_
  refine ax_aload_n (pc := 1) G dX10_mayAsk_1 rfl rfl ?_
  refine md_get (pc := 2) (v := .int (μ.1 19)) G flX10_193_8 dX10_mayAsk_2 rfl ?_
  refine ax_top (show Value.int (μ.1 19) = .int (nI 1) from congrArg Value.int (h19)) ?_
  refine ax_if_ne (pc := 5) (tgt := 12) G dX10_mayAsk_5 rfl (fun _ => ?_) (fun c9 => absurd c9 (by decide))
  refine ax_iload_n (pc := 12) G dX10_mayAsk_12 rfl rfl ?_
  refine ax_if_eq (pc := 13) (tgt := 20) G dX10_mayAsk_13 rfl (fun _ => ?_) (fun c9 => absurd rfl c9)
  refine ax_iconst (pc := 20) (v := nI 2) G dX10_mayAsk_20 ic_2 ?_
  refine md_put (pc := 21) G flX10_45_8 dX10_mayAsk_21 hm (by decide) (rfl) rfl rfl ?_
  refine ax_aload_n (pc := 24) G dX10_mayAsk_24 rfl rfl ?_
  refine md_get (pc := 25) (v := .int (nI 2)) G flX10_45_8 dX10_mayAsk_25 rfl ?_
  refine ax_if_ne (pc := 28) (tgt := 35) G dX10_mayAsk_28 rfl (fun _ => ?_) (fun c9 => absurd c9 (by decide))
  refine ax_iconst (pc := 35) (v := nI 0) G dX10_mayAsk_35 ic_0 ?_
  exact ax_iretE (pc := 36) G E rfl (rfl) dX10_mayAsk_36 (rfl) (rfl)

theorem mt_mayAskForY {Ω : ax_O} (hA : ax_Amb Ω) {h : ax_H} {m : Nat} {μ : md_S} (hm : Ω.2.1.heap.size ≤ m) (h19 : μ.1 19 = nI 1)  : ax_Met Ω yX10_mayAskFor 1 0 0 [.ref m, .int (nI 1), .int (nI 1)] (md_H h m μ) (.inl (some (.int (nI 1)))) (md_H h m (md_si μ 0 (nI 0))) := by
  refine ax_met q2789 q142 (by decide +kernel) (by decide) hA (Nat.le_of_ble_eq_true rfl) (fun Γ G E => ?_)
  show ax_W Ω Γ 0 0 (md_H h m μ) 0 [some (.ref m), some (.int (nI 1)), some (.int (nI 1))] []
  refine ax_aload_n (pc := 0) G dX10_mayAskFor_0 rfl rfl ?_
  refine ax_aload_n (pc := 1) G dX10_mayAskFor_1 rfl rfl ?_
  refine md_get (pc := 2) (v := .int (μ.1 19)) G flX10_193_8 dX10_mayAskFor_2 rfl ?_
  refine ax_top (show Value.int (μ.1 19) = .int (nI 1) from congrArg Value.int (h19)) ?_
  refine ax_if_ne (pc := 5) (tgt := 12) G dX10_mayAskFor_5 rfl (fun _ => ?_) (fun c9 => absurd c9 (by decide))
  refine ax_iload_n (pc := 12) G dX10_mayAskFor_12 rfl rfl ?_
  refine ax_if_ne (pc := 13) (tgt := 20) G dX10_mayAskFor_13 rfl (fun _ => ?_) (fun c9 => absurd c9 (by decide))
  refine ax_iload_n (pc := 20) G dX10_mayAskFor_20 rfl rfl ?_
  refine ax_if_eq (pc := 21) (tgt := 28) G dX10_mayAskFor_21 rfl (fun c9 => absurd c9 (by decide)) (fun _ => ?_)
  refine ax_iconst (pc := 24) (v := nI 0) G dX10_mayAskFor_24 ic_0 ?_
  refine ax_goto (pc := 25) (tgt := 29) G dX10_mayAskFor_25 rfl ?_
  refine md_put (pc := 29) G flX10_45_8 dX10_mayAskFor_29 hm (by decide) (rfl) rfl rfl ?_
  refine ax_aload_n (pc := 32) G dX10_mayAskFor_32 rfl rfl ?_
  refine md_get (pc := 33) (v := .int (nI 0)) G flX10_45_8 dX10_mayAskFor_33 rfl ?_
  refine ax_if_ne (pc := 36) (tgt := 43) G dX10_mayAskFor_36 rfl (fun c9 => absurd rfl c9) (fun _ => ?_)
  refine ax_iconst (pc := 39) (v := nI 1) G dX10_mayAskFor_39 ic_1 ?_
  refine ax_goto (pc := 40) (tgt := 44) G dX10_mayAskFor_40 rfl ?_
  exact ax_iretE (pc := 44) G E rfl (rfl) dX10_mayAskFor_44 (rfl) (rfl)

theorem mt_mayAskForN {Ω : ax_O} (hA : ax_Amb Ω) {h : ax_H} {m : Nat} {μ : md_S} (hm : Ω.2.1.heap.size ≤ m) (h19 : μ.1 19 = nI 0) (b c : Bool) : ax_Met Ω yX10_mayAskFor 1 0 0 [.ref m, .int (bI b), .int (bI c)] (md_H h m μ) (.inl (some (.int (nI 0)))) (md_H h m (md_si μ 0 (nI 1))) := by
  refine ax_met q2789 q142 (by decide +kernel) (by decide) hA (Nat.le_of_ble_eq_true rfl) (fun Γ G E => ?_)
  show ax_W Ω Γ 0 0 (md_H h m μ) 0 [some (.ref m), some (.int (bI b)), some (.int (bI c))] []
  refine ax_aload_n (pc := 0) G dX10_mayAskFor_0 rfl rfl ?_
  refine ax_aload_n (pc := 1) G dX10_mayAskFor_1 rfl rfl ?_
  refine md_get (pc := 2) (v := .int (μ.1 19)) G flX10_193_8 dX10_mayAskFor_2 rfl ?_
  refine ax_top (show Value.int (μ.1 19) = .int (nI 0) from congrArg Value.int (h19)) ?_
  refine ax_if_ne (pc := 5) (tgt := 12) G dX10_mayAskFor_5 rfl (fun c9 => absurd rfl c9) (fun _ => ?_)
  refine ax_iconst (pc := 8) (v := nI 1) G dX10_mayAskFor_8 ic_1 ?_
  refine ax_goto (pc := 9) (tgt := 29) G dX10_mayAskFor_9 rfl ?_
  refine md_put (pc := 29) G flX10_45_8 dX10_mayAskFor_29 hm (by decide) (rfl) rfl rfl ?_
  refine ax_aload_n (pc := 32) G dX10_mayAskFor_32 rfl rfl ?_
  refine md_get (pc := 33) (v := .int (nI 1)) G flX10_45_8 dX10_mayAskFor_33 rfl ?_
  refine ax_if_ne (pc := 36) (tgt := 43) G dX10_mayAskFor_36 rfl (fun _ => ?_) (fun c9 => absurd c9 (by decide))
  refine ax_iconst (pc := 43) (v := nI 0) G dX10_mayAskFor_43 ic_0 ?_
  exact ax_iretE (pc := 44) G E rfl (rfl) dX10_mayAskFor_44 (rfl) (rfl)

theorem mt_mayAskForB {Ω : ax_O} (hA : ax_Amb Ω) {h : ax_H} {m : Nat} {μ : md_S} (hm : Ω.2.1.heap.size ≤ m) (h19 : μ.1 19 = nI 1) (c : Bool) : ax_Met Ω yX10_mayAskFor 1 0 0 [.ref m, .int (nI 0), .int (bI c)] (md_H h m μ) (.inl (some (.int (nI 0)))) (md_H h m (md_si μ 0 (nI 2))) := by
  refine ax_met q2789 q142 (by decide +kernel) (by decide) hA (Nat.le_of_ble_eq_true rfl) (fun Γ G E => ?_)
  show ax_W Ω Γ 0 0 (md_H h m μ) 0 [some (.ref m), some (.int (nI 0)), some (.int (bI c))] []
  refine ax_aload_n (pc := 0) G dX10_mayAskFor_0 rfl rfl ?_
  refine ax_aload_n (pc := 1) G dX10_mayAskFor_1 rfl rfl ?_
  refine md_get (pc := 2) (v := .int (μ.1 19)) G flX10_193_8 dX10_mayAskFor_2 rfl ?_
  refine ax_top (show Value.int (μ.1 19) = .int (nI 1) from congrArg Value.int (h19)) ?_
  refine ax_if_ne (pc := 5) (tgt := 12) G dX10_mayAskFor_5 rfl (fun _ => ?_) (fun c9 => absurd c9 (by decide))
  refine ax_iload_n (pc := 12) G dX10_mayAskFor_12 rfl rfl ?_
  refine ax_if_ne (pc := 13) (tgt := 20) G dX10_mayAskFor_13 rfl (fun c9 => absurd rfl c9) (fun _ => ?_)
  refine ax_iconst (pc := 16) (v := nI 2) G dX10_mayAskFor_16 ic_2 ?_
  refine ax_goto (pc := 17) (tgt := 29) G dX10_mayAskFor_17 rfl ?_
  refine md_put (pc := 29) G flX10_45_8 dX10_mayAskFor_29 hm (by decide) (rfl) rfl rfl ?_
  refine ax_aload_n (pc := 32) G dX10_mayAskFor_32 rfl rfl ?_
  refine md_get (pc := 33) (v := .int (nI 2)) G flX10_45_8 dX10_mayAskFor_33 rfl ?_
  refine ax_if_ne (pc := 36) (tgt := 43) G dX10_mayAskFor_36 rfl (fun _ => ?_) (fun c9 => absurd c9 (by decide))
  refine ax_iconst (pc := 43) (v := nI 0) G dX10_mayAskFor_43 ic_0 ?_
  exact ax_iretE (pc := 44) G E rfl (rfl) dX10_mayAskFor_44 (rfl) (rfl)

theorem mt_mayAskForC {Ω : ax_O} (hA : ax_Amb Ω) {h : ax_H} {m : Nat} {μ : md_S} (hm : Ω.2.1.heap.size ≤ m) (h19 : μ.1 19 = nI 1)  : ax_Met Ω yX10_mayAskFor 1 0 0 [.ref m, .int (nI 1), .int (nI 0)] (md_H h m μ) (.inl (some (.int (nI 0)))) (md_H h m (md_si μ 0 (nI 3))) := by
  refine ax_met q2789 q142 (by decide +kernel) (by decide) hA (Nat.le_of_ble_eq_true rfl) (fun Γ G E => ?_)
  show ax_W Ω Γ 0 0 (md_H h m μ) 0 [some (.ref m), some (.int (nI 1)), some (.int (nI 0))] []
  refine ax_aload_n (pc := 0) G dX10_mayAskFor_0 rfl rfl ?_
  refine ax_aload_n (pc := 1) G dX10_mayAskFor_1 rfl rfl ?_
  refine md_get (pc := 2) (v := .int (μ.1 19)) G flX10_193_8 dX10_mayAskFor_2 rfl ?_
  refine ax_top (show Value.int (μ.1 19) = .int (nI 1) from congrArg Value.int (h19)) ?_
  refine ax_if_ne (pc := 5) (tgt := 12) G dX10_mayAskFor_5 rfl (fun _ => ?_) (fun c9 => absurd c9 (by decide))
  refine ax_iload_n (pc := 12) G dX10_mayAskFor_12 rfl rfl ?_
  refine ax_if_ne (pc := 13) (tgt := 20) G dX10_mayAskFor_13 rfl (fun _ => ?_) (fun c9 => absurd c9 (by decide))
  refine ax_iload_n (pc := 20) G dX10_mayAskFor_20 rfl rfl ?_
  refine ax_if_eq (pc := 21) (tgt := 28) G dX10_mayAskFor_21 rfl (fun _ => ?_) (fun c9 => absurd rfl c9)
  refine ax_iconst (pc := 28) (v := nI 3) G dX10_mayAskFor_28 ic_3 ?_
  refine md_put (pc := 29) G flX10_45_8 dX10_mayAskFor_29 hm (by decide) (rfl) rfl rfl ?_
  refine ax_aload_n (pc := 32) G dX10_mayAskFor_32 rfl rfl ?_
  refine md_get (pc := 33) (v := .int (nI 3)) G flX10_45_8 dX10_mayAskFor_33 rfl ?_
  refine ax_if_ne (pc := 36) (tgt := 43) G dX10_mayAskFor_36 rfl (fun _ => ?_) (fun c9 => absurd c9 (by decide))
  refine ax_iconst (pc := 43) (v := nI 0) G dX10_mayAskFor_43 ic_0 ?_
  exact ax_iretE (pc := 44) G E rfl (rfl) dX10_mayAskFor_44 (rfl) (rfl)

theorem mt_toldY {Ω : ax_O} (hA : ax_Amb Ω) {h : ax_H} {m : Nat} {μ : md_S} (hm : Ω.2.1.heap.size ≤ m) (h19 : μ.1 19 = nI 1) (v : Int32) : ax_Met Ω yX10_told 1 0 0 [.ref m, .int v] (md_H h m μ) (.inl (some (.int v))) (md_H h m (md_si μ 0 (nI 0))) := by
  refine ax_met q2777 q142 (by decide +kernel) (by decide) hA (Nat.le_of_ble_eq_true rfl) (fun Γ G E => ?_)
  show ax_W Ω Γ 0 0 (md_H h m μ) 0 [some (.ref m), some (.int v)] []
  refine ax_aload_n (pc := 0) G dX10_told_0 rfl rfl ?_
  refine ax_iconst (pc := 1) (v := nI 0) G dX10_told_1 ic_0 ?_
  refine md_put (pc := 2) G flX10_45_8 dX10_told_2 hm (by decide) (rfl) rfl rfl ?_
  refine ax_aload_n (pc := 5) G dX10_told_5 rfl rfl ?_
  refine md_get (pc := 6) (v := .int (μ.1 19)) G flX10_193_8 dX10_told_6 rfl ?_
  refine ax_top (show Value.int (μ.1 19) = .int (nI 1) from congrArg Value.int (h19)) ?_
  refine ax_if_eq (pc := 9) (tgt := 16) G dX10_told_9 rfl (fun c9 => absurd c9 (by decide)) (fun _ => ?_)
  refine ax_iload_n (pc := 12) G dX10_told_12 rfl rfl ?_
  refine ax_goto (pc := 13) (tgt := 17) G dX10_told_13 rfl ?_
  exact ax_iretE (pc := 17) G E rfl (rfl) dX10_told_17 (rfl) (rfl)

theorem mt_toldN {Ω : ax_O} (hA : ax_Amb Ω) {h : ax_H} {m : Nat} {μ : md_S} (hm : Ω.2.1.heap.size ≤ m) (h19 : μ.1 19 = nI 0) (v : Int32) : ax_Met Ω yX10_told 1 0 0 [.ref m, .int v] (md_H h m μ) (.inl (some (.int (nI 0)))) (md_H h m (md_si μ 0 (nI 0))) := by
  refine ax_met q2777 q142 (by decide +kernel) (by decide) hA (Nat.le_of_ble_eq_true rfl) (fun Γ G E => ?_)
  show ax_W Ω Γ 0 0 (md_H h m μ) 0 [some (.ref m), some (.int v)] []
  refine ax_aload_n (pc := 0) G dX10_told_0 rfl rfl ?_
  refine ax_iconst (pc := 1) (v := nI 0) G dX10_told_1 ic_0 ?_
  refine md_put (pc := 2) G flX10_45_8 dX10_told_2 hm (by decide) (rfl) rfl rfl ?_
  refine ax_aload_n (pc := 5) G dX10_told_5 rfl rfl ?_
  refine md_get (pc := 6) (v := .int (μ.1 19)) G flX10_193_8 dX10_told_6 rfl ?_
  refine ax_top (show Value.int (μ.1 19) = .int (nI 0) from congrArg Value.int (h19)) ?_
  refine ax_if_eq (pc := 9) (tgt := 16) G dX10_told_9 rfl (fun _ => ?_) (fun c9 => absurd rfl c9)
  refine ax_iconst (pc := 16) (v := nI 0) G dX10_told_16 ic_0 ?_
  exact ax_iretE (pc := 17) G E rfl (rfl) dX10_told_17 (rfl) (rfl)

theorem mt_throwsAt {Ω : ax_O} (hA : ax_Amb Ω) {h : ax_H} {m : Nat} {μ : md_S} (hm : Ω.2.1.heap.size ≤ m) (v : Int32) : ax_Met Ω yX10_throwsAt 1 0 0 [.ref m, .int v] (md_H h m μ) (.inl (some (.int (nI 0)))) (md_H h m (md_si μ 0 v)) := by
  refine ax_met q2666 q142 (by decide +kernel) (by decide) hA (Nat.le_of_ble_eq_true rfl) (fun Γ G E => ?_)
  show ax_W Ω Γ 0 0 (md_H h m μ) 0 [some (.ref m), some (.int v)] []
  refine ax_aload_n (pc := 0) G dX10_throwsAt_0 rfl rfl ?_
  refine ax_iload_n (pc := 1) G dX10_throwsAt_1 rfl rfl ?_
  refine md_put (pc := 2) G flX10_45_8 dX10_throwsAt_2 hm (by decide) (rfl) rfl rfl ?_
  refine ax_iconst (pc := 5) (v := nI 0) G dX10_throwsAt_5 ic_0 ?_
  exact ax_iretE (pc := 6) G E rfl (rfl) dX10_throwsAt_6 (rfl) (rfl)

theorem mt_isProposal {Ω : ax_O} (hA : ax_Amb Ω) {h : ax_H} {m : Nat} {μ : md_S} (v : Int32) : ax_Met Ω yX10_isProposal 2 0 0 [.ref m, .int v] (md_H h m μ) (.inl (some (.int (bI (pIn v (nI 0) ((μ.2 2) 10 - nI 1)))))) (md_H h m μ) := by
  refine ax_met q2785 q142 (by decide +kernel) (by decide) hA (Nat.le_of_ble_eq_true rfl) (fun Γ G E => ?_)
  show ax_W Ω Γ 0 0 (md_H h m μ) 0 [some (.ref m), some (.int v)] []
  refine ax_iload_n (pc := 0) G dX10_isProposal_0 rfl rfl ?_
  refine ax_iconst (pc := 1) (v := nI 0) G dX10_isProposal_1 ic_0 ?_
  refine ax_aload_n (pc := 2) G dX10_isProposal_2 rfl rfl ?_
  refine md_get (pc := 3) (v := .ref (m + 2)) G flX10_17_8 dX10_isProposal_3 rfl ?_
  refine ax_bipush (pc := 6) (v := nI 10) G dX10_isProposal_6 ib_10 ?_
  refine md_ld (pc := 8) (i := 10) (j := 2) G 235 dX10_isProposal_8 (by decide) (by decide) rfl rfl rfl (by omega) (by decide) ?_
  refine ax_iconst (pc := 9) (v := nI 1) G dX10_isProposal_9 ic_1 ?_
  refine ax_isub (pc := 10) G dX10_isProposal_10 ?_
  refine ax_cS1 (pc := 11) (kb := 0) (nb := 0) G (mt_in hA v (nI 0) (((μ.2 2) 10) - (nI 1))) lSX10_74 dX10_isProposal_11 rfl (by decide) (Nat.le_of_ble_eq_true rfl) rfl ?_
  exact ax_iretE (pc := 14) G E rfl (nz_bI _) dX10_isProposal_14 (rfl) (rfl)

theorem mt_isVisit {Ω : ax_O} (hA : ax_Amb Ω) {h : ax_H} {m : Nat} {μ : md_S} (v : Int32) : ax_Met Ω yX10_isVisit 2 0 0 [.ref m, .int v] (md_H h m μ) (.inl (some (.int (bI (pIn v (nI 0) ((μ.2 2) 65 - nI 1)))))) (md_H h m μ) := by
  refine ax_met q2824 q142 (by decide +kernel) (by decide) hA (Nat.le_of_ble_eq_true rfl) (fun Γ G E => ?_)
  show ax_W Ω Γ 0 0 (md_H h m μ) 0 [some (.ref m), some (.int v)] []
  refine ax_iload_n (pc := 0) G dX10_isVisit_0 rfl rfl ?_
  refine ax_iconst (pc := 1) (v := nI 0) G dX10_isVisit_1 ic_0 ?_
  refine ax_aload_n (pc := 2) G dX10_isVisit_2 rfl rfl ?_
  refine md_get (pc := 3) (v := .ref (m + 2)) G flX10_17_8 dX10_isVisit_3 rfl ?_
  refine ax_bipush (pc := 6) (v := nI 65) G dX10_isVisit_6 ib_65 ?_
  refine md_ld (pc := 8) (i := 65) (j := 2) G 235 dX10_isVisit_8 (by decide) (by decide) rfl rfl rfl (by omega) (by decide) ?_
  refine ax_iconst (pc := 9) (v := nI 1) G dX10_isVisit_9 ic_1 ?_
  refine ax_isub (pc := 10) G dX10_isVisit_10 ?_
  refine ax_cS1 (pc := 11) (kb := 0) (nb := 0) G (mt_in hA v (nI 0) (((μ.2 2) 65) - (nI 1))) lSX10_74 dX10_isVisit_11 rfl (by decide) (Nat.le_of_ble_eq_true rfl) rfl ?_
  exact ax_iretE (pc := 14) G E rfl (nz_bI _) dX10_isVisit_14 (rfl) (rfl)

theorem mt_isAlert {Ω : ax_O} (hA : ax_Amb Ω) {h : ax_H} {m : Nat} {μ : md_S} (v : Int32) : ax_Met Ω yX10_isAlert 2 0 0 [.ref m, .int v] (md_H h m μ) (.inl (some (.int (bI (pIn v (nI 0) ((μ.2 4) 14 - nI 1)))))) (md_H h m μ) := by
  refine ax_met q2848 q142 (by decide +kernel) (by decide) hA (Nat.le_of_ble_eq_true rfl) (fun Γ G E => ?_)
  show ax_W Ω Γ 0 0 (md_H h m μ) 0 [some (.ref m), some (.int v)] []
  refine ax_iload_n (pc := 0) G dX10_isAlert_0 rfl rfl ?_
  refine ax_iconst (pc := 1) (v := nI 0) G dX10_isAlert_1 ic_0 ?_
  refine ax_aload_n (pc := 2) G dX10_isAlert_2 rfl rfl ?_
  refine md_get (pc := 3) (v := .ref (m + 4)) G flX10_23_8 dX10_isAlert_3 rfl ?_
  refine ax_bipush (pc := 6) (v := nI 14) G dX10_isAlert_6 ib_14 ?_
  refine md_ld (pc := 8) (i := 14) (j := 4) G 627 dX10_isAlert_8 (by decide) (by decide) rfl rfl rfl (by omega) (by decide) ?_
  refine ax_iconst (pc := 9) (v := nI 1) G dX10_isAlert_9 ic_1 ?_
  refine ax_isub (pc := 10) G dX10_isAlert_10 ?_
  refine ax_cS1 (pc := 11) (kb := 0) (nb := 0) G (mt_in hA v (nI 0) (((μ.2 4) 14) - (nI 1))) lSX10_74 dX10_isAlert_11 rfl (by decide) (Nat.le_of_ble_eq_true rfl) rfl ?_
  exact ax_iretE (pc := 14) G E rfl (nz_bI _) dX10_isAlert_14 (rfl) (rfl)

theorem mt_isEntry {Ω : ax_O} (hA : ax_Amb Ω) {h : ax_H} {m : Nat} {μ : md_S} (v : Int32) : ax_Met Ω yX10_isEntry 2 0 0 [.ref m, .int v] (md_H h m μ) (.inl (some (.int (bI (pIn v (nI 0) ((μ.2 4) 16 - nI 1)))))) (md_H h m μ) := by
  refine ax_met q3119 q142 (by decide +kernel) (by decide) hA (Nat.le_of_ble_eq_true rfl) (fun Γ G E => ?_)
  show ax_W Ω Γ 0 0 (md_H h m μ) 0 [some (.ref m), some (.int v)] []
  refine ax_iload_n (pc := 0) G dX10_isEntry_0 rfl rfl ?_
  refine ax_iconst (pc := 1) (v := nI 0) G dX10_isEntry_1 ic_0 ?_
  refine ax_aload_n (pc := 2) G dX10_isEntry_2 rfl rfl ?_
  refine md_get (pc := 3) (v := .ref (m + 4)) G flX10_23_8 dX10_isEntry_3 rfl ?_
  refine ax_bipush (pc := 6) (v := nI 16) G dX10_isEntry_6 ib_16 ?_
  refine md_ld (pc := 8) (i := 16) (j := 4) G 627 dX10_isEntry_8 (by decide) (by decide) rfl rfl rfl (by omega) (by decide) ?_
  refine ax_iconst (pc := 9) (v := nI 1) G dX10_isEntry_9 ic_1 ?_
  refine ax_isub (pc := 10) G dX10_isEntry_10 ?_
  refine ax_cS1 (pc := 11) (kb := 0) (nb := 0) G (mt_in hA v (nI 0) (((μ.2 4) 16) - (nI 1))) lSX10_74 dX10_isEntry_11 rfl (by decide) (Nat.le_of_ble_eq_true rfl) rfl ?_
  exact ax_iretE (pc := 14) G E rfl (nz_bI _) dX10_isEntry_14 (rfl) (rfl)

theorem mt_isLon {Ω : ax_O} (hA : ax_Amb Ω) {h : ax_H} {m : Nat} {μ : md_S} (v : Int32) : ax_Met Ω yX10_isLon 2 0 0 [.int v] (md_H h m μ) (.inl (some (.int (bI (pIn v (nI 0) (nI 359)))))) (md_H h m μ) := by
  refine ax_met q2900 q142 (by decide +kernel) (by decide) hA (Nat.le_of_ble_eq_true rfl) (fun Γ G E => ?_)
  show ax_W Ω Γ 0 0 (md_H h m μ) 0 [some (.int v)] []
  refine ax_iload_n (pc := 0) G dX10_isLon_0 rfl rfl ?_
  refine ax_iconst (pc := 1) (v := nI 0) G dX10_isLon_1 ic_0 ?_
  refine ax_sipush (pc := 2) (v := nI 359) G dX10_isLon_2 is_359 ?_
  refine ax_cS1 (pc := 5) (kb := 0) (nb := 0) G (mt_in hA v (nI 0) (nI 359)) lSX10_74 dX10_isLon_5 rfl (by decide) (Nat.le_of_ble_eq_true rfl) rfl ?_
  exact ax_iretE (pc := 8) G E rfl (nz_bI _) dX10_isLon_8 (rfl) (rfl)

theorem mt_isLat {Ω : ax_O} (hA : ax_Amb Ω) {h : ax_H} {m : Nat} {μ : md_S} (v : Int32) : ax_Met Ω yX10_isLat 2 0 0 [.int v] (md_H h m μ) (.inl (some (.int (bI (pIn v (-90) (nI 90)))))) (md_H h m μ) := by
  refine ax_met q2903 q142 (by decide +kernel) (by decide) hA (Nat.le_of_ble_eq_true rfl) (fun Γ G E => ?_)
  show ax_W Ω Γ 0 0 (md_H h m μ) 0 [some (.int v)] []
  refine ax_iload_n (pc := 0) G dX10_isLat_0 rfl rfl ?_
  refine ax_bipush (pc := 1) (v := (-90)) G dX10_isLat_1 (by decide) ?_
  refine ax_bipush (pc := 3) (v := nI 90) G dX10_isLat_3 ib_90 ?_
  refine ax_cS1 (pc := 5) (kb := 0) (nb := 0) G (mt_in hA v (-90) (nI 90)) lSX10_74 dX10_isLat_5 rfl (by decide) (Nat.le_of_ble_eq_true rfl) rfl ?_
  exact ax_iretE (pc := 8) G E rfl (nz_bI _) dX10_isLat_8 (rfl) (rfl)

theorem mt_ofAlert {Ω : ax_O} (hA : ax_Amb Ω) {h : ax_H} {m : Nat} {μ : md_S} (k w : Nat) (hk : k < 10) (hw : w < 10) : ax_Met Ω yX10_ofAlert 1 0 0 [.ref m, .int (nI k), .int (nI w)] (md_H h m μ) (.inl (some (.int ((μ.2 4) (127 + 10 * k + w))))) (md_H h m μ) := by
  refine ax_met q2852 q142 (by decide +kernel) (by decide) hA (Nat.le_of_ble_eq_true rfl) (fun Γ G E => ?_)
  show ax_W Ω Γ 0 0 (md_H h m μ) 0 [some (.ref m), some (.int (nI k)), some (.int (nI w))] []
  refine ax_aload_n (pc := 0) G dX10_ofAlert_0 rfl rfl ?_
  refine md_get (pc := 1) (v := .ref (m + 4)) G flX10_23_8 dX10_ofAlert_1 rfl ?_
  refine ax_bipush (pc := 4) (v := nI 127) G dX10_ofAlert_4 ib_127 ?_
  refine ax_bipush (pc := 6) (v := nI 10) G dX10_ofAlert_6 ib_10 ?_
  refine ax_iload_n (pc := 8) G dX10_ofAlert_8 rfl rfl ?_
  refine ax_imulN (pc := 9) G dX10_ofAlert_9 ?_
  refine ax_iaddN (pc := 10) G dX10_ofAlert_10 ?_
  refine ax_iload_n (pc := 11) G dX10_ofAlert_11 rfl rfl ?_
  refine ax_iaddN (pc := 12) G dX10_ofAlert_12 ?_
  refine md_ld (pc := 13) (i := 127 + (10 * k) + w) (j := 4) G 627 dX10_ofAlert_13 (by decide) (by decide) rfl rfl rfl (by omega) (by decide) ?_
  exact ax_iretE (pc := 14) G E rfl (rfl) dX10_ofAlert_14 (rfl) (rfl)

