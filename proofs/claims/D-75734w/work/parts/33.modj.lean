/-! THE MODEL: other public methods -/
theorem mq_sun_Y {Ω : ax_O} (hA : ax_Amb Ω) {h : ax_H} {m : Nat} {μ : md_S} (hm : Ω.2.1.heap.size ≤ m) (h19 : μ.1 19 = nI 1) {P V O A : Nat} (hp : pWP (μ.2 2) P V O) (hs : pWS (μ.2 4) A) (t : Int32) (ht : ¬ t < 0) : ax_Met Ω yX10_sun 14 0 0 [.ref m, .int t] (md_H h m μ) (.inl (some (.int (pSunAt (μ.2 2) t)))) (md_H h m (md_si μ 0 (nI 0))) := by
  refine ax_met q2888 q142 (by decide +kernel) (by decide) hA (Nat.le_of_ble_eq_true rfl) (fun Γ G E => ?_)
  show ax_W Ω Γ 0 0 (md_H h m μ) 0 [some (.ref m), some (.int t)] []
  refine ax_aload_n (pc := 0) G dX10_sun_0 rfl rfl ?_
  refine ax_iload_n (pc := 1) G dX10_sun_1 rfl rfl ?_
  refine ax_if_lt (pc := 2) (tgt := 9) G dX10_sun_2 rfl (fun c9 => absurd c9 ht) (fun _ => ?_)
  refine ax_iconst (pc := 5) (v := nI 1) G dX10_sun_5 ic_1 ?_
  refine ax_goto (pc := 6) (tgt := 10) G dX10_sun_6 rfl ?_
  refine ax_cV1 (pc := 10) (kb := 0) (nb := 0) G (mt_mayAskY hA (μ := μ) hm h19) lVX10_368_8 dX10_sun_10 md_obj rfl (by decide) (Nat.le_of_ble_eq_true rfl) rfl ?_
  show ax_W Ω Γ _ _ (md_H h m (md_si μ 0 (nI 0))) _ _ _
  refine ax_if_eq (pc := 13) (tgt := 24) G dX10_sun_13 rfl (fun c9 => absurd c9 (by decide)) (fun _ => ?_)
  refine ax_aload_n (pc := 16) G dX10_sun_16 rfl rfl ?_
  refine ax_iload_n (pc := 17) G dX10_sun_17 rfl rfl ?_
  refine ax_cV1 (pc := 18) (kb := 0) (nb := 0) G (mt_sunAt hA (h := h) (m := m) (μ := (md_si μ 0 (nI 0))) t hp.z8) lVX10_220_8 dX10_sun_18 md_obj rfl (by decide) (Nat.le_of_ble_eq_true rfl) rfl ?_
  refine ax_goto (pc := 21) (tgt := 25) G dX10_sun_21 rfl ?_
  exact ax_iretE (pc := 25) G E rfl (rfl) dX10_sun_25 (rfl) (rfl)

theorem mq_sun_N {Ω : ax_O} (hA : ax_Amb Ω) {h : ax_H} {m : Nat} {μ : md_S} (hm : Ω.2.1.heap.size ≤ m) (h19 : μ.1 19 = nI 0) (t : Int32)  : ax_Met Ω yX10_sun 14 0 0 [.ref m, .int t] (md_H h m μ) (.inl (some (.int (nI 0)))) (md_H h m (md_si μ 0 (nI 1))) := by
  refine ax_met q2888 q142 (by decide +kernel) (by decide) hA (Nat.le_of_ble_eq_true rfl) (fun Γ G E => ?_)
  show ax_W Ω Γ 0 0 (md_H h m μ) 0 [some (.ref m), some (.int t)] []
  refine ax_aload_n (pc := 0) G dX10_sun_0 rfl rfl ?_
  refine ax_iload_n (pc := 1) G dX10_sun_1 rfl rfl ?_
  refine ax_if_lt (pc := 2) (tgt := 9) G dX10_sun_2 rfl (fun c2 => ?_) (fun c2 => ?_)
  · refine ax_iconst (pc := 9) (v := nI 0) G dX10_sun_9 ic_0 ?_
    refine ax_cV1 (pc := 10) (kb := 0) (nb := 0) G (mt_mayAskN hA (μ := μ) hm h19 false) lVX10_368_8 dX10_sun_10 md_obj rfl (by decide) (Nat.le_of_ble_eq_true rfl) rfl ?_
    show ax_W Ω Γ _ _ (md_H h m (md_si μ 0 (nI 1))) _ _ _
    refine ax_if_eq (pc := 13) (tgt := 24) G dX10_sun_13 rfl (fun _ => ?_) (fun c9 => absurd rfl c9)
    refine ax_iconst (pc := 24) (v := nI 0) G dX10_sun_24 ic_0 ?_
    exact ax_iretE (pc := 25) G E rfl (rfl) dX10_sun_25 (rfl) (rfl)
  · refine ax_iconst (pc := 5) (v := nI 1) G dX10_sun_5 ic_1 ?_
    refine ax_goto (pc := 6) (tgt := 10) G dX10_sun_6 rfl ?_
    refine ax_cV1 (pc := 10) (kb := 0) (nb := 0) G (mt_mayAskN hA (μ := μ) hm h19 true) lVX10_368_8 dX10_sun_10 md_obj rfl (by decide) (Nat.le_of_ble_eq_true rfl) rfl ?_
    show ax_W Ω Γ _ _ (md_H h m (md_si μ 0 (nI 1))) _ _ _
    refine ax_if_eq (pc := 13) (tgt := 24) G dX10_sun_13 rfl (fun _ => ?_) (fun c9 => absurd rfl c9)
    refine ax_iconst (pc := 24) (v := nI 0) G dX10_sun_24 ic_0 ?_
    exact ax_iretE (pc := 25) G E rfl (rfl) dX10_sun_25 (rfl) (rfl)

theorem mq_sun_B {Ω : ax_O} (hA : ax_Amb Ω) {h : ax_H} {m : Nat} {μ : md_S} (hm : Ω.2.1.heap.size ≤ m) (h19 : μ.1 19 = nI 1) (t : Int32) (hb : t < 0) : ax_Met Ω yX10_sun 14 0 0 [.ref m, .int t] (md_H h m μ) (.inl (some (.int (nI 0)))) (md_H h m (md_si μ 0 (nI 2))) := by
  refine ax_met q2888 q142 (by decide +kernel) (by decide) hA (Nat.le_of_ble_eq_true rfl) (fun Γ G E => ?_)
  show ax_W Ω Γ 0 0 (md_H h m μ) 0 [some (.ref m), some (.int t)] []
  refine ax_aload_n (pc := 0) G dX10_sun_0 rfl rfl ?_
  refine ax_iload_n (pc := 1) G dX10_sun_1 rfl rfl ?_
  refine ax_if_lt (pc := 2) (tgt := 9) G dX10_sun_2 rfl (fun _ => ?_) (fun c9 => absurd hb c9)
  refine ax_iconst (pc := 9) (v := nI 0) G dX10_sun_9 ic_0 ?_
  refine ax_cV1 (pc := 10) (kb := 0) (nb := 0) G (mt_mayAskB hA (μ := μ) hm h19) lVX10_368_8 dX10_sun_10 md_obj rfl (by decide) (Nat.le_of_ble_eq_true rfl) rfl ?_
  show ax_W Ω Γ _ _ (md_H h m (md_si μ 0 (nI 2))) _ _ _
  refine ax_if_eq (pc := 13) (tgt := 24) G dX10_sun_13 rfl (fun _ => ?_) (fun c9 => absurd rfl c9)
  refine ax_iconst (pc := 24) (v := nI 0) G dX10_sun_24 ic_0 ?_
  exact ax_iretE (pc := 25) G E rfl (rfl) dX10_sun_25 (rfl) (rfl)

theorem mq_angleTo_Y {Ω : ax_O} (hA : ax_Amb Ω) {h : ax_H} {m : Nat} {μ : md_S} (hm : Ω.2.1.heap.size ≤ m) (h19 : μ.1 19 = nI 1) {P V O A : Nat} (hp : pWP (μ.2 2) P V O) (hs : pWS (μ.2 4) A) (lon lat : Int32) (h1 : pIn lon (nI 0) (nI 359) = true) (h2 : pIn lat (-90) (nI 90) = true) : ax_Met Ω yX10_angleTo 14 0 0 [.ref m, .int lon, .int lat] (md_H h m μ) (.inl (some (.int (pAngle (μ.2 4) lon lat)))) (md_H h m (md_si μ 0 (nI 0))) := by
  refine ax_met q2897 q142 (by decide +kernel) (by decide) hA (Nat.le_of_ble_eq_true rfl) (fun Γ G E => ?_)
  show ax_W Ω Γ 0 0 (md_H h m μ) 0 [some (.ref m), some (.int lon), some (.int lat)] []
  refine ax_aload_n (pc := 0) G dX10_angleTo_0 rfl rfl ?_
  refine ax_iload_n (pc := 1) G dX10_angleTo_1 rfl rfl ?_
  refine ax_cS1 (pc := 2) (kb := 0) (nb := 0) G (mt_isLon hA (h := h) (m := m) (μ := μ) lon) lSX10_381 dX10_angleTo_2 rfl (by decide) (Nat.le_of_ble_eq_true rfl) rfl ?_
  refine ax_top (show Value.int (bI (pIn lon (nI 0) (nI 359))) = .int (nI 1) from congrArg Value.int (by rw [h1]; rfl)) ?_
  refine ax_if_eq (pc := 5) (tgt := 19) G dX10_angleTo_5 rfl (fun c9 => absurd c9 (by decide)) (fun _ => ?_)
  refine ax_iload_n (pc := 8) G dX10_angleTo_8 rfl rfl ?_
  refine ax_cS1 (pc := 9) (kb := 0) (nb := 0) G (mt_isLat hA (h := h) (m := m) (μ := μ) lat) lSX10_384 dX10_angleTo_9 rfl (by decide) (Nat.le_of_ble_eq_true rfl) rfl ?_
  refine ax_top (show Value.int (bI (pIn lat (-90) (nI 90))) = .int (nI 1) from congrArg Value.int (by rw [h2]; rfl)) ?_
  refine ax_if_eq (pc := 12) (tgt := 19) G dX10_angleTo_12 rfl (fun c9 => absurd c9 (by decide)) (fun _ => ?_)
  refine ax_iconst (pc := 15) (v := nI 1) G dX10_angleTo_15 ic_1 ?_
  refine ax_goto (pc := 16) (tgt := 20) G dX10_angleTo_16 rfl ?_
  refine ax_cV1 (pc := 20) (kb := 0) (nb := 0) G (mt_mayAskY hA (μ := μ) hm h19) lVX10_368_8 dX10_angleTo_20 md_obj rfl (by decide) (Nat.le_of_ble_eq_true rfl) rfl ?_
  show ax_W Ω Γ _ _ (md_H h m (md_si μ 0 (nI 0))) _ _ _
  refine ax_if_eq (pc := 23) (tgt := 38) G dX10_angleTo_23 rfl (fun c9 => absurd c9 (by decide)) (fun _ => ?_)
  refine ax_aload_n (pc := 26) G dX10_angleTo_26 rfl rfl ?_
  refine md_get (pc := 27) (v := .ref (m + 4)) G flX10_23_8 dX10_angleTo_27 rfl ?_
  refine ax_iload_n (pc := 30) G dX10_angleTo_30 rfl rfl ?_
  refine ax_iload_n (pc := 31) G dX10_angleTo_31 rfl rfl ?_
  refine ax_cS1 (pc := 32) (kb := 0) (nb := 0) G (md_ro (mt_angle hA (μ := (md_si μ 0 (nI 0))) (s := μ.2 4) (j := 4) (Or.inl rfl) lon lat)) lSX10_208 dX10_angleTo_32 rfl (by decide) (Nat.le_of_ble_eq_true rfl) rfl ?_
  refine ax_goto (pc := 35) (tgt := 39) G dX10_angleTo_35 rfl ?_
  exact ax_iretE (pc := 39) G E rfl (rfl) dX10_angleTo_39 (rfl) (rfl)

theorem mq_angleTo_N {Ω : ax_O} (hA : ax_Amb Ω) {h : ax_H} {m : Nat} {μ : md_S} (hm : Ω.2.1.heap.size ≤ m) (h19 : μ.1 19 = nI 0) (lon : Int32) (lat : Int32)  : ax_Met Ω yX10_angleTo 14 0 0 [.ref m, .int lon, .int lat] (md_H h m μ) (.inl (some (.int (nI 0)))) (md_H h m (md_si μ 0 (nI 1))) := by
  refine ax_met q2897 q142 (by decide +kernel) (by decide) hA (Nat.le_of_ble_eq_true rfl) (fun Γ G E => ?_)
  show ax_W Ω Γ 0 0 (md_H h m μ) 0 [some (.ref m), some (.int lon), some (.int lat)] []
  refine ax_aload_n (pc := 0) G dX10_angleTo_0 rfl rfl ?_
  refine ax_iload_n (pc := 1) G dX10_angleTo_1 rfl rfl ?_
  refine ax_cS1 (pc := 2) (kb := 0) (nb := 0) G (mt_isLon hA (h := h) (m := m) (μ := μ) lon) lSX10_381 dX10_angleTo_2 rfl (by decide) (Nat.le_of_ble_eq_true rfl) rfl ?_
  refine ax_if_eq (pc := 5) (tgt := 19) G dX10_angleTo_5 rfl (fun c5 => ?_) (fun c5 => ?_)
  · have c5b := bI_f c5
    refine ax_iconst (pc := 19) (v := nI 0) G dX10_angleTo_19 ic_0 ?_
    refine ax_cV1 (pc := 20) (kb := 0) (nb := 0) G (mt_mayAskN hA (μ := μ) hm h19 false) lVX10_368_8 dX10_angleTo_20 md_obj rfl (by decide) (Nat.le_of_ble_eq_true rfl) rfl ?_
    show ax_W Ω Γ _ _ (md_H h m (md_si μ 0 (nI 1))) _ _ _
    refine ax_if_eq (pc := 23) (tgt := 38) G dX10_angleTo_23 rfl (fun _ => ?_) (fun c9 => absurd rfl c9)
    refine ax_iconst (pc := 38) (v := nI 0) G dX10_angleTo_38 ic_0 ?_
    exact ax_iretE (pc := 39) G E rfl (rfl) dX10_angleTo_39 (rfl) (rfl)
  · have c5b := bI_t c5
    refine ax_iload_n (pc := 8) G dX10_angleTo_8 rfl rfl ?_
    refine ax_cS1 (pc := 9) (kb := 0) (nb := 0) G (mt_isLat hA (h := h) (m := m) (μ := μ) lat) lSX10_384 dX10_angleTo_9 rfl (by decide) (Nat.le_of_ble_eq_true rfl) rfl ?_
    refine ax_if_eq (pc := 12) (tgt := 19) G dX10_angleTo_12 rfl (fun c12 => ?_) (fun c12 => ?_)
    · have c12b := bI_f c12
      refine ax_iconst (pc := 19) (v := nI 0) G dX10_angleTo_19 ic_0 ?_
      refine ax_cV1 (pc := 20) (kb := 0) (nb := 0) G (mt_mayAskN hA (μ := μ) hm h19 false) lVX10_368_8 dX10_angleTo_20 md_obj rfl (by decide) (Nat.le_of_ble_eq_true rfl) rfl ?_
      show ax_W Ω Γ _ _ (md_H h m (md_si μ 0 (nI 1))) _ _ _
      refine ax_if_eq (pc := 23) (tgt := 38) G dX10_angleTo_23 rfl (fun _ => ?_) (fun c9 => absurd rfl c9)
      refine ax_iconst (pc := 38) (v := nI 0) G dX10_angleTo_38 ic_0 ?_
      exact ax_iretE (pc := 39) G E rfl (rfl) dX10_angleTo_39 (rfl) (rfl)
    · have c12b := bI_t c12
      refine ax_iconst (pc := 15) (v := nI 1) G dX10_angleTo_15 ic_1 ?_
      refine ax_goto (pc := 16) (tgt := 20) G dX10_angleTo_16 rfl ?_
      refine ax_cV1 (pc := 20) (kb := 0) (nb := 0) G (mt_mayAskN hA (μ := μ) hm h19 true) lVX10_368_8 dX10_angleTo_20 md_obj rfl (by decide) (Nat.le_of_ble_eq_true rfl) rfl ?_
      show ax_W Ω Γ _ _ (md_H h m (md_si μ 0 (nI 1))) _ _ _
      refine ax_if_eq (pc := 23) (tgt := 38) G dX10_angleTo_23 rfl (fun _ => ?_) (fun c9 => absurd rfl c9)
      refine ax_iconst (pc := 38) (v := nI 0) G dX10_angleTo_38 ic_0 ?_
      exact ax_iretE (pc := 39) G E rfl (rfl) dX10_angleTo_39 (rfl) (rfl)

theorem mq_angleTo_B {Ω : ax_O} (hA : ax_Amb Ω) {h : ax_H} {m : Nat} {μ : md_S} (hm : Ω.2.1.heap.size ≤ m) (h19 : μ.1 19 = nI 1) (lon lat : Int32) (hb : pIn lon (nI 0) (nI 359) = false) : ax_Met Ω yX10_angleTo 14 0 0 [.ref m, .int lon, .int lat] (md_H h m μ) (.inl (some (.int (nI 0)))) (md_H h m (md_si μ 0 (nI 2))) := by
  refine ax_met q2897 q142 (by decide +kernel) (by decide) hA (Nat.le_of_ble_eq_true rfl) (fun Γ G E => ?_)
  show ax_W Ω Γ 0 0 (md_H h m μ) 0 [some (.ref m), some (.int lon), some (.int lat)] []
  refine ax_aload_n (pc := 0) G dX10_angleTo_0 rfl rfl ?_
  refine ax_iload_n (pc := 1) G dX10_angleTo_1 rfl rfl ?_
  refine ax_cS1 (pc := 2) (kb := 0) (nb := 0) G (mt_isLon hA (h := h) (m := m) (μ := μ) lon) lSX10_381 dX10_angleTo_2 rfl (by decide) (Nat.le_of_ble_eq_true rfl) rfl ?_
  refine ax_top (show Value.int (bI (pIn lon (nI 0) (nI 359))) = .int (nI 0) from congrArg Value.int (by rw [hb]; rfl)) ?_
  refine ax_if_eq (pc := 5) (tgt := 19) G dX10_angleTo_5 rfl (fun _ => ?_) (fun c9 => absurd rfl c9)
  refine ax_iconst (pc := 19) (v := nI 0) G dX10_angleTo_19 ic_0 ?_
  refine ax_cV1 (pc := 20) (kb := 0) (nb := 0) G (mt_mayAskB hA (μ := μ) hm h19) lVX10_368_8 dX10_angleTo_20 md_obj rfl (by decide) (Nat.le_of_ble_eq_true rfl) rfl ?_
  show ax_W Ω Γ _ _ (md_H h m (md_si μ 0 (nI 2))) _ _ _
  refine ax_if_eq (pc := 23) (tgt := 38) G dX10_angleTo_23 rfl (fun _ => ?_) (fun c9 => absurd rfl c9)
  refine ax_iconst (pc := 38) (v := nI 0) G dX10_angleTo_38 ic_0 ?_
  exact ax_iretE (pc := 39) G E rfl (rfl) dX10_angleTo_39 (rfl) (rfl)

theorem mq_angleTo_B2 {Ω : ax_O} (hA : ax_Amb Ω) {h : ax_H} {m : Nat} {μ : md_S} (hm : Ω.2.1.heap.size ≤ m) (h19 : μ.1 19 = nI 1) (lon lat : Int32) (h1 : pIn lon (nI 0) (nI 359) = true) (hb : pIn lat (-90) (nI 90) = false) : ax_Met Ω yX10_angleTo 14 0 0 [.ref m, .int lon, .int lat] (md_H h m μ) (.inl (some (.int (nI 0)))) (md_H h m (md_si μ 0 (nI 2))) := by
  refine ax_met q2897 q142 (by decide +kernel) (by decide) hA (Nat.le_of_ble_eq_true rfl) (fun Γ G E => ?_)
  show ax_W Ω Γ 0 0 (md_H h m μ) 0 [some (.ref m), some (.int lon), some (.int lat)] []
  refine ax_aload_n (pc := 0) G dX10_angleTo_0 rfl rfl ?_
  refine ax_iload_n (pc := 1) G dX10_angleTo_1 rfl rfl ?_
  refine ax_cS1 (pc := 2) (kb := 0) (nb := 0) G (mt_isLon hA (h := h) (m := m) (μ := μ) lon) lSX10_381 dX10_angleTo_2 rfl (by decide) (Nat.le_of_ble_eq_true rfl) rfl ?_
  refine ax_top (show Value.int (bI (pIn lon (nI 0) (nI 359))) = .int (nI 1) from congrArg Value.int (by rw [h1]; rfl)) ?_
  refine ax_if_eq (pc := 5) (tgt := 19) G dX10_angleTo_5 rfl (fun c9 => absurd c9 (by decide)) (fun _ => ?_)
  refine ax_iload_n (pc := 8) G dX10_angleTo_8 rfl rfl ?_
  refine ax_cS1 (pc := 9) (kb := 0) (nb := 0) G (mt_isLat hA (h := h) (m := m) (μ := μ) lat) lSX10_384 dX10_angleTo_9 rfl (by decide) (Nat.le_of_ble_eq_true rfl) rfl ?_
  refine ax_top (show Value.int (bI (pIn lat (-90) (nI 90))) = .int (nI 0) from congrArg Value.int (by rw [hb]; rfl)) ?_
  refine ax_if_eq (pc := 12) (tgt := 19) G dX10_angleTo_12 rfl (fun _ => ?_) (fun c9 => absurd rfl c9)
  refine ax_iconst (pc := 19) (v := nI 0) G dX10_angleTo_19 ic_0 ?_
  refine ax_cV1 (pc := 20) (kb := 0) (nb := 0) G (mt_mayAskB hA (μ := μ) hm h19) lVX10_368_8 dX10_angleTo_20 md_obj rfl (by decide) (Nat.le_of_ble_eq_true rfl) rfl ?_
  show ax_W Ω Γ _ _ (md_H h m (md_si μ 0 (nI 2))) _ _ _
  refine ax_if_eq (pc := 23) (tgt := 38) G dX10_angleTo_23 rfl (fun _ => ?_) (fun c9 => absurd rfl c9)
  refine ax_iconst (pc := 38) (v := nI 0) G dX10_angleTo_38 ic_0 ?_
  exact ax_iretE (pc := 39) G E rfl (rfl) dX10_angleTo_39 (rfl) (rfl)

theorem mq_slewTo_Y {Ω : ax_O} (hA : ax_Amb Ω) {h : ax_H} {m : Nat} {μ : md_S} (hm : Ω.2.1.heap.size ≤ m) (h19 : μ.1 19 = nI 1) {P V O A : Nat} (hp : pWP (μ.2 2) P V O) (hs : pWS (μ.2 4) A) (lon lat : Int32) (h1 : pIn lon (nI 0) (nI 359) = true) (h2 : pIn lat (-90) (nI 90) = true) : ax_Met Ω yX10_slewTo 14 0 0 [.ref m, .int lon, .int lat] (md_H h m μ) (.inl (some (.int (pMinutes (μ.2 2) (μ.2 4) lon lat)))) (md_H h m (md_si μ 0 (nI 0))) := by
  refine ax_met q2916 q142 (by decide +kernel) (by decide) hA (Nat.le_of_ble_eq_true rfl) (fun Γ G E => ?_)
  show ax_W Ω Γ 0 0 (md_H h m μ) 0 [some (.ref m), some (.int lon), some (.int lat)] []
  refine ax_aload_n (pc := 0) G dX10_slewTo_0 rfl rfl ?_
  refine ax_iload_n (pc := 1) G dX10_slewTo_1 rfl rfl ?_
  refine ax_cS1 (pc := 2) (kb := 0) (nb := 0) G (mt_isLon hA (h := h) (m := m) (μ := μ) lon) lSX10_381 dX10_slewTo_2 rfl (by decide) (Nat.le_of_ble_eq_true rfl) rfl ?_
  refine ax_top (show Value.int (bI (pIn lon (nI 0) (nI 359))) = .int (nI 1) from congrArg Value.int (by rw [h1]; rfl)) ?_
  refine ax_if_eq (pc := 5) (tgt := 19) G dX10_slewTo_5 rfl (fun c9 => absurd c9 (by decide)) (fun _ => ?_)
  refine ax_iload_n (pc := 8) G dX10_slewTo_8 rfl rfl ?_
  refine ax_cS1 (pc := 9) (kb := 0) (nb := 0) G (mt_isLat hA (h := h) (m := m) (μ := μ) lat) lSX10_384 dX10_slewTo_9 rfl (by decide) (Nat.le_of_ble_eq_true rfl) rfl ?_
  refine ax_top (show Value.int (bI (pIn lat (-90) (nI 90))) = .int (nI 1) from congrArg Value.int (by rw [h2]; rfl)) ?_
  refine ax_if_eq (pc := 12) (tgt := 19) G dX10_slewTo_12 rfl (fun c9 => absurd c9 (by decide)) (fun _ => ?_)
  refine ax_iconst (pc := 15) (v := nI 1) G dX10_slewTo_15 ic_1 ?_
  refine ax_goto (pc := 16) (tgt := 20) G dX10_slewTo_16 rfl ?_
  refine ax_cV1 (pc := 20) (kb := 0) (nb := 0) G (mt_mayAskY hA (μ := μ) hm h19) lVX10_368_8 dX10_slewTo_20 md_obj rfl (by decide) (Nat.le_of_ble_eq_true rfl) rfl ?_
  show ax_W Ω Γ _ _ (md_H h m (md_si μ 0 (nI 0))) _ _ _
  refine ax_if_eq (pc := 23) (tgt := 39) G dX10_slewTo_23 rfl (fun c9 => absurd c9 (by decide)) (fun _ => ?_)
  refine ax_aload_n (pc := 26) G dX10_slewTo_26 rfl rfl ?_
  refine ax_aload_n (pc := 27) G dX10_slewTo_27 rfl rfl ?_
  refine md_get (pc := 28) (v := .ref (m + 4)) G flX10_23_8 dX10_slewTo_28 rfl ?_
  refine ax_iload_n (pc := 31) G dX10_slewTo_31 rfl rfl ?_
  refine ax_iload_n (pc := 32) G dX10_slewTo_32 rfl rfl ?_
  refine ax_cV1 (pc := 33) (kb := 0) (nb := 0) G (md_ro (mt_minutes hA (μ := (md_si μ 0 (nI 0))) (s := μ.2 4) (j := 4) (Or.inl rfl) lon lat hp.z2)) lVX10_247_8 dX10_slewTo_33 md_obj rfl (by decide) (Nat.le_of_ble_eq_true rfl) rfl ?_
  refine ax_goto (pc := 36) (tgt := 40) G dX10_slewTo_36 rfl ?_
  exact ax_iretE (pc := 40) G E rfl (rfl) dX10_slewTo_40 (rfl) (rfl)

theorem mq_slewTo_N {Ω : ax_O} (hA : ax_Amb Ω) {h : ax_H} {m : Nat} {μ : md_S} (hm : Ω.2.1.heap.size ≤ m) (h19 : μ.1 19 = nI 0) (lon : Int32) (lat : Int32)  : ax_Met Ω yX10_slewTo 14 0 0 [.ref m, .int lon, .int lat] (md_H h m μ) (.inl (some (.int (nI 0)))) (md_H h m (md_si μ 0 (nI 1))) := by
  refine ax_met q2916 q142 (by decide +kernel) (by decide) hA (Nat.le_of_ble_eq_true rfl) (fun Γ G E => ?_)
  show ax_W Ω Γ 0 0 (md_H h m μ) 0 [some (.ref m), some (.int lon), some (.int lat)] []
  refine ax_aload_n (pc := 0) G dX10_slewTo_0 rfl rfl ?_
  refine ax_iload_n (pc := 1) G dX10_slewTo_1 rfl rfl ?_
  refine ax_cS1 (pc := 2) (kb := 0) (nb := 0) G (mt_isLon hA (h := h) (m := m) (μ := μ) lon) lSX10_381 dX10_slewTo_2 rfl (by decide) (Nat.le_of_ble_eq_true rfl) rfl ?_
  refine ax_if_eq (pc := 5) (tgt := 19) G dX10_slewTo_5 rfl (fun c5 => ?_) (fun c5 => ?_)
  · have c5b := bI_f c5
    refine ax_iconst (pc := 19) (v := nI 0) G dX10_slewTo_19 ic_0 ?_
    refine ax_cV1 (pc := 20) (kb := 0) (nb := 0) G (mt_mayAskN hA (μ := μ) hm h19 false) lVX10_368_8 dX10_slewTo_20 md_obj rfl (by decide) (Nat.le_of_ble_eq_true rfl) rfl ?_
    show ax_W Ω Γ _ _ (md_H h m (md_si μ 0 (nI 1))) _ _ _
    refine ax_if_eq (pc := 23) (tgt := 39) G dX10_slewTo_23 rfl (fun _ => ?_) (fun c9 => absurd rfl c9)
    refine ax_iconst (pc := 39) (v := nI 0) G dX10_slewTo_39 ic_0 ?_
    exact ax_iretE (pc := 40) G E rfl (rfl) dX10_slewTo_40 (rfl) (rfl)
  · have c5b := bI_t c5
    refine ax_iload_n (pc := 8) G dX10_slewTo_8 rfl rfl ?_
    refine ax_cS1 (pc := 9) (kb := 0) (nb := 0) G (mt_isLat hA (h := h) (m := m) (μ := μ) lat) lSX10_384 dX10_slewTo_9 rfl (by decide) (Nat.le_of_ble_eq_true rfl) rfl ?_
    refine ax_if_eq (pc := 12) (tgt := 19) G dX10_slewTo_12 rfl (fun c12 => ?_) (fun c12 => ?_)
    · have c12b := bI_f c12
      refine ax_iconst (pc := 19) (v := nI 0) G dX10_slewTo_19 ic_0 ?_
      refine ax_cV1 (pc := 20) (kb := 0) (nb := 0) G (mt_mayAskN hA (μ := μ) hm h19 false) lVX10_368_8 dX10_slewTo_20 md_obj rfl (by decide) (Nat.le_of_ble_eq_true rfl) rfl ?_
      show ax_W Ω Γ _ _ (md_H h m (md_si μ 0 (nI 1))) _ _ _
      refine ax_if_eq (pc := 23) (tgt := 39) G dX10_slewTo_23 rfl (fun _ => ?_) (fun c9 => absurd rfl c9)
      refine ax_iconst (pc := 39) (v := nI 0) G dX10_slewTo_39 ic_0 ?_
      exact ax_iretE (pc := 40) G E rfl (rfl) dX10_slewTo_40 (rfl) (rfl)
    · have c12b := bI_t c12
      refine ax_iconst (pc := 15) (v := nI 1) G dX10_slewTo_15 ic_1 ?_
      refine ax_goto (pc := 16) (tgt := 20) G dX10_slewTo_16 rfl ?_
      refine ax_cV1 (pc := 20) (kb := 0) (nb := 0) G (mt_mayAskN hA (μ := μ) hm h19 true) lVX10_368_8 dX10_slewTo_20 md_obj rfl (by decide) (Nat.le_of_ble_eq_true rfl) rfl ?_
      show ax_W Ω Γ _ _ (md_H h m (md_si μ 0 (nI 1))) _ _ _
      refine ax_if_eq (pc := 23) (tgt := 39) G dX10_slewTo_23 rfl (fun _ => ?_) (fun c9 => absurd rfl c9)
      refine ax_iconst (pc := 39) (v := nI 0) G dX10_slewTo_39 ic_0 ?_
      exact ax_iretE (pc := 40) G E rfl (rfl) dX10_slewTo_40 (rfl) (rfl)

theorem mq_slewTo_B {Ω : ax_O} (hA : ax_Amb Ω) {h : ax_H} {m : Nat} {μ : md_S} (hm : Ω.2.1.heap.size ≤ m) (h19 : μ.1 19 = nI 1) (lon lat : Int32) (hb : pIn lon (nI 0) (nI 359) = false) : ax_Met Ω yX10_slewTo 14 0 0 [.ref m, .int lon, .int lat] (md_H h m μ) (.inl (some (.int (nI 0)))) (md_H h m (md_si μ 0 (nI 2))) := by
  refine ax_met q2916 q142 (by decide +kernel) (by decide) hA (Nat.le_of_ble_eq_true rfl) (fun Γ G E => ?_)
  show ax_W Ω Γ 0 0 (md_H h m μ) 0 [some (.ref m), some (.int lon), some (.int lat)] []
  refine ax_aload_n (pc := 0) G dX10_slewTo_0 rfl rfl ?_
  refine ax_iload_n (pc := 1) G dX10_slewTo_1 rfl rfl ?_
  refine ax_cS1 (pc := 2) (kb := 0) (nb := 0) G (mt_isLon hA (h := h) (m := m) (μ := μ) lon) lSX10_381 dX10_slewTo_2 rfl (by decide) (Nat.le_of_ble_eq_true rfl) rfl ?_
  refine ax_top (show Value.int (bI (pIn lon (nI 0) (nI 359))) = .int (nI 0) from congrArg Value.int (by rw [hb]; rfl)) ?_
  refine ax_if_eq (pc := 5) (tgt := 19) G dX10_slewTo_5 rfl (fun _ => ?_) (fun c9 => absurd rfl c9)
  refine ax_iconst (pc := 19) (v := nI 0) G dX10_slewTo_19 ic_0 ?_
  refine ax_cV1 (pc := 20) (kb := 0) (nb := 0) G (mt_mayAskB hA (μ := μ) hm h19) lVX10_368_8 dX10_slewTo_20 md_obj rfl (by decide) (Nat.le_of_ble_eq_true rfl) rfl ?_
  show ax_W Ω Γ _ _ (md_H h m (md_si μ 0 (nI 2))) _ _ _
  refine ax_if_eq (pc := 23) (tgt := 39) G dX10_slewTo_23 rfl (fun _ => ?_) (fun c9 => absurd rfl c9)
  refine ax_iconst (pc := 39) (v := nI 0) G dX10_slewTo_39 ic_0 ?_
  exact ax_iretE (pc := 40) G E rfl (rfl) dX10_slewTo_40 (rfl) (rfl)

theorem mq_slewTo_B2 {Ω : ax_O} (hA : ax_Amb Ω) {h : ax_H} {m : Nat} {μ : md_S} (hm : Ω.2.1.heap.size ≤ m) (h19 : μ.1 19 = nI 1) (lon lat : Int32) (h1 : pIn lon (nI 0) (nI 359) = true) (hb : pIn lat (-90) (nI 90) = false) : ax_Met Ω yX10_slewTo 14 0 0 [.ref m, .int lon, .int lat] (md_H h m μ) (.inl (some (.int (nI 0)))) (md_H h m (md_si μ 0 (nI 2))) := by
  refine ax_met q2916 q142 (by decide +kernel) (by decide) hA (Nat.le_of_ble_eq_true rfl) (fun Γ G E => ?_)
  show ax_W Ω Γ 0 0 (md_H h m μ) 0 [some (.ref m), some (.int lon), some (.int lat)] []
  refine ax_aload_n (pc := 0) G dX10_slewTo_0 rfl rfl ?_
  refine ax_iload_n (pc := 1) G dX10_slewTo_1 rfl rfl ?_
  refine ax_cS1 (pc := 2) (kb := 0) (nb := 0) G (mt_isLon hA (h := h) (m := m) (μ := μ) lon) lSX10_381 dX10_slewTo_2 rfl (by decide) (Nat.le_of_ble_eq_true rfl) rfl ?_
  refine ax_top (show Value.int (bI (pIn lon (nI 0) (nI 359))) = .int (nI 1) from congrArg Value.int (by rw [h1]; rfl)) ?_
  refine ax_if_eq (pc := 5) (tgt := 19) G dX10_slewTo_5 rfl (fun c9 => absurd c9 (by decide)) (fun _ => ?_)
  refine ax_iload_n (pc := 8) G dX10_slewTo_8 rfl rfl ?_
  refine ax_cS1 (pc := 9) (kb := 0) (nb := 0) G (mt_isLat hA (h := h) (m := m) (μ := μ) lat) lSX10_384 dX10_slewTo_9 rfl (by decide) (Nat.le_of_ble_eq_true rfl) rfl ?_
  refine ax_top (show Value.int (bI (pIn lat (-90) (nI 90))) = .int (nI 0) from congrArg Value.int (by rw [hb]; rfl)) ?_
  refine ax_if_eq (pc := 12) (tgt := 19) G dX10_slewTo_12 rfl (fun _ => ?_) (fun c9 => absurd rfl c9)
  refine ax_iconst (pc := 19) (v := nI 0) G dX10_slewTo_19 ic_0 ?_
  refine ax_cV1 (pc := 20) (kb := 0) (nb := 0) G (mt_mayAskB hA (μ := μ) hm h19) lVX10_368_8 dX10_slewTo_20 md_obj rfl (by decide) (Nat.le_of_ble_eq_true rfl) rfl ?_
  show ax_W Ω Γ _ _ (md_H h m (md_si μ 0 (nI 2))) _ _ _
  refine ax_if_eq (pc := 23) (tgt := 39) G dX10_slewTo_23 rfl (fun _ => ?_) (fun c9 => absurd rfl c9)
  refine ax_iconst (pc := 39) (v := nI 0) G dX10_slewTo_39 ic_0 ?_
  exact ax_iretE (pc := 40) G E rfl (rfl) dX10_slewTo_40 (rfl) (rfl)

theorem mq_isVisible_Y {Ω : ax_O} (hA : ax_Amb Ω) {h : ax_H} {m : Nat} {μ : md_S} (hm : Ω.2.1.heap.size ≤ m) (h19 : μ.1 19 = nI 1) {P V O A : Nat} (hp : pWP (μ.2 2) P V O) (hs : pWS (μ.2 4) A) (lon t : Int32) (h1 : pIn lon (nI 0) (nI 359) = true) (ht : ¬ t < 0) : ax_Met Ω yX10_isVisible 14 0 0 [.ref m, .int lon, .int t] (md_H h m μ) (.inl (some (.int (bI (pSeen (μ.2 2) lon t))))) (md_H h m (md_si μ 0 (nI 0))) := by
  refine ax_met q2924 q142 (by decide +kernel) (by decide) hA (Nat.le_of_ble_eq_true rfl) (fun Γ G E => ?_)
  show ax_W Ω Γ 0 0 (md_H h m μ) 0 [some (.ref m), some (.int lon), some (.int t)] []
  refine ax_aload_n (pc := 0) G dX10_isVisible_0 rfl rfl ?_
  refine ax_iload_n (pc := 1) G dX10_isVisible_1 rfl rfl ?_
  refine ax_cS1 (pc := 2) (kb := 0) (nb := 0) G (mt_isLon hA (h := h) (m := m) (μ := μ) lon) lSX10_381 dX10_isVisible_2 rfl (by decide) (Nat.le_of_ble_eq_true rfl) rfl ?_
  refine ax_top (show Value.int (bI (pIn lon (nI 0) (nI 359))) = .int (nI 1) from congrArg Value.int (by rw [h1]; rfl)) ?_
  refine ax_if_eq (pc := 5) (tgt := 16) G dX10_isVisible_5 rfl (fun c9 => absurd c9 (by decide)) (fun _ => ?_)
  refine ax_iload_n (pc := 8) G dX10_isVisible_8 rfl rfl ?_
  refine ax_if_lt (pc := 9) (tgt := 16) G dX10_isVisible_9 rfl (fun c9 => absurd c9 ht) (fun _ => ?_)
  refine ax_iconst (pc := 12) (v := nI 1) G dX10_isVisible_12 ic_1 ?_
  refine ax_goto (pc := 13) (tgt := 17) G dX10_isVisible_13 rfl ?_
  refine ax_cV1 (pc := 17) (kb := 0) (nb := 0) G (mt_mayAskY hA (μ := μ) hm h19) lVX10_368_8 dX10_isVisible_17 md_obj rfl (by decide) (Nat.le_of_ble_eq_true rfl) rfl ?_
  show ax_W Ω Γ _ _ (md_H h m (md_si μ 0 (nI 0))) _ _ _
  refine ax_if_eq (pc := 20) (tgt := 36) G dX10_isVisible_20 rfl (fun c9 => absurd c9 (by decide)) (fun _ => ?_)
  refine ax_aload_n (pc := 23) G dX10_isVisible_23 rfl rfl ?_
  refine ax_iload_n (pc := 24) G dX10_isVisible_24 rfl rfl ?_
  refine ax_iload_n (pc := 25) G dX10_isVisible_25 rfl rfl ?_
  refine ax_cV1 (pc := 26) (kb := 0) (nb := 0) G (mt_isSeen hA (h := h) (m := m) (μ := (md_si μ 0 (nI 0))) lon t hp.z8) lVX10_265_8 dX10_isVisible_26 md_obj rfl (by decide) (Nat.le_of_ble_eq_true rfl) rfl ?_
  refine ax_if_eq (pc := 29) (tgt := 36) G dX10_isVisible_29 rfl (fun c29 => ?_) (fun c29 => ?_)
  · replace c29 : (bI (pSeen (μ.2 2) lon t)) = 0 := c29
    have c29b := bI_f c29
    refine ax_iconst (pc := 36) (v := nI 0) G dX10_isVisible_36 ic_0 ?_
    exact ax_iretE (pc := 37) G E rfl (rfl) dX10_isVisible_37 (by first | (simp only [bI, c29b, if_true, if_false, Bool.false_eq_true, not_false_eq_true, not_true_eq_false, decide_true, decide_false, Bool.and_true, Bool.true_and, Bool.and_false, Bool.false_and, Bool.or_true, Bool.true_or, Bool.or_false, Bool.false_or, and_self, and_true, true_and, and_false, false_and, or_true, true_or, or_false, false_or, ne_eq]; done) | (simp only [bI, c29b, if_true, if_false, Bool.false_eq_true, not_false_eq_true, not_true_eq_false, decide_true, decide_false, Bool.and_true, Bool.true_and, Bool.and_false, Bool.false_and, Bool.or_true, Bool.true_or, Bool.or_false, Bool.false_or, and_self, and_true, true_and, and_false, false_and, or_true, true_or, or_false, false_or, ne_eq]; rfl)) (by first | (simp only [bI, c29b, if_true, if_false, Bool.false_eq_true, not_false_eq_true, not_true_eq_false, decide_true, decide_false, Bool.and_true, Bool.true_and, Bool.and_false, Bool.false_and, Bool.or_true, Bool.true_or, Bool.or_false, Bool.false_or, and_self, and_true, true_and, and_false, false_and, or_true, true_or, or_false, false_or, ne_eq]; done) | (simp only [bI, c29b, if_true, if_false, Bool.false_eq_true, not_false_eq_true, not_true_eq_false, decide_true, decide_false, Bool.and_true, Bool.true_and, Bool.and_false, Bool.false_and, Bool.or_true, Bool.true_or, Bool.or_false, Bool.false_or, and_self, and_true, true_and, and_false, false_and, or_true, true_or, or_false, false_or, ne_eq]; rfl))
  · replace c29 : ¬ (bI (pSeen (μ.2 2) lon t)) = 0 := c29
    have c29b := bI_t c29
    refine ax_iconst (pc := 32) (v := nI 1) G dX10_isVisible_32 ic_1 ?_
    refine ax_goto (pc := 33) (tgt := 37) G dX10_isVisible_33 rfl ?_
    exact ax_iretE (pc := 37) G E rfl (rfl) dX10_isVisible_37 (by first | (simp only [bI, c29b, if_true, if_false, Bool.false_eq_true, not_false_eq_true, not_true_eq_false, decide_true, decide_false, Bool.and_true, Bool.true_and, Bool.and_false, Bool.false_and, Bool.or_true, Bool.true_or, Bool.or_false, Bool.false_or, and_self, and_true, true_and, and_false, false_and, or_true, true_or, or_false, false_or, ne_eq]; done) | (simp only [bI, c29b, if_true, if_false, Bool.false_eq_true, not_false_eq_true, not_true_eq_false, decide_true, decide_false, Bool.and_true, Bool.true_and, Bool.and_false, Bool.false_and, Bool.or_true, Bool.true_or, Bool.or_false, Bool.false_or, and_self, and_true, true_and, and_false, false_and, or_true, true_or, or_false, false_or, ne_eq]; rfl)) (by first | (simp only [bI, c29b, if_true, if_false, Bool.false_eq_true, not_false_eq_true, not_true_eq_false, decide_true, decide_false, Bool.and_true, Bool.true_and, Bool.and_false, Bool.false_and, Bool.or_true, Bool.true_or, Bool.or_false, Bool.false_or, and_self, and_true, true_and, and_false, false_and, or_true, true_or, or_false, false_or, ne_eq]; done) | (simp only [bI, c29b, if_true, if_false, Bool.false_eq_true, not_false_eq_true, not_true_eq_false, decide_true, decide_false, Bool.and_true, Bool.true_and, Bool.and_false, Bool.false_and, Bool.or_true, Bool.true_or, Bool.or_false, Bool.false_or, and_self, and_true, true_and, and_false, false_and, or_true, true_or, or_false, false_or, ne_eq]; rfl))

theorem mq_isVisible_N {Ω : ax_O} (hA : ax_Amb Ω) {h : ax_H} {m : Nat} {μ : md_S} (hm : Ω.2.1.heap.size ≤ m) (h19 : μ.1 19 = nI 0) (lon : Int32) (t : Int32)  : ax_Met Ω yX10_isVisible 14 0 0 [.ref m, .int lon, .int t] (md_H h m μ) (.inl (some (.int (nI 0)))) (md_H h m (md_si μ 0 (nI 1))) := by
  refine ax_met q2924 q142 (by decide +kernel) (by decide) hA (Nat.le_of_ble_eq_true rfl) (fun Γ G E => ?_)
  show ax_W Ω Γ 0 0 (md_H h m μ) 0 [some (.ref m), some (.int lon), some (.int t)] []
  refine ax_aload_n (pc := 0) G dX10_isVisible_0 rfl rfl ?_
  refine ax_iload_n (pc := 1) G dX10_isVisible_1 rfl rfl ?_
  refine ax_cS1 (pc := 2) (kb := 0) (nb := 0) G (mt_isLon hA (h := h) (m := m) (μ := μ) lon) lSX10_381 dX10_isVisible_2 rfl (by decide) (Nat.le_of_ble_eq_true rfl) rfl ?_
  refine ax_if_eq (pc := 5) (tgt := 16) G dX10_isVisible_5 rfl (fun c5 => ?_) (fun c5 => ?_)
  · have c5b := bI_f c5
    refine ax_iconst (pc := 16) (v := nI 0) G dX10_isVisible_16 ic_0 ?_
    refine ax_cV1 (pc := 17) (kb := 0) (nb := 0) G (mt_mayAskN hA (μ := μ) hm h19 false) lVX10_368_8 dX10_isVisible_17 md_obj rfl (by decide) (Nat.le_of_ble_eq_true rfl) rfl ?_
    show ax_W Ω Γ _ _ (md_H h m (md_si μ 0 (nI 1))) _ _ _
    refine ax_if_eq (pc := 20) (tgt := 36) G dX10_isVisible_20 rfl (fun _ => ?_) (fun c9 => absurd rfl c9)
    refine ax_iconst (pc := 36) (v := nI 0) G dX10_isVisible_36 ic_0 ?_
    exact ax_iretE (pc := 37) G E rfl (rfl) dX10_isVisible_37 (rfl) (rfl)
  · have c5b := bI_t c5
    refine ax_iload_n (pc := 8) G dX10_isVisible_8 rfl rfl ?_
    refine ax_if_lt (pc := 9) (tgt := 16) G dX10_isVisible_9 rfl (fun c9 => ?_) (fun c9 => ?_)
    · refine ax_iconst (pc := 16) (v := nI 0) G dX10_isVisible_16 ic_0 ?_
      refine ax_cV1 (pc := 17) (kb := 0) (nb := 0) G (mt_mayAskN hA (μ := μ) hm h19 false) lVX10_368_8 dX10_isVisible_17 md_obj rfl (by decide) (Nat.le_of_ble_eq_true rfl) rfl ?_
      show ax_W Ω Γ _ _ (md_H h m (md_si μ 0 (nI 1))) _ _ _
      refine ax_if_eq (pc := 20) (tgt := 36) G dX10_isVisible_20 rfl (fun _ => ?_) (fun c9 => absurd rfl c9)
      refine ax_iconst (pc := 36) (v := nI 0) G dX10_isVisible_36 ic_0 ?_
      exact ax_iretE (pc := 37) G E rfl (rfl) dX10_isVisible_37 (rfl) (rfl)
    · refine ax_iconst (pc := 12) (v := nI 1) G dX10_isVisible_12 ic_1 ?_
      refine ax_goto (pc := 13) (tgt := 17) G dX10_isVisible_13 rfl ?_
      refine ax_cV1 (pc := 17) (kb := 0) (nb := 0) G (mt_mayAskN hA (μ := μ) hm h19 true) lVX10_368_8 dX10_isVisible_17 md_obj rfl (by decide) (Nat.le_of_ble_eq_true rfl) rfl ?_
      show ax_W Ω Γ _ _ (md_H h m (md_si μ 0 (nI 1))) _ _ _
      refine ax_if_eq (pc := 20) (tgt := 36) G dX10_isVisible_20 rfl (fun _ => ?_) (fun c9 => absurd rfl c9)
      refine ax_iconst (pc := 36) (v := nI 0) G dX10_isVisible_36 ic_0 ?_
      exact ax_iretE (pc := 37) G E rfl (rfl) dX10_isVisible_37 (rfl) (rfl)

theorem mq_isVisible_B {Ω : ax_O} (hA : ax_Amb Ω) {h : ax_H} {m : Nat} {μ : md_S} (hm : Ω.2.1.heap.size ≤ m) (h19 : μ.1 19 = nI 1) (lon t : Int32) (hb : pIn lon (nI 0) (nI 359) = false) : ax_Met Ω yX10_isVisible 14 0 0 [.ref m, .int lon, .int t] (md_H h m μ) (.inl (some (.int (nI 0)))) (md_H h m (md_si μ 0 (nI 2))) := by
  refine ax_met q2924 q142 (by decide +kernel) (by decide) hA (Nat.le_of_ble_eq_true rfl) (fun Γ G E => ?_)
  show ax_W Ω Γ 0 0 (md_H h m μ) 0 [some (.ref m), some (.int lon), some (.int t)] []
  refine ax_aload_n (pc := 0) G dX10_isVisible_0 rfl rfl ?_
  refine ax_iload_n (pc := 1) G dX10_isVisible_1 rfl rfl ?_
  refine ax_cS1 (pc := 2) (kb := 0) (nb := 0) G (mt_isLon hA (h := h) (m := m) (μ := μ) lon) lSX10_381 dX10_isVisible_2 rfl (by decide) (Nat.le_of_ble_eq_true rfl) rfl ?_
  refine ax_top (show Value.int (bI (pIn lon (nI 0) (nI 359))) = .int (nI 0) from congrArg Value.int (by rw [hb]; rfl)) ?_
  refine ax_if_eq (pc := 5) (tgt := 16) G dX10_isVisible_5 rfl (fun _ => ?_) (fun c9 => absurd rfl c9)
  refine ax_iconst (pc := 16) (v := nI 0) G dX10_isVisible_16 ic_0 ?_
  refine ax_cV1 (pc := 17) (kb := 0) (nb := 0) G (mt_mayAskB hA (μ := μ) hm h19) lVX10_368_8 dX10_isVisible_17 md_obj rfl (by decide) (Nat.le_of_ble_eq_true rfl) rfl ?_
  show ax_W Ω Γ _ _ (md_H h m (md_si μ 0 (nI 2))) _ _ _
  refine ax_if_eq (pc := 20) (tgt := 36) G dX10_isVisible_20 rfl (fun _ => ?_) (fun c9 => absurd rfl c9)
  refine ax_iconst (pc := 36) (v := nI 0) G dX10_isVisible_36 ic_0 ?_
  exact ax_iretE (pc := 37) G E rfl (rfl) dX10_isVisible_37 (rfl) (rfl)

theorem mq_isVisible_B2 {Ω : ax_O} (hA : ax_Amb Ω) {h : ax_H} {m : Nat} {μ : md_S} (hm : Ω.2.1.heap.size ≤ m) (h19 : μ.1 19 = nI 1) (lon t : Int32) (h1 : pIn lon (nI 0) (nI 359) = true) (hb : t < 0) : ax_Met Ω yX10_isVisible 14 0 0 [.ref m, .int lon, .int t] (md_H h m μ) (.inl (some (.int (nI 0)))) (md_H h m (md_si μ 0 (nI 2))) := by
  refine ax_met q2924 q142 (by decide +kernel) (by decide) hA (Nat.le_of_ble_eq_true rfl) (fun Γ G E => ?_)
  show ax_W Ω Γ 0 0 (md_H h m μ) 0 [some (.ref m), some (.int lon), some (.int t)] []
  refine ax_aload_n (pc := 0) G dX10_isVisible_0 rfl rfl ?_
  refine ax_iload_n (pc := 1) G dX10_isVisible_1 rfl rfl ?_
  refine ax_cS1 (pc := 2) (kb := 0) (nb := 0) G (mt_isLon hA (h := h) (m := m) (μ := μ) lon) lSX10_381 dX10_isVisible_2 rfl (by decide) (Nat.le_of_ble_eq_true rfl) rfl ?_
  refine ax_top (show Value.int (bI (pIn lon (nI 0) (nI 359))) = .int (nI 1) from congrArg Value.int (by rw [h1]; rfl)) ?_
  refine ax_if_eq (pc := 5) (tgt := 16) G dX10_isVisible_5 rfl (fun c9 => absurd c9 (by decide)) (fun _ => ?_)
  refine ax_iload_n (pc := 8) G dX10_isVisible_8 rfl rfl ?_
  refine ax_if_lt (pc := 9) (tgt := 16) G dX10_isVisible_9 rfl (fun _ => ?_) (fun c9 => absurd hb c9)
  refine ax_iconst (pc := 16) (v := nI 0) G dX10_isVisible_16 ic_0 ?_
  refine ax_cV1 (pc := 17) (kb := 0) (nb := 0) G (mt_mayAskB hA (μ := μ) hm h19) lVX10_368_8 dX10_isVisible_17 md_obj rfl (by decide) (Nat.le_of_ble_eq_true rfl) rfl ?_
  show ax_W Ω Γ _ _ (md_H h m (md_si μ 0 (nI 2))) _ _ _
  refine ax_if_eq (pc := 20) (tgt := 36) G dX10_isVisible_20 rfl (fun _ => ?_) (fun c9 => absurd rfl c9)
  refine ax_iconst (pc := 36) (v := nI 0) G dX10_isVisible_36 ic_0 ?_
  exact ax_iretE (pc := 37) G E rfl (rfl) dX10_isVisible_37 (rfl) (rfl)

theorem mq_nextVisible_Y {Ω : ax_O} (hA : ax_Amb Ω) {h : ax_H} {m : Nat} {μ : md_S} (hm : Ω.2.1.heap.size ≤ m) (h19 : μ.1 19 = nI 1) {P V O A : Nat} (hp : pWP (μ.2 2) P V O) (hs : pWS (μ.2 4) A) {H : Nat} (hH : μ.2 2 0 = nI H) (hH2 : H ≤ 2000) (lon : Int32) (h1 : pIn lon (nI 0) (nI 359) = true) (f : Nat) (hf : f ≤ H) : ax_Met Ω yX10_nextVisible 14 0 0 [.ref m, .int lon, .int (nI f)] (md_H h m μ) (.inl (some (.int (pNext (μ.2 2) lon (H + 1 - f) f)))) (md_H h m (md_si μ 0 (nI 0))) := by
  refine ax_met q2932 q142 (by decide +kernel) (by decide) hA (Nat.le_of_ble_eq_true rfl) (fun Γ G E => ?_)
  have LL : ∀ (n i : Nat), i + n = H + 1 → f ≤ i → pNext (μ.2 2) lon n i = pNext (μ.2 2) lon (H + 1 - f) f → ax_W Ω Γ 0 0 (md_H h m (md_si μ 0 (nI 0))) 37 [some (.ref m), some (.int lon), some (.int (nI f)), some (.int (nI i))] [] := by
    intro n
    induction n with
    | zero =>
      intro i hi hif hv
      refine ax_iload_n (pc := 37) G dX10_nextVisible_37 rfl rfl ?_
      refine ax_aload_n (pc := 38) G dX10_nextVisible_38 rfl rfl ?_
      refine md_get (pc := 39) (v := .ref (m + 2)) G flX10_17_8 dX10_nextVisible_39 rfl ?_
      refine ax_iconst (pc := 42) (v := nI 0) G dX10_nextVisible_42 ic_0 ?_
      refine md_ld (pc := 43) (i := 0) (j := 2) G 235 dX10_nextVisible_43 (by decide) (by decide) rfl rfl rfl (by omega) (by decide) ?_
      refine ax_top (show Value.int ((μ.2 2) 0) = .int (nI H) from congrArg Value.int (hH)) ?_
      refine ax_icmp_gtN (pc := 44) (tgt := 64) G dX10_nextVisible_44 rfl (by omega) (by omega) (fun c44 => ?_) (fun c44 => ?_)
      · refine ax_iconst (pc := 64) (v := (-1)) G dX10_nextVisible_64 (by decide) ?_
        exact ax_iretE (pc := 65) G E rfl (rfl) dX10_nextVisible_65 (hv) (rfl)
      · omega
    | succ n ih =>
      intro i hi hif hv
      refine ax_iload_n (pc := 37) G dX10_nextVisible_37 rfl rfl ?_
      refine ax_aload_n (pc := 38) G dX10_nextVisible_38 rfl rfl ?_
      refine md_get (pc := 39) (v := .ref (m + 2)) G flX10_17_8 dX10_nextVisible_39 rfl ?_
      refine ax_iconst (pc := 42) (v := nI 0) G dX10_nextVisible_42 ic_0 ?_
      refine md_ld (pc := 43) (i := 0) (j := 2) G 235 dX10_nextVisible_43 (by decide) (by decide) rfl rfl rfl (by omega) (by decide) ?_
      refine ax_top (show Value.int ((μ.2 2) 0) = .int (nI H) from congrArg Value.int (hH)) ?_
      refine ax_icmp_gtN (pc := 44) (tgt := 64) G dX10_nextVisible_44 rfl (by omega) (by omega) (fun c44 => ?_) (fun c44 => ?_)
      · omega
      · refine ax_aload_n (pc := 47) G dX10_nextVisible_47 rfl rfl ?_
        refine ax_iload_n (pc := 48) G dX10_nextVisible_48 rfl rfl ?_
        refine ax_iload_n (pc := 49) G dX10_nextVisible_49 rfl rfl ?_
        refine ax_cV1 (pc := 50) (kb := 0) (nb := 0) G (mt_isSeen hA (h := h) (m := m) (μ := (md_si μ 0 (nI 0))) lon (nI i) hp.z8) lVX10_265_8 dX10_nextVisible_50 md_obj rfl (by decide) (Nat.le_of_ble_eq_true rfl) rfl ?_
        refine ax_if_eq (pc := 53) (tgt := 58) G dX10_nextVisible_53 rfl (fun c53 => ?_) (fun c53 => ?_)
        · replace c53 : (bI (pSeen (μ.2 2) lon (nI i))) = 0 := c53
          have c53b := bI_f c53
          refine ax_iincN (pc := 58) (n := 1) G dX10_nextVisible_58 rfl rfl ic_1 ?_
          refine ax_goto (pc := 61) (tgt := 37) G dX10_nextVisible_61 rfl ?_
          exact ih (i + 1) (by omega) (by omega) (by rw [← hv, pNext, if_neg (by rw [c53b]; decide)])
        · replace c53 : ¬ (bI (pSeen (μ.2 2) lon (nI i))) = 0 := c53
          have c53b := bI_t c53
          refine ax_iload_n (pc := 56) G dX10_nextVisible_56 rfl rfl ?_
          exact ax_iretE (pc := 57) G E rfl (rfl) dX10_nextVisible_57 (by rw [← hv, pNext, if_pos c53b]) (rfl)
  show ax_W Ω Γ 0 0 (md_H h m μ) 0 [some (.ref m), some (.int lon), some (.int (nI f)), none] []
  refine ax_aload_n (pc := 0) G dX10_nextVisible_0 rfl rfl ?_
  refine ax_iload_n (pc := 1) G dX10_nextVisible_1 rfl rfl ?_
  refine ax_cS1 (pc := 2) (kb := 0) (nb := 0) G (mt_isLon hA (h := h) (m := m) (μ := μ) lon) lSX10_381 dX10_nextVisible_2 rfl (by decide) (Nat.le_of_ble_eq_true rfl) rfl ?_
  refine ax_top (show Value.int (bI (pIn lon (nI 0) (nI 359))) = .int (nI 1) from congrArg Value.int (by rw [h1]; rfl)) ?_
  refine ax_if_eq (pc := 5) (tgt := 26) G dX10_nextVisible_5 rfl (fun c9 => absurd c9 (by decide)) (fun _ => ?_)
  refine ax_iload_n (pc := 8) G dX10_nextVisible_8 rfl rfl ?_
  refine ax_iconst (pc := 9) (v := nI 0) G dX10_nextVisible_9 ic_0 ?_
  refine ax_aload_n (pc := 10) G dX10_nextVisible_10 rfl rfl ?_
  refine md_get (pc := 11) (v := .ref (m + 2)) G flX10_17_8 dX10_nextVisible_11 rfl ?_
  refine ax_iconst (pc := 14) (v := nI 0) G dX10_nextVisible_14 ic_0 ?_
  refine md_ld (pc := 15) (i := 0) (j := 2) G 235 dX10_nextVisible_15 (by decide) (by decide) rfl rfl rfl (by omega) (by decide) ?_
  refine ax_top (show Value.int ((μ.2 2) 0) = .int (nI H) from congrArg Value.int (hH)) ?_
  refine ax_cS1 (pc := 16) (kb := 0) (nb := 0) G (mt_in hA (nI f) (nI 0) (nI H)) lSX10_74 dX10_nextVisible_16 rfl (by decide) (Nat.le_of_ble_eq_true rfl) rfl ?_
  refine ax_top (show Value.int (bI (pIn (nI f) (nI 0) (nI H))) = .int (nI 1) from congrArg Value.int (by rw [pIn_c (Nat.zero_le _) hf (by omega)]; rfl)) ?_
  refine ax_if_eq (pc := 19) (tgt := 26) G dX10_nextVisible_19 rfl (fun c9 => absurd c9 (by decide)) (fun _ => ?_)
  refine ax_iconst (pc := 22) (v := nI 1) G dX10_nextVisible_22 ic_1 ?_
  refine ax_goto (pc := 23) (tgt := 27) G dX10_nextVisible_23 rfl ?_
  refine ax_cV1 (pc := 27) (kb := 0) (nb := 0) G (mt_mayAskY hA (μ := μ) hm h19) lVX10_368_8 dX10_nextVisible_27 md_obj rfl (by decide) (Nat.le_of_ble_eq_true rfl) rfl ?_
  show ax_W Ω Γ _ _ (md_H h m (md_si μ 0 (nI 0))) _ _ _
  refine ax_if_ne (pc := 30) (tgt := 35) G dX10_nextVisible_30 rfl (fun _ => ?_) (fun c9 => absurd c9 (by decide))
  refine ax_iload_n (pc := 35) G dX10_nextVisible_35 rfl rfl ?_
  refine ax_istore_n (pc := 36) G dX10_nextVisible_36 rfl (Nat.le_of_ble_eq_true rfl) rfl ?_
  exact LL (H + 1 - f) f (by omega) (Nat.le_refl _) rfl

theorem mq_nextVisible_N {Ω : ax_O} (hA : ax_Amb Ω) {h : ax_H} {m : Nat} {μ : md_S} (hm : Ω.2.1.heap.size ≤ m) (h19 : μ.1 19 = nI 0) (lon : Int32) (f : Int32)  : ax_Met Ω yX10_nextVisible 14 0 0 [.ref m, .int lon, .int f] (md_H h m μ) (.inl (some (.int (nI 0)))) (md_H h m (md_si μ 0 (nI 1))) := by
  refine ax_met q2932 q142 (by decide +kernel) (by decide) hA (Nat.le_of_ble_eq_true rfl) (fun Γ G E => ?_)
  show ax_W Ω Γ 0 0 (md_H h m μ) 0 [some (.ref m), some (.int lon), some (.int f), none] []
  refine ax_aload_n (pc := 0) G dX10_nextVisible_0 rfl rfl ?_
  refine ax_iload_n (pc := 1) G dX10_nextVisible_1 rfl rfl ?_
  refine ax_cS1 (pc := 2) (kb := 0) (nb := 0) G (mt_isLon hA (h := h) (m := m) (μ := μ) lon) lSX10_381 dX10_nextVisible_2 rfl (by decide) (Nat.le_of_ble_eq_true rfl) rfl ?_
  refine ax_if_eq (pc := 5) (tgt := 26) G dX10_nextVisible_5 rfl (fun c5 => ?_) (fun c5 => ?_)
  · have c5b := bI_f c5
    refine ax_iconst (pc := 26) (v := nI 0) G dX10_nextVisible_26 ic_0 ?_
    refine ax_cV1 (pc := 27) (kb := 0) (nb := 0) G (mt_mayAskN hA (μ := μ) hm h19 false) lVX10_368_8 dX10_nextVisible_27 md_obj rfl (by decide) (Nat.le_of_ble_eq_true rfl) rfl ?_
    show ax_W Ω Γ _ _ (md_H h m (md_si μ 0 (nI 1))) _ _ _
    refine ax_if_ne (pc := 30) (tgt := 35) G dX10_nextVisible_30 rfl (fun c9 => absurd rfl c9) (fun _ => ?_)
    refine ax_iconst (pc := 33) (v := nI 0) G dX10_nextVisible_33 ic_0 ?_
    exact ax_iretE (pc := 34) G E rfl (rfl) dX10_nextVisible_34 (rfl) (rfl)
  · have c5b := bI_t c5
    refine ax_iload_n (pc := 8) G dX10_nextVisible_8 rfl rfl ?_
    refine ax_iconst (pc := 9) (v := nI 0) G dX10_nextVisible_9 ic_0 ?_
    refine ax_aload_n (pc := 10) G dX10_nextVisible_10 rfl rfl ?_
    refine md_get (pc := 11) (v := .ref (m + 2)) G flX10_17_8 dX10_nextVisible_11 rfl ?_
    refine ax_iconst (pc := 14) (v := nI 0) G dX10_nextVisible_14 ic_0 ?_
    refine md_ld (pc := 15) (i := 0) (j := 2) G 235 dX10_nextVisible_15 (by decide) (by decide) rfl rfl rfl (by omega) (by decide) ?_
    refine ax_cS1 (pc := 16) (kb := 0) (nb := 0) G (mt_in hA f (nI 0) ((μ.2 2) 0)) lSX10_74 dX10_nextVisible_16 rfl (by decide) (Nat.le_of_ble_eq_true rfl) rfl ?_
    refine ax_if_eq (pc := 19) (tgt := 26) G dX10_nextVisible_19 rfl (fun c19 => ?_) (fun c19 => ?_)
    · have c19b := bI_f c19
      refine ax_iconst (pc := 26) (v := nI 0) G dX10_nextVisible_26 ic_0 ?_
      refine ax_cV1 (pc := 27) (kb := 0) (nb := 0) G (mt_mayAskN hA (μ := μ) hm h19 false) lVX10_368_8 dX10_nextVisible_27 md_obj rfl (by decide) (Nat.le_of_ble_eq_true rfl) rfl ?_
      show ax_W Ω Γ _ _ (md_H h m (md_si μ 0 (nI 1))) _ _ _
      refine ax_if_ne (pc := 30) (tgt := 35) G dX10_nextVisible_30 rfl (fun c9 => absurd rfl c9) (fun _ => ?_)
      refine ax_iconst (pc := 33) (v := nI 0) G dX10_nextVisible_33 ic_0 ?_
      exact ax_iretE (pc := 34) G E rfl (rfl) dX10_nextVisible_34 (rfl) (rfl)
    · have c19b := bI_t c19
      refine ax_iconst (pc := 22) (v := nI 1) G dX10_nextVisible_22 ic_1 ?_
      refine ax_goto (pc := 23) (tgt := 27) G dX10_nextVisible_23 rfl ?_
      refine ax_cV1 (pc := 27) (kb := 0) (nb := 0) G (mt_mayAskN hA (μ := μ) hm h19 true) lVX10_368_8 dX10_nextVisible_27 md_obj rfl (by decide) (Nat.le_of_ble_eq_true rfl) rfl ?_
      show ax_W Ω Γ _ _ (md_H h m (md_si μ 0 (nI 1))) _ _ _
      refine ax_if_ne (pc := 30) (tgt := 35) G dX10_nextVisible_30 rfl (fun c9 => absurd rfl c9) (fun _ => ?_)
      refine ax_iconst (pc := 33) (v := nI 0) G dX10_nextVisible_33 ic_0 ?_
      exact ax_iretE (pc := 34) G E rfl (rfl) dX10_nextVisible_34 (rfl) (rfl)

theorem mq_nextVisible_B {Ω : ax_O} (hA : ax_Amb Ω) {h : ax_H} {m : Nat} {μ : md_S} (hm : Ω.2.1.heap.size ≤ m) (h19 : μ.1 19 = nI 1) (lon f : Int32) (hb : pIn lon (nI 0) (nI 359) = false) : ax_Met Ω yX10_nextVisible 14 0 0 [.ref m, .int lon, .int f] (md_H h m μ) (.inl (some (.int (nI 0)))) (md_H h m (md_si μ 0 (nI 2))) := by
  refine ax_met q2932 q142 (by decide +kernel) (by decide) hA (Nat.le_of_ble_eq_true rfl) (fun Γ G E => ?_)
  show ax_W Ω Γ 0 0 (md_H h m μ) 0 [some (.ref m), some (.int lon), some (.int f), none] []
  refine ax_aload_n (pc := 0) G dX10_nextVisible_0 rfl rfl ?_
  refine ax_iload_n (pc := 1) G dX10_nextVisible_1 rfl rfl ?_
  refine ax_cS1 (pc := 2) (kb := 0) (nb := 0) G (mt_isLon hA (h := h) (m := m) (μ := μ) lon) lSX10_381 dX10_nextVisible_2 rfl (by decide) (Nat.le_of_ble_eq_true rfl) rfl ?_
  refine ax_top (show Value.int (bI (pIn lon (nI 0) (nI 359))) = .int (nI 0) from congrArg Value.int (by rw [hb]; rfl)) ?_
  refine ax_if_eq (pc := 5) (tgt := 26) G dX10_nextVisible_5 rfl (fun _ => ?_) (fun c9 => absurd rfl c9)
  refine ax_iconst (pc := 26) (v := nI 0) G dX10_nextVisible_26 ic_0 ?_
  refine ax_cV1 (pc := 27) (kb := 0) (nb := 0) G (mt_mayAskB hA (μ := μ) hm h19) lVX10_368_8 dX10_nextVisible_27 md_obj rfl (by decide) (Nat.le_of_ble_eq_true rfl) rfl ?_
  show ax_W Ω Γ _ _ (md_H h m (md_si μ 0 (nI 2))) _ _ _
  refine ax_if_ne (pc := 30) (tgt := 35) G dX10_nextVisible_30 rfl (fun c9 => absurd rfl c9) (fun _ => ?_)
  refine ax_iconst (pc := 33) (v := nI 0) G dX10_nextVisible_33 ic_0 ?_
  exact ax_iretE (pc := 34) G E rfl (rfl) dX10_nextVisible_34 (rfl) (rfl)

theorem mq_nextVisible_B2 {Ω : ax_O} (hA : ax_Amb Ω) {h : ax_H} {m : Nat} {μ : md_S} (hm : Ω.2.1.heap.size ≤ m) (h19 : μ.1 19 = nI 1) (lon f : Int32) (h1 : pIn lon (nI 0) (nI 359) = true) (hb : pIn f (nI 0) ((μ.2 2) 0) = false) : ax_Met Ω yX10_nextVisible 14 0 0 [.ref m, .int lon, .int f] (md_H h m μ) (.inl (some (.int (nI 0)))) (md_H h m (md_si μ 0 (nI 2))) := by
  refine ax_met q2932 q142 (by decide +kernel) (by decide) hA (Nat.le_of_ble_eq_true rfl) (fun Γ G E => ?_)
  show ax_W Ω Γ 0 0 (md_H h m μ) 0 [some (.ref m), some (.int lon), some (.int f), none] []
  refine ax_aload_n (pc := 0) G dX10_nextVisible_0 rfl rfl ?_
  refine ax_iload_n (pc := 1) G dX10_nextVisible_1 rfl rfl ?_
  refine ax_cS1 (pc := 2) (kb := 0) (nb := 0) G (mt_isLon hA (h := h) (m := m) (μ := μ) lon) lSX10_381 dX10_nextVisible_2 rfl (by decide) (Nat.le_of_ble_eq_true rfl) rfl ?_
  refine ax_top (show Value.int (bI (pIn lon (nI 0) (nI 359))) = .int (nI 1) from congrArg Value.int (by rw [h1]; rfl)) ?_
  refine ax_if_eq (pc := 5) (tgt := 26) G dX10_nextVisible_5 rfl (fun c9 => absurd c9 (by decide)) (fun _ => ?_)
  refine ax_iload_n (pc := 8) G dX10_nextVisible_8 rfl rfl ?_
  refine ax_iconst (pc := 9) (v := nI 0) G dX10_nextVisible_9 ic_0 ?_
  refine ax_aload_n (pc := 10) G dX10_nextVisible_10 rfl rfl ?_
  refine md_get (pc := 11) (v := .ref (m + 2)) G flX10_17_8 dX10_nextVisible_11 rfl ?_
  refine ax_iconst (pc := 14) (v := nI 0) G dX10_nextVisible_14 ic_0 ?_
  refine md_ld (pc := 15) (i := 0) (j := 2) G 235 dX10_nextVisible_15 (by decide) (by decide) rfl rfl rfl (by omega) (by decide) ?_
  refine ax_cS1 (pc := 16) (kb := 0) (nb := 0) G (mt_in hA f (nI 0) ((μ.2 2) 0)) lSX10_74 dX10_nextVisible_16 rfl (by decide) (Nat.le_of_ble_eq_true rfl) rfl ?_
  refine ax_top (show Value.int (bI (pIn f (nI 0) ((μ.2 2) 0))) = .int (nI 0) from congrArg Value.int (by rw [hb]; rfl)) ?_
  refine ax_if_eq (pc := 19) (tgt := 26) G dX10_nextVisible_19 rfl (fun _ => ?_) (fun c9 => absurd rfl c9)
  refine ax_iconst (pc := 26) (v := nI 0) G dX10_nextVisible_26 ic_0 ?_
  refine ax_cV1 (pc := 27) (kb := 0) (nb := 0) G (mt_mayAskB hA (μ := μ) hm h19) lVX10_368_8 dX10_nextVisible_27 md_obj rfl (by decide) (Nat.le_of_ble_eq_true rfl) rfl ?_
  show ax_W Ω Γ _ _ (md_H h m (md_si μ 0 (nI 2))) _ _ _
  refine ax_if_ne (pc := 30) (tgt := 35) G dX10_nextVisible_30 rfl (fun c9 => absurd rfl c9) (fun _ => ?_)
  refine ax_iconst (pc := 33) (v := nI 0) G dX10_nextVisible_33 ic_0 ?_
  exact ax_iretE (pc := 34) G E rfl (rfl) dX10_nextVisible_34 (rfl) (rfl)

theorem mt_queuedOf {Ω : ax_O} (hA : ax_Amb Ω) {h : ax_H} {m : Nat} {μ : md_S} {P V O A : Nat} (hp : pWP (μ.2 2) P V O) (hs : pWS (μ.2 4) A) (p : Nat) (hk : p < P) : ax_Met Ω yX10_queuedOf 5 0 0 [.ref m, .int (nI p)] (md_H h m μ) (.inl (some (.int (pQueued (μ.2 2) (μ.2 4) p V)))) (md_H h m μ) := by
  refine ax_met q2796 q142 (by decide +kernel) (by decide) hA (Nat.le_of_ble_eq_true rfl) (fun Γ G E => ?_)
  have hV9 := hp.lV
  have LL : ∀ (n i : Nat), i + n = V → ax_W Ω Γ 0 0 (md_H h m μ) 4 [some (.ref m), some (.int (nI p)), some (.int (pQueued (μ.2 2) (μ.2 4) p i)), some (.int (nI i))] [] := by
    intro n
    induction n with
    | zero =>
      intro i hi
      have hi9 : V = i := by omega
      subst hi9
      refine ax_iload_n (pc := 4) G dX10_queuedOf_4 rfl rfl ?_
      refine ax_aload_n (pc := 5) G dX10_queuedOf_5 rfl rfl ?_
      refine md_get (pc := 6) (v := .ref (m + 2)) G flX10_17_8 dX10_queuedOf_6 rfl ?_
      refine ax_bipush (pc := 9) (v := nI 65) G dX10_queuedOf_9 ib_65 ?_
      refine md_ld (pc := 11) (i := 65) (j := 2) G 235 dX10_queuedOf_11 (by decide) (by decide) rfl rfl rfl (by omega) (by decide) ?_
      refine ax_top (show Value.int ((μ.2 2) 65) = .int (nI V) from congrArg Value.int (hp.hV)) ?_
      refine ax_icmp_geN (pc := 12) (tgt := 54) G dX10_queuedOf_12 rfl (by omega) (by omega) (fun c12 => ?_) (fun c12 => ?_)
      · refine ax_iload_n (pc := 54) G dX10_queuedOf_54 rfl rfl ?_
        exact ax_iretE (pc := 55) G E rfl (rfl) dX10_queuedOf_55 (rfl) (rfl)
      · omega
    | succ n ih =>
      intro i hi
      refine ax_iload_n (pc := 4) G dX10_queuedOf_4 rfl rfl ?_
      refine ax_aload_n (pc := 5) G dX10_queuedOf_5 rfl rfl ?_
      refine md_get (pc := 6) (v := .ref (m + 2)) G flX10_17_8 dX10_queuedOf_6 rfl ?_
      refine ax_bipush (pc := 9) (v := nI 65) G dX10_queuedOf_9 ib_65 ?_
      refine md_ld (pc := 11) (i := 65) (j := 2) G 235 dX10_queuedOf_11 (by decide) (by decide) rfl rfl rfl (by omega) (by decide) ?_
      refine ax_top (show Value.int ((μ.2 2) 65) = .int (nI V) from congrArg Value.int (hp.hV)) ?_
      refine ax_icmp_geN (pc := 12) (tgt := 54) G dX10_queuedOf_12 rfl (by omega) (by omega) (fun c12 => ?_) (fun c12 => ?_)
      · omega
      · refine ax_iload_n (pc := 15) G dX10_queuedOf_15 rfl rfl ?_
        refine ax_aload_n (pc := 16) G dX10_queuedOf_16 rfl rfl ?_
        refine md_get (pc := 17) (v := .ref (m + 4)) G flX10_23_8 dX10_queuedOf_17 rfl ?_
        refine ax_bipush (pc := 20) (v := nI 47) G dX10_queuedOf_20 ib_47 ?_
        refine ax_iload_n (pc := 22) G dX10_queuedOf_22 rfl rfl ?_
        refine ax_iaddN (pc := 23) G dX10_queuedOf_23 ?_
        refine md_ld (pc := 24) (i := 47 + i) (j := 4) G 627 dX10_queuedOf_24 (by decide) (by decide) rfl rfl rfl (by omega) (by decide) ?_
        refine ax_if_ne (pc := 25) (tgt := 45) G dX10_queuedOf_25 rfl (fun c25 => ?_) (fun c25 => ?_)
        · refine ax_iconst (pc := 45) (v := nI 0) G dX10_queuedOf_45 ic_0 ?_
          refine ax_iadd (pc := 46) G dX10_queuedOf_46 ?_
          refine ax_istore_n (pc := 47) G dX10_queuedOf_47 rfl (Nat.le_of_ble_eq_true rfl) rfl ?_
          refine ax_iincN (pc := 48) (n := 1) G dX10_queuedOf_48 rfl rfl ic_1 ?_
          refine ax_goto (pc := 51) (tgt := 4) G dX10_queuedOf_51 rfl ?_
          have q9 := ih (i + 1) (by omega)
          rw [show pQueued (μ.2 2) (μ.2 4) p (i + 1) = (pQueued (μ.2 2) (μ.2 4) p i) + (nI 0) from by first | (simp only [pQueued, c12, c25, if_true, if_false, Bool.false_eq_true, not_false_eq_true, not_true_eq_false, decide_true, decide_false, Bool.and_true, Bool.true_and, Bool.and_false, Bool.false_and, Bool.or_true, Bool.true_or, Bool.or_false, Bool.false_or, and_self, and_true, true_and, and_false, false_and, or_true, true_or, or_false, false_or, ne_eq]; done) | (simp only [pQueued, c12, c25, if_true, if_false, Bool.false_eq_true, not_false_eq_true, not_true_eq_false, decide_true, decide_false, Bool.and_true, Bool.true_and, Bool.and_false, Bool.false_and, Bool.or_true, Bool.true_or, Bool.or_false, Bool.false_or, and_self, and_true, true_and, and_false, false_and, or_true, true_or, or_false, false_or, ne_eq]; rfl)] at q9
          exact q9
        · refine ax_aload_n (pc := 28) G dX10_queuedOf_28 rfl rfl ?_
          refine ax_aload_n (pc := 29) G dX10_queuedOf_29 rfl rfl ?_
          refine md_get (pc := 30) (v := .ref (m + 4)) G flX10_23_8 dX10_queuedOf_30 rfl ?_
          refine ax_iload_n (pc := 33) G dX10_queuedOf_33 rfl rfl ?_
          refine ax_cV1 (pc := 34) (kb := 0) (nb := 0) G (md_ro (mt_itsProposal hA (μ := μ) (s := μ.2 4) (j := 4) (Or.inl rfl) i (by omega))) lVX10_256_8 dX10_queuedOf_34 md_obj rfl (by decide) (Nat.le_of_ble_eq_true rfl) rfl ?_
          refine ax_iload_n (pc := 37) G dX10_queuedOf_37 rfl rfl ?_
          refine ax_icmp_ne (pc := 38) (tgt := 45) G dX10_queuedOf_38 rfl (fun c38 => ?_) (fun c38 => ?_)
          · refine ax_iconst (pc := 45) (v := nI 0) G dX10_queuedOf_45 ic_0 ?_
            refine ax_iadd (pc := 46) G dX10_queuedOf_46 ?_
            refine ax_istore_n (pc := 47) G dX10_queuedOf_47 rfl (Nat.le_of_ble_eq_true rfl) rfl ?_
            refine ax_iincN (pc := 48) (n := 1) G dX10_queuedOf_48 rfl rfl ic_1 ?_
            refine ax_goto (pc := 51) (tgt := 4) G dX10_queuedOf_51 rfl ?_
            have q9 := ih (i + 1) (by omega)
            rw [show pQueued (μ.2 2) (μ.2 4) p (i + 1) = (pQueued (μ.2 2) (μ.2 4) p i) + (nI 0) from by first | (simp only [pQueued, c12, c25, c38, if_true, if_false, Bool.false_eq_true, not_false_eq_true, not_true_eq_false, decide_true, decide_false, Bool.and_true, Bool.true_and, Bool.and_false, Bool.false_and, Bool.or_true, Bool.true_or, Bool.or_false, Bool.false_or, and_self, and_true, true_and, and_false, false_and, or_true, true_or, or_false, false_or, ne_eq]; done) | (simp only [pQueued, c12, c25, c38, if_true, if_false, Bool.false_eq_true, not_false_eq_true, not_true_eq_false, decide_true, decide_false, Bool.and_true, Bool.true_and, Bool.and_false, Bool.false_and, Bool.or_true, Bool.true_or, Bool.or_false, Bool.false_or, and_self, and_true, true_and, and_false, false_and, or_true, true_or, or_false, false_or, ne_eq]; rfl) | (simp only [pQueued, c12, if_pos c25, decide_eq_true c25, c38, if_true, if_false, Bool.false_eq_true, not_false_eq_true, not_true_eq_false, decide_true, decide_false, Bool.and_true, Bool.true_and, Bool.and_false, Bool.false_and, Bool.or_true, Bool.true_or, Bool.or_false, Bool.false_or, and_self, and_true, true_and, and_false, false_and, or_true, true_or, or_false, false_or, ne_eq]; done) | (simp only [pQueued, c12, if_pos c25, decide_eq_true c25, c38, if_true, if_false, Bool.false_eq_true, not_false_eq_true, not_true_eq_false, decide_true, decide_false, Bool.and_true, Bool.true_and, Bool.and_false, Bool.false_and, Bool.or_true, Bool.true_or, Bool.or_false, Bool.false_or, and_self, and_true, true_and, and_false, false_and, or_true, true_or, or_false, false_or, ne_eq]; rfl)] at q9
            exact q9
          · refine ax_iconst (pc := 41) (v := nI 1) G dX10_queuedOf_41 ic_1 ?_
            refine ax_goto (pc := 42) (tgt := 46) G dX10_queuedOf_42 rfl ?_
            refine ax_iadd (pc := 46) G dX10_queuedOf_46 ?_
            refine ax_istore_n (pc := 47) G dX10_queuedOf_47 rfl (Nat.le_of_ble_eq_true rfl) rfl ?_
            refine ax_iincN (pc := 48) (n := 1) G dX10_queuedOf_48 rfl rfl ic_1 ?_
            refine ax_goto (pc := 51) (tgt := 4) G dX10_queuedOf_51 rfl ?_
            have q9 := ih (i + 1) (by omega)
            rw [show pQueued (μ.2 2) (μ.2 4) p (i + 1) = (pQueued (μ.2 2) (μ.2 4) p i) + (nI 1) from by first | (simp only [pQueued, c12, c25, c38, if_true, if_false, Bool.false_eq_true, not_false_eq_true, not_true_eq_false, decide_true, decide_false, Bool.and_true, Bool.true_and, Bool.and_false, Bool.false_and, Bool.or_true, Bool.true_or, Bool.or_false, Bool.false_or, and_self, and_true, true_and, and_false, false_and, or_true, true_or, or_false, false_or, ne_eq]; done) | (simp only [pQueued, c12, c25, c38, if_true, if_false, Bool.false_eq_true, not_false_eq_true, not_true_eq_false, decide_true, decide_false, Bool.and_true, Bool.true_and, Bool.and_false, Bool.false_and, Bool.or_true, Bool.true_or, Bool.or_false, Bool.false_or, and_self, and_true, true_and, and_false, false_and, or_true, true_or, or_false, false_or, ne_eq]; rfl) | (simp only [pQueued, c12, if_pos c25, decide_eq_true c25, if_pos c38, decide_eq_true c38, if_true, if_false, Bool.false_eq_true, not_false_eq_true, not_true_eq_false, decide_true, decide_false, Bool.and_true, Bool.true_and, Bool.and_false, Bool.false_and, Bool.or_true, Bool.true_or, Bool.or_false, Bool.false_or, and_self, and_true, true_and, and_false, false_and, or_true, true_or, or_false, false_or, ne_eq]; done) | (simp only [pQueued, c12, if_pos c25, decide_eq_true c25, if_pos c38, decide_eq_true c38, if_true, if_false, Bool.false_eq_true, not_false_eq_true, not_true_eq_false, decide_true, decide_false, Bool.and_true, Bool.true_and, Bool.and_false, Bool.false_and, Bool.or_true, Bool.true_or, Bool.or_false, Bool.false_or, and_self, and_true, true_and, and_false, false_and, or_true, true_or, or_false, false_or, ne_eq]; rfl)] at q9
            exact q9
  show ax_W Ω Γ 0 0 (md_H h m μ) 0 [some (.ref m), some (.int (nI p)), none, none] []
  refine ax_iconst (pc := 0) (v := nI 0) G dX10_queuedOf_0 ic_0 ?_
  refine ax_istore_n (pc := 1) G dX10_queuedOf_1 rfl (Nat.le_of_ble_eq_true rfl) rfl ?_
  refine ax_iconst (pc := 2) (v := nI 0) G dX10_queuedOf_2 ic_0 ?_
  refine ax_istore_n (pc := 3) G dX10_queuedOf_3 rfl (Nat.le_of_ble_eq_true rfl) rfl ?_
  exact LL V 0 (by omega)

theorem mq_proposal_0_Y {Ω : ax_O} (hA : ax_Amb Ω) {h : ax_H} {m : Nat} {μ : md_S} (hm : Ω.2.1.heap.size ≤ m) (h19 : μ.1 19 = nI 1) {P V O A : Nat} (hp : pWP (μ.2 2) P V O) (hs : pWS (μ.2 4) A) (k : Nat) (hk : k < P) : ax_Met Ω yX10_proposal 14 0 0 [.ref m, .int (nI k), .int (nI 0)] (md_H h m μ) (.inl (some (.int ((μ.2 4) (17 + k))))) (md_H h m (md_si μ 0 (nI 0))) := by
  refine ax_met q2781 q142 (by decide +kernel) (by decide) hA (Nat.le_of_ble_eq_true rfl) (fun Γ G E => ?_)
  have hP9 := hp.lP
  show ax_W Ω Γ 0 0 (md_H h m μ) 0 [some (.ref m), some (.int (nI k)), some (.int (nI 0))] []
  refine ax_aload_n (pc := 0) G dX10_proposal_0 rfl rfl ?_
  refine ax_aload_n (pc := 1) G dX10_proposal_1 rfl rfl ?_
  refine ax_iload_n (pc := 2) G dX10_proposal_2 rfl rfl ?_
  refine ax_cV1 (pc := 3) (kb := 0) (nb := 0) G (mt_isProposal hA (μ := μ) (nI k)) lVX10_358_8 dX10_proposal_3 md_obj rfl (by decide) (Nat.le_of_ble_eq_true rfl) rfl ?_
  refine ax_top (show Value.int (bI (pIn (nI k) (nI 0) ((μ.2 2) 10 - nI 1))) = .int (nI 1) from congrArg Value.int (by rw [pIn_k hp.hP hk (by have := hp.lP; omega)]; rfl)) ?_
  refine ax_iload_n (pc := 6) G dX10_proposal_6 rfl rfl ?_
  refine ax_iconst (pc := 7) (v := nI 0) G dX10_proposal_7 ic_0 ?_
  refine ax_bipush (pc := 8) (v := nI 7) G dX10_proposal_8 ib_7 ?_
  refine ax_cS1 (pc := 10) (kb := 0) (nb := 0) G (mt_in hA (nI 0) (nI 0) (nI 7)) lSX10_74 dX10_proposal_10 rfl (by decide) (Nat.le_of_ble_eq_true rfl) rfl ?_
  refine ax_top (show Value.int (bI (pIn (nI 0) (nI 0) (nI 7))) = .int (nI 1) from congrArg Value.int (by decide)) ?_
  refine ax_cV1 (pc := 13) (kb := 0) (nb := 0) G (mt_mayAskForY hA (μ := μ) hm h19) lVX10_361_8 dX10_proposal_13 md_obj rfl (by decide) (Nat.le_of_ble_eq_true rfl) rfl ?_
  show ax_W Ω Γ _ _ (md_H h m (md_si μ 0 (nI 0))) _ _ _
  refine ax_if_ne (pc := 16) (tgt := 21) G dX10_proposal_16 rfl (fun _ => ?_) (fun c9 => absurd c9 (by decide))
  refine ax_iload_n (pc := 21) G dX10_proposal_21 rfl rfl ?_
  refine ax_tabIn (pc := 22) (tgt := 64) G dX10_proposal_22 (by decide) (by decide) (by decide) rfl rfl ?_
  refine ax_aload_n (pc := 64) G dX10_proposal_64 rfl rfl ?_
  refine md_get (pc := 65) (v := .ref (m + 4)) G flX10_23_8 dX10_proposal_65 rfl ?_
  refine ax_bipush (pc := 68) (v := nI 17) G dX10_proposal_68 ib_17 ?_
  refine ax_iload_n (pc := 70) G dX10_proposal_70 rfl rfl ?_
  refine ax_iaddN (pc := 71) G dX10_proposal_71 ?_
  refine md_ld (pc := 72) (i := 17 + k) (j := 4) G 627 dX10_proposal_72 (by decide) (by decide) rfl rfl rfl (by omega) (by decide) ?_
  exact ax_iretE (pc := 73) G E rfl (rfl) dX10_proposal_73 (rfl) (rfl)

theorem mq_proposal_1_Y {Ω : ax_O} (hA : ax_Amb Ω) {h : ax_H} {m : Nat} {μ : md_S} (hm : Ω.2.1.heap.size ≤ m) (h19 : μ.1 19 = nI 1) {P V O A : Nat} (hp : pWP (μ.2 2) P V O) (hs : pWS (μ.2 4) A) (k : Nat) (hk : k < P) : ax_Met Ω yX10_proposal 14 0 0 [.ref m, .int (nI k), .int (nI 1)] (md_H h m μ) (.inl (some (.int ((μ.2 4) (23 + k))))) (md_H h m (md_si μ 0 (nI 0))) := by
  refine ax_met q2781 q142 (by decide +kernel) (by decide) hA (Nat.le_of_ble_eq_true rfl) (fun Γ G E => ?_)
  have hP9 := hp.lP
  show ax_W Ω Γ 0 0 (md_H h m μ) 0 [some (.ref m), some (.int (nI k)), some (.int (nI 1))] []
  refine ax_aload_n (pc := 0) G dX10_proposal_0 rfl rfl ?_
  refine ax_aload_n (pc := 1) G dX10_proposal_1 rfl rfl ?_
  refine ax_iload_n (pc := 2) G dX10_proposal_2 rfl rfl ?_
  refine ax_cV1 (pc := 3) (kb := 0) (nb := 0) G (mt_isProposal hA (μ := μ) (nI k)) lVX10_358_8 dX10_proposal_3 md_obj rfl (by decide) (Nat.le_of_ble_eq_true rfl) rfl ?_
  refine ax_top (show Value.int (bI (pIn (nI k) (nI 0) ((μ.2 2) 10 - nI 1))) = .int (nI 1) from congrArg Value.int (by rw [pIn_k hp.hP hk (by have := hp.lP; omega)]; rfl)) ?_
  refine ax_iload_n (pc := 6) G dX10_proposal_6 rfl rfl ?_
  refine ax_iconst (pc := 7) (v := nI 0) G dX10_proposal_7 ic_0 ?_
  refine ax_bipush (pc := 8) (v := nI 7) G dX10_proposal_8 ib_7 ?_
  refine ax_cS1 (pc := 10) (kb := 0) (nb := 0) G (mt_in hA (nI 1) (nI 0) (nI 7)) lSX10_74 dX10_proposal_10 rfl (by decide) (Nat.le_of_ble_eq_true rfl) rfl ?_
  refine ax_top (show Value.int (bI (pIn (nI 1) (nI 0) (nI 7))) = .int (nI 1) from congrArg Value.int (by decide)) ?_
  refine ax_cV1 (pc := 13) (kb := 0) (nb := 0) G (mt_mayAskForY hA (μ := μ) hm h19) lVX10_361_8 dX10_proposal_13 md_obj rfl (by decide) (Nat.le_of_ble_eq_true rfl) rfl ?_
  show ax_W Ω Γ _ _ (md_H h m (md_si μ 0 (nI 0))) _ _ _
  refine ax_if_ne (pc := 16) (tgt := 21) G dX10_proposal_16 rfl (fun _ => ?_) (fun c9 => absurd c9 (by decide))
  refine ax_iload_n (pc := 21) G dX10_proposal_21 rfl rfl ?_
  refine ax_tabIn (pc := 22) (tgt := 74) G dX10_proposal_22 (by decide) (by decide) (by decide) rfl rfl ?_
  refine ax_aload_n (pc := 74) G dX10_proposal_74 rfl rfl ?_
  refine md_get (pc := 75) (v := .ref (m + 4)) G flX10_23_8 dX10_proposal_75 rfl ?_
  refine ax_bipush (pc := 78) (v := nI 23) G dX10_proposal_78 ib_23 ?_
  refine ax_iload_n (pc := 80) G dX10_proposal_80 rfl rfl ?_
  refine ax_iaddN (pc := 81) G dX10_proposal_81 ?_
  refine md_ld (pc := 82) (i := 23 + k) (j := 4) G 627 dX10_proposal_82 (by decide) (by decide) rfl rfl rfl (by omega) (by decide) ?_
  exact ax_iretE (pc := 83) G E rfl (rfl) dX10_proposal_83 (rfl) (rfl)

theorem mq_proposal_2_Y {Ω : ax_O} (hA : ax_Amb Ω) {h : ax_H} {m : Nat} {μ : md_S} (hm : Ω.2.1.heap.size ≤ m) (h19 : μ.1 19 = nI 1) {P V O A : Nat} (hp : pWP (μ.2 2) P V O) (hs : pWS (μ.2 4) A) (k : Nat) (hk : k < P) : ax_Met Ω yX10_proposal 14 0 0 [.ref m, .int (nI k), .int (nI 2)] (md_H h m μ) (.inl (some (.int ((μ.2 4) (29 + k))))) (md_H h m (md_si μ 0 (nI 0))) := by
  refine ax_met q2781 q142 (by decide +kernel) (by decide) hA (Nat.le_of_ble_eq_true rfl) (fun Γ G E => ?_)
  have hP9 := hp.lP
  show ax_W Ω Γ 0 0 (md_H h m μ) 0 [some (.ref m), some (.int (nI k)), some (.int (nI 2))] []
  refine ax_aload_n (pc := 0) G dX10_proposal_0 rfl rfl ?_
  refine ax_aload_n (pc := 1) G dX10_proposal_1 rfl rfl ?_
  refine ax_iload_n (pc := 2) G dX10_proposal_2 rfl rfl ?_
  refine ax_cV1 (pc := 3) (kb := 0) (nb := 0) G (mt_isProposal hA (μ := μ) (nI k)) lVX10_358_8 dX10_proposal_3 md_obj rfl (by decide) (Nat.le_of_ble_eq_true rfl) rfl ?_
  refine ax_top (show Value.int (bI (pIn (nI k) (nI 0) ((μ.2 2) 10 - nI 1))) = .int (nI 1) from congrArg Value.int (by rw [pIn_k hp.hP hk (by have := hp.lP; omega)]; rfl)) ?_
  refine ax_iload_n (pc := 6) G dX10_proposal_6 rfl rfl ?_
  refine ax_iconst (pc := 7) (v := nI 0) G dX10_proposal_7 ic_0 ?_
  refine ax_bipush (pc := 8) (v := nI 7) G dX10_proposal_8 ib_7 ?_
  refine ax_cS1 (pc := 10) (kb := 0) (nb := 0) G (mt_in hA (nI 2) (nI 0) (nI 7)) lSX10_74 dX10_proposal_10 rfl (by decide) (Nat.le_of_ble_eq_true rfl) rfl ?_
  refine ax_top (show Value.int (bI (pIn (nI 2) (nI 0) (nI 7))) = .int (nI 1) from congrArg Value.int (by decide)) ?_
  refine ax_cV1 (pc := 13) (kb := 0) (nb := 0) G (mt_mayAskForY hA (μ := μ) hm h19) lVX10_361_8 dX10_proposal_13 md_obj rfl (by decide) (Nat.le_of_ble_eq_true rfl) rfl ?_
  show ax_W Ω Γ _ _ (md_H h m (md_si μ 0 (nI 0))) _ _ _
  refine ax_if_ne (pc := 16) (tgt := 21) G dX10_proposal_16 rfl (fun _ => ?_) (fun c9 => absurd c9 (by decide))
  refine ax_iload_n (pc := 21) G dX10_proposal_21 rfl rfl ?_
  refine ax_tabIn (pc := 22) (tgt := 84) G dX10_proposal_22 (by decide) (by decide) (by decide) rfl rfl ?_
  refine ax_aload_n (pc := 84) G dX10_proposal_84 rfl rfl ?_
  refine md_get (pc := 85) (v := .ref (m + 4)) G flX10_23_8 dX10_proposal_85 rfl ?_
  refine ax_bipush (pc := 88) (v := nI 29) G dX10_proposal_88 ib_29 ?_
  refine ax_iload_n (pc := 90) G dX10_proposal_90 rfl rfl ?_
  refine ax_iaddN (pc := 91) G dX10_proposal_91 ?_
  refine md_ld (pc := 92) (i := 29 + k) (j := 4) G 627 dX10_proposal_92 (by decide) (by decide) rfl rfl rfl (by omega) (by decide) ?_
  exact ax_iretE (pc := 93) G E rfl (rfl) dX10_proposal_93 (rfl) (rfl)

theorem mq_proposal_3_Y {Ω : ax_O} (hA : ax_Amb Ω) {h : ax_H} {m : Nat} {μ : md_S} (hm : Ω.2.1.heap.size ≤ m) (h19 : μ.1 19 = nI 1) {P V O A : Nat} (hp : pWP (μ.2 2) P V O) (hs : pWS (μ.2 4) A) (k : Nat) (hk : k < P) : ax_Met Ω yX10_proposal 14 0 0 [.ref m, .int (nI k), .int (nI 3)] (md_H h m μ) (.inl (some (.int (pLeft (μ.2 4) k)))) (md_H h m (md_si μ 0 (nI 0))) := by
  refine ax_met q2781 q142 (by decide +kernel) (by decide) hA (Nat.le_of_ble_eq_true rfl) (fun Γ G E => ?_)
  have hP9 := hp.lP
  show ax_W Ω Γ 0 0 (md_H h m μ) 0 [some (.ref m), some (.int (nI k)), some (.int (nI 3))] []
  refine ax_aload_n (pc := 0) G dX10_proposal_0 rfl rfl ?_
  refine ax_aload_n (pc := 1) G dX10_proposal_1 rfl rfl ?_
  refine ax_iload_n (pc := 2) G dX10_proposal_2 rfl rfl ?_
  refine ax_cV1 (pc := 3) (kb := 0) (nb := 0) G (mt_isProposal hA (μ := μ) (nI k)) lVX10_358_8 dX10_proposal_3 md_obj rfl (by decide) (Nat.le_of_ble_eq_true rfl) rfl ?_
  refine ax_top (show Value.int (bI (pIn (nI k) (nI 0) ((μ.2 2) 10 - nI 1))) = .int (nI 1) from congrArg Value.int (by rw [pIn_k hp.hP hk (by have := hp.lP; omega)]; rfl)) ?_
  refine ax_iload_n (pc := 6) G dX10_proposal_6 rfl rfl ?_
  refine ax_iconst (pc := 7) (v := nI 0) G dX10_proposal_7 ic_0 ?_
  refine ax_bipush (pc := 8) (v := nI 7) G dX10_proposal_8 ib_7 ?_
  refine ax_cS1 (pc := 10) (kb := 0) (nb := 0) G (mt_in hA (nI 3) (nI 0) (nI 7)) lSX10_74 dX10_proposal_10 rfl (by decide) (Nat.le_of_ble_eq_true rfl) rfl ?_
  refine ax_top (show Value.int (bI (pIn (nI 3) (nI 0) (nI 7))) = .int (nI 1) from congrArg Value.int (by decide)) ?_
  refine ax_cV1 (pc := 13) (kb := 0) (nb := 0) G (mt_mayAskForY hA (μ := μ) hm h19) lVX10_361_8 dX10_proposal_13 md_obj rfl (by decide) (Nat.le_of_ble_eq_true rfl) rfl ?_
  show ax_W Ω Γ _ _ (md_H h m (md_si μ 0 (nI 0))) _ _ _
  refine ax_if_ne (pc := 16) (tgt := 21) G dX10_proposal_16 rfl (fun _ => ?_) (fun c9 => absurd c9 (by decide))
  refine ax_iload_n (pc := 21) G dX10_proposal_21 rfl rfl ?_
  refine ax_tabIn (pc := 22) (tgt := 94) G dX10_proposal_22 (by decide) (by decide) (by decide) rfl rfl ?_
  refine ax_aload_n (pc := 94) G dX10_proposal_94 rfl rfl ?_
  refine md_get (pc := 95) (v := .ref (m + 4)) G flX10_23_8 dX10_proposal_95 rfl ?_
  refine ax_iload_n (pc := 98) G dX10_proposal_98 rfl rfl ?_
  refine ax_cS1 (pc := 99) (kb := 0) (nb := 0) G (md_ro (mt_leftTo hA (μ := (md_si μ 0 (nI 0))) (s := μ.2 4) (j := 4) (Or.inl rfl) k (by omega))) lSX10_259 dX10_proposal_99 rfl (by decide) (Nat.le_of_ble_eq_true rfl) rfl ?_
  exact ax_iretE (pc := 102) G E rfl (rfl) dX10_proposal_102 (rfl) (rfl)

theorem mq_proposal_4_Y {Ω : ax_O} (hA : ax_Amb Ω) {h : ax_H} {m : Nat} {μ : md_S} (hm : Ω.2.1.heap.size ≤ m) (h19 : μ.1 19 = nI 1) {P V O A : Nat} (hp : pWP (μ.2 2) P V O) (hs : pWS (μ.2 4) A) (k : Nat) (hk : k < P) : ax_Met Ω yX10_proposal 14 0 0 [.ref m, .int (nI k), .int (nI 4)] (md_H h m μ) (.inl (some (.int ((μ.2 4) (35 + k))))) (md_H h m (md_si μ 0 (nI 0))) := by
  refine ax_met q2781 q142 (by decide +kernel) (by decide) hA (Nat.le_of_ble_eq_true rfl) (fun Γ G E => ?_)
  have hP9 := hp.lP
  show ax_W Ω Γ 0 0 (md_H h m μ) 0 [some (.ref m), some (.int (nI k)), some (.int (nI 4))] []
  refine ax_aload_n (pc := 0) G dX10_proposal_0 rfl rfl ?_
  refine ax_aload_n (pc := 1) G dX10_proposal_1 rfl rfl ?_
  refine ax_iload_n (pc := 2) G dX10_proposal_2 rfl rfl ?_
  refine ax_cV1 (pc := 3) (kb := 0) (nb := 0) G (mt_isProposal hA (μ := μ) (nI k)) lVX10_358_8 dX10_proposal_3 md_obj rfl (by decide) (Nat.le_of_ble_eq_true rfl) rfl ?_
  refine ax_top (show Value.int (bI (pIn (nI k) (nI 0) ((μ.2 2) 10 - nI 1))) = .int (nI 1) from congrArg Value.int (by rw [pIn_k hp.hP hk (by have := hp.lP; omega)]; rfl)) ?_
  refine ax_iload_n (pc := 6) G dX10_proposal_6 rfl rfl ?_
  refine ax_iconst (pc := 7) (v := nI 0) G dX10_proposal_7 ic_0 ?_
  refine ax_bipush (pc := 8) (v := nI 7) G dX10_proposal_8 ib_7 ?_
  refine ax_cS1 (pc := 10) (kb := 0) (nb := 0) G (mt_in hA (nI 4) (nI 0) (nI 7)) lSX10_74 dX10_proposal_10 rfl (by decide) (Nat.le_of_ble_eq_true rfl) rfl ?_
  refine ax_top (show Value.int (bI (pIn (nI 4) (nI 0) (nI 7))) = .int (nI 1) from congrArg Value.int (by decide)) ?_
  refine ax_cV1 (pc := 13) (kb := 0) (nb := 0) G (mt_mayAskForY hA (μ := μ) hm h19) lVX10_361_8 dX10_proposal_13 md_obj rfl (by decide) (Nat.le_of_ble_eq_true rfl) rfl ?_
  show ax_W Ω Γ _ _ (md_H h m (md_si μ 0 (nI 0))) _ _ _
  refine ax_if_ne (pc := 16) (tgt := 21) G dX10_proposal_16 rfl (fun _ => ?_) (fun c9 => absurd c9 (by decide))
  refine ax_iload_n (pc := 21) G dX10_proposal_21 rfl rfl ?_
  refine ax_tabIn (pc := 22) (tgt := 103) G dX10_proposal_22 (by decide) (by decide) (by decide) rfl rfl ?_
  refine ax_aload_n (pc := 103) G dX10_proposal_103 rfl rfl ?_
  refine md_get (pc := 104) (v := .ref (m + 4)) G flX10_23_8 dX10_proposal_104 rfl ?_
  refine ax_bipush (pc := 107) (v := nI 35) G dX10_proposal_107 ib_35 ?_
  refine ax_iload_n (pc := 109) G dX10_proposal_109 rfl rfl ?_
  refine ax_iaddN (pc := 110) G dX10_proposal_110 ?_
  refine md_ld (pc := 111) (i := 35 + k) (j := 4) G 627 dX10_proposal_111 (by decide) (by decide) rfl rfl rfl (by omega) (by decide) ?_
  exact ax_iretE (pc := 112) G E rfl (rfl) dX10_proposal_112 (rfl) (rfl)

theorem mq_proposal_5_Y {Ω : ax_O} (hA : ax_Amb Ω) {h : ax_H} {m : Nat} {μ : md_S} (hm : Ω.2.1.heap.size ≤ m) (h19 : μ.1 19 = nI 1) {P V O A : Nat} (hp : pWP (μ.2 2) P V O) (hs : pWS (μ.2 4) A) (k : Nat) (hk : k < P) : ax_Met Ω yX10_proposal 14 0 0 [.ref m, .int (nI k), .int (nI 5)] (md_H h m μ) (.inl (some (.int ((μ.2 4) (41 + k))))) (md_H h m (md_si μ 0 (nI 0))) := by
  refine ax_met q2781 q142 (by decide +kernel) (by decide) hA (Nat.le_of_ble_eq_true rfl) (fun Γ G E => ?_)
  have hP9 := hp.lP
  show ax_W Ω Γ 0 0 (md_H h m μ) 0 [some (.ref m), some (.int (nI k)), some (.int (nI 5))] []
  refine ax_aload_n (pc := 0) G dX10_proposal_0 rfl rfl ?_
  refine ax_aload_n (pc := 1) G dX10_proposal_1 rfl rfl ?_
  refine ax_iload_n (pc := 2) G dX10_proposal_2 rfl rfl ?_
  refine ax_cV1 (pc := 3) (kb := 0) (nb := 0) G (mt_isProposal hA (μ := μ) (nI k)) lVX10_358_8 dX10_proposal_3 md_obj rfl (by decide) (Nat.le_of_ble_eq_true rfl) rfl ?_
  refine ax_top (show Value.int (bI (pIn (nI k) (nI 0) ((μ.2 2) 10 - nI 1))) = .int (nI 1) from congrArg Value.int (by rw [pIn_k hp.hP hk (by have := hp.lP; omega)]; rfl)) ?_
  refine ax_iload_n (pc := 6) G dX10_proposal_6 rfl rfl ?_
  refine ax_iconst (pc := 7) (v := nI 0) G dX10_proposal_7 ic_0 ?_
  refine ax_bipush (pc := 8) (v := nI 7) G dX10_proposal_8 ib_7 ?_
  refine ax_cS1 (pc := 10) (kb := 0) (nb := 0) G (mt_in hA (nI 5) (nI 0) (nI 7)) lSX10_74 dX10_proposal_10 rfl (by decide) (Nat.le_of_ble_eq_true rfl) rfl ?_
  refine ax_top (show Value.int (bI (pIn (nI 5) (nI 0) (nI 7))) = .int (nI 1) from congrArg Value.int (by decide)) ?_
  refine ax_cV1 (pc := 13) (kb := 0) (nb := 0) G (mt_mayAskForY hA (μ := μ) hm h19) lVX10_361_8 dX10_proposal_13 md_obj rfl (by decide) (Nat.le_of_ble_eq_true rfl) rfl ?_
  show ax_W Ω Γ _ _ (md_H h m (md_si μ 0 (nI 0))) _ _ _
  refine ax_if_ne (pc := 16) (tgt := 21) G dX10_proposal_16 rfl (fun _ => ?_) (fun c9 => absurd c9 (by decide))
  refine ax_iload_n (pc := 21) G dX10_proposal_21 rfl rfl ?_
  refine ax_tabIn (pc := 22) (tgt := 113) G dX10_proposal_22 (by decide) (by decide) (by decide) rfl rfl ?_
  refine ax_aload_n (pc := 113) G dX10_proposal_113 rfl rfl ?_
  refine md_get (pc := 114) (v := .ref (m + 4)) G flX10_23_8 dX10_proposal_114 rfl ?_
  refine ax_bipush (pc := 117) (v := nI 41) G dX10_proposal_117 ib_41 ?_
  refine ax_iload_n (pc := 119) G dX10_proposal_119 rfl rfl ?_
  refine ax_iaddN (pc := 120) G dX10_proposal_120 ?_
  refine md_ld (pc := 121) (i := 41 + k) (j := 4) G 627 dX10_proposal_121 (by decide) (by decide) rfl rfl rfl (by omega) (by decide) ?_
  exact ax_iretE (pc := 122) G E rfl (rfl) dX10_proposal_122 (rfl) (rfl)

theorem mq_proposal_6_Y {Ω : ax_O} (hA : ax_Amb Ω) {h : ax_H} {m : Nat} {μ : md_S} (hm : Ω.2.1.heap.size ≤ m) (h19 : μ.1 19 = nI 1) {P V O A : Nat} (hp : pWP (μ.2 2) P V O) (hs : pWS (μ.2 4) A) (k : Nat) (hk : k < P) : ax_Met Ω yX10_proposal 14 0 0 [.ref m, .int (nI k), .int (nI 6)] (md_H h m μ) (.inl (some (.int (pQueued (μ.2 2) (μ.2 4) k V)))) (md_H h m (md_si μ 0 (nI 0))) := by
  refine ax_met q2781 q142 (by decide +kernel) (by decide) hA (Nat.le_of_ble_eq_true rfl) (fun Γ G E => ?_)
  have hP9 := hp.lP
  show ax_W Ω Γ 0 0 (md_H h m μ) 0 [some (.ref m), some (.int (nI k)), some (.int (nI 6))] []
  refine ax_aload_n (pc := 0) G dX10_proposal_0 rfl rfl ?_
  refine ax_aload_n (pc := 1) G dX10_proposal_1 rfl rfl ?_
  refine ax_iload_n (pc := 2) G dX10_proposal_2 rfl rfl ?_
  refine ax_cV1 (pc := 3) (kb := 0) (nb := 0) G (mt_isProposal hA (μ := μ) (nI k)) lVX10_358_8 dX10_proposal_3 md_obj rfl (by decide) (Nat.le_of_ble_eq_true rfl) rfl ?_
  refine ax_top (show Value.int (bI (pIn (nI k) (nI 0) ((μ.2 2) 10 - nI 1))) = .int (nI 1) from congrArg Value.int (by rw [pIn_k hp.hP hk (by have := hp.lP; omega)]; rfl)) ?_
  refine ax_iload_n (pc := 6) G dX10_proposal_6 rfl rfl ?_
  refine ax_iconst (pc := 7) (v := nI 0) G dX10_proposal_7 ic_0 ?_
  refine ax_bipush (pc := 8) (v := nI 7) G dX10_proposal_8 ib_7 ?_
  refine ax_cS1 (pc := 10) (kb := 0) (nb := 0) G (mt_in hA (nI 6) (nI 0) (nI 7)) lSX10_74 dX10_proposal_10 rfl (by decide) (Nat.le_of_ble_eq_true rfl) rfl ?_
  refine ax_top (show Value.int (bI (pIn (nI 6) (nI 0) (nI 7))) = .int (nI 1) from congrArg Value.int (by decide)) ?_
  refine ax_cV1 (pc := 13) (kb := 0) (nb := 0) G (mt_mayAskForY hA (μ := μ) hm h19) lVX10_361_8 dX10_proposal_13 md_obj rfl (by decide) (Nat.le_of_ble_eq_true rfl) rfl ?_
  show ax_W Ω Γ _ _ (md_H h m (md_si μ 0 (nI 0))) _ _ _
  refine ax_if_ne (pc := 16) (tgt := 21) G dX10_proposal_16 rfl (fun _ => ?_) (fun c9 => absurd c9 (by decide))
  refine ax_iload_n (pc := 21) G dX10_proposal_21 rfl rfl ?_
  refine ax_tabIn (pc := 22) (tgt := 123) G dX10_proposal_22 (by decide) (by decide) (by decide) rfl rfl ?_
  refine ax_aload_n (pc := 123) G dX10_proposal_123 rfl rfl ?_
  refine ax_iload_n (pc := 124) G dX10_proposal_124 rfl rfl ?_
  refine ax_cV1 (pc := 125) (kb := 0) (nb := 0) G (mt_queuedOf hA (h := h) (m := m) (μ := (md_si μ 0 (nI 0))) hp hs k (by omega)) lVX10_365_8 dX10_proposal_125 md_obj rfl (by decide) (Nat.le_of_ble_eq_true rfl) rfl ?_
  exact ax_iretE (pc := 128) G E rfl (rfl) dX10_proposal_128 (rfl) (rfl)

theorem mq_proposal_7_Y {Ω : ax_O} (hA : ax_Amb Ω) {h : ax_H} {m : Nat} {μ : md_S} (hm : Ω.2.1.heap.size ≤ m) (h19 : μ.1 19 = nI 1) {P V O A : Nat} (hp : pWP (μ.2 2) P V O) (hs : pWS (μ.2 4) A) (k : Nat) (hk : k < P) : ax_Met Ω yX10_proposal 14 0 0 [.ref m, .int (nI k), .int (nI 7)] (md_H h m μ) (.inl (some (.int ((μ.2 2) (11 + k))))) (md_H h m (md_si μ 0 (nI 0))) := by
  refine ax_met q2781 q142 (by decide +kernel) (by decide) hA (Nat.le_of_ble_eq_true rfl) (fun Γ G E => ?_)
  have hP9 := hp.lP
  show ax_W Ω Γ 0 0 (md_H h m μ) 0 [some (.ref m), some (.int (nI k)), some (.int (nI 7))] []
  refine ax_aload_n (pc := 0) G dX10_proposal_0 rfl rfl ?_
  refine ax_aload_n (pc := 1) G dX10_proposal_1 rfl rfl ?_
  refine ax_iload_n (pc := 2) G dX10_proposal_2 rfl rfl ?_
  refine ax_cV1 (pc := 3) (kb := 0) (nb := 0) G (mt_isProposal hA (μ := μ) (nI k)) lVX10_358_8 dX10_proposal_3 md_obj rfl (by decide) (Nat.le_of_ble_eq_true rfl) rfl ?_
  refine ax_top (show Value.int (bI (pIn (nI k) (nI 0) ((μ.2 2) 10 - nI 1))) = .int (nI 1) from congrArg Value.int (by rw [pIn_k hp.hP hk (by have := hp.lP; omega)]; rfl)) ?_
  refine ax_iload_n (pc := 6) G dX10_proposal_6 rfl rfl ?_
  refine ax_iconst (pc := 7) (v := nI 0) G dX10_proposal_7 ic_0 ?_
  refine ax_bipush (pc := 8) (v := nI 7) G dX10_proposal_8 ib_7 ?_
  refine ax_cS1 (pc := 10) (kb := 0) (nb := 0) G (mt_in hA (nI 7) (nI 0) (nI 7)) lSX10_74 dX10_proposal_10 rfl (by decide) (Nat.le_of_ble_eq_true rfl) rfl ?_
  refine ax_top (show Value.int (bI (pIn (nI 7) (nI 0) (nI 7))) = .int (nI 1) from congrArg Value.int (by decide)) ?_
  refine ax_cV1 (pc := 13) (kb := 0) (nb := 0) G (mt_mayAskForY hA (μ := μ) hm h19) lVX10_361_8 dX10_proposal_13 md_obj rfl (by decide) (Nat.le_of_ble_eq_true rfl) rfl ?_
  show ax_W Ω Γ _ _ (md_H h m (md_si μ 0 (nI 0))) _ _ _
  refine ax_if_ne (pc := 16) (tgt := 21) G dX10_proposal_16 rfl (fun _ => ?_) (fun c9 => absurd c9 (by decide))
  refine ax_iload_n (pc := 21) G dX10_proposal_21 rfl rfl ?_
  refine ax_tabOut (pc := 22) (tgt := 129) G dX10_proposal_22 (by decide) (by decide) rfl ?_
  refine ax_aload_n (pc := 129) G dX10_proposal_129 rfl rfl ?_
  refine md_get (pc := 130) (v := .ref (m + 2)) G flX10_17_8 dX10_proposal_130 rfl ?_
  refine ax_bipush (pc := 133) (v := nI 11) G dX10_proposal_133 ib_11 ?_
  refine ax_iload_n (pc := 135) G dX10_proposal_135 rfl rfl ?_
  refine ax_iaddN (pc := 136) G dX10_proposal_136 ?_
  refine md_ld (pc := 137) (i := 11 + k) (j := 2) G 235 dX10_proposal_137 (by decide) (by decide) rfl rfl rfl (by omega) (by decide) ?_
  exact ax_iretE (pc := 138) G E rfl (rfl) dX10_proposal_138 (rfl) (rfl)

theorem mq_proposal_N {Ω : ax_O} (hA : ax_Amb Ω) {h : ax_H} {m : Nat} {μ : md_S} (hm : Ω.2.1.heap.size ≤ m) (h19 : μ.1 19 = nI 0) (k : Int32) (w : Int32)  : ax_Met Ω yX10_proposal 14 0 0 [.ref m, .int k, .int w] (md_H h m μ) (.inl (some (.int (nI 0)))) (md_H h m (md_si μ 0 (nI 1))) := by
  refine ax_met q2781 q142 (by decide +kernel) (by decide) hA (Nat.le_of_ble_eq_true rfl) (fun Γ G E => ?_)
  show ax_W Ω Γ 0 0 (md_H h m μ) 0 [some (.ref m), some (.int k), some (.int w)] []
  refine ax_aload_n (pc := 0) G dX10_proposal_0 rfl rfl ?_
  refine ax_aload_n (pc := 1) G dX10_proposal_1 rfl rfl ?_
  refine ax_iload_n (pc := 2) G dX10_proposal_2 rfl rfl ?_
  refine ax_cV1 (pc := 3) (kb := 0) (nb := 0) G (mt_isProposal hA (μ := μ) k) lVX10_358_8 dX10_proposal_3 md_obj rfl (by decide) (Nat.le_of_ble_eq_true rfl) rfl ?_
  refine ax_iload_n (pc := 6) G dX10_proposal_6 rfl rfl ?_
  refine ax_iconst (pc := 7) (v := nI 0) G dX10_proposal_7 ic_0 ?_
  refine ax_bipush (pc := 8) (v := nI 7) G dX10_proposal_8 ib_7 ?_
  refine ax_cS1 (pc := 10) (kb := 0) (nb := 0) G (mt_in hA w (nI 0) (nI 7)) lSX10_74 dX10_proposal_10 rfl (by decide) (Nat.le_of_ble_eq_true rfl) rfl ?_
  refine ax_cV1 (pc := 13) (kb := 0) (nb := 0) G (mt_mayAskForN hA (μ := μ) hm h19 (pIn k (nI 0) ((μ.2 2) 10 - nI 1)) (pIn w (nI 0) (nI 7))) lVX10_361_8 dX10_proposal_13 md_obj rfl (by decide) (Nat.le_of_ble_eq_true rfl) rfl ?_
  show ax_W Ω Γ _ _ (md_H h m (md_si μ 0 (nI 1))) _ _ _
  refine ax_if_ne (pc := 16) (tgt := 21) G dX10_proposal_16 rfl (fun c9 => absurd rfl c9) (fun _ => ?_)
  refine ax_iconst (pc := 19) (v := nI 0) G dX10_proposal_19 ic_0 ?_
  exact ax_iretE (pc := 20) G E rfl (rfl) dX10_proposal_20 (rfl) (rfl)

theorem mq_proposal_B {Ω : ax_O} (hA : ax_Amb Ω) {h : ax_H} {m : Nat} {μ : md_S} (hm : Ω.2.1.heap.size ≤ m) (h19 : μ.1 19 = nI 1) (k w : Int32) (hb : pIn k (nI 0) ((μ.2 2) 10 - nI 1) = false) : ax_Met Ω yX10_proposal 14 0 0 [.ref m, .int k, .int w] (md_H h m μ) (.inl (some (.int (nI 0)))) (md_H h m (md_si μ 0 (nI 2))) := by
  refine ax_met q2781 q142 (by decide +kernel) (by decide) hA (Nat.le_of_ble_eq_true rfl) (fun Γ G E => ?_)
  show ax_W Ω Γ 0 0 (md_H h m μ) 0 [some (.ref m), some (.int k), some (.int w)] []
  refine ax_aload_n (pc := 0) G dX10_proposal_0 rfl rfl ?_
  refine ax_aload_n (pc := 1) G dX10_proposal_1 rfl rfl ?_
  refine ax_iload_n (pc := 2) G dX10_proposal_2 rfl rfl ?_
  refine ax_cV1 (pc := 3) (kb := 0) (nb := 0) G (mt_isProposal hA (μ := μ) k) lVX10_358_8 dX10_proposal_3 md_obj rfl (by decide) (Nat.le_of_ble_eq_true rfl) rfl ?_
  refine ax_top (show Value.int (bI (pIn k (nI 0) ((μ.2 2) 10 - nI 1))) = .int (nI 0) from congrArg Value.int (by rw [hb]; rfl)) ?_
  refine ax_iload_n (pc := 6) G dX10_proposal_6 rfl rfl ?_
  refine ax_iconst (pc := 7) (v := nI 0) G dX10_proposal_7 ic_0 ?_
  refine ax_bipush (pc := 8) (v := nI 7) G dX10_proposal_8 ib_7 ?_
  refine ax_cS1 (pc := 10) (kb := 0) (nb := 0) G (mt_in hA w (nI 0) (nI 7)) lSX10_74 dX10_proposal_10 rfl (by decide) (Nat.le_of_ble_eq_true rfl) rfl ?_
  refine ax_cV1 (pc := 13) (kb := 0) (nb := 0) G (mt_mayAskForB hA (μ := μ) hm h19 (pIn w (nI 0) (nI 7))) lVX10_361_8 dX10_proposal_13 md_obj rfl (by decide) (Nat.le_of_ble_eq_true rfl) rfl ?_
  show ax_W Ω Γ _ _ (md_H h m (md_si μ 0 (nI 2))) _ _ _
  refine ax_if_ne (pc := 16) (tgt := 21) G dX10_proposal_16 rfl (fun c9 => absurd rfl c9) (fun _ => ?_)
  refine ax_iconst (pc := 19) (v := nI 0) G dX10_proposal_19 ic_0 ?_
  exact ax_iretE (pc := 20) G E rfl (rfl) dX10_proposal_20 (rfl) (rfl)

theorem mq_proposal_C {Ω : ax_O} (hA : ax_Amb Ω) {h : ax_H} {m : Nat} {μ : md_S} (hm : Ω.2.1.heap.size ≤ m) (h19 : μ.1 19 = nI 1) {P V O A : Nat} (hp : pWP (μ.2 2) P V O) (hs : pWS (μ.2 4) A) (k : Nat) (hk : k < P) (w : Int32) (hb : pIn w (nI 0) (nI 7) = false) : ax_Met Ω yX10_proposal 14 0 0 [.ref m, .int (nI k), .int w] (md_H h m μ) (.inl (some (.int (nI 0)))) (md_H h m (md_si μ 0 (nI 3))) := by
  refine ax_met q2781 q142 (by decide +kernel) (by decide) hA (Nat.le_of_ble_eq_true rfl) (fun Γ G E => ?_)
  show ax_W Ω Γ 0 0 (md_H h m μ) 0 [some (.ref m), some (.int (nI k)), some (.int w)] []
  refine ax_aload_n (pc := 0) G dX10_proposal_0 rfl rfl ?_
  refine ax_aload_n (pc := 1) G dX10_proposal_1 rfl rfl ?_
  refine ax_iload_n (pc := 2) G dX10_proposal_2 rfl rfl ?_
  refine ax_cV1 (pc := 3) (kb := 0) (nb := 0) G (mt_isProposal hA (μ := μ) (nI k)) lVX10_358_8 dX10_proposal_3 md_obj rfl (by decide) (Nat.le_of_ble_eq_true rfl) rfl ?_
  refine ax_top (show Value.int (bI (pIn (nI k) (nI 0) ((μ.2 2) 10 - nI 1))) = .int (nI 1) from congrArg Value.int (by rw [pIn_k hp.hP hk (by have := hp.lP; omega)]; rfl)) ?_
  refine ax_iload_n (pc := 6) G dX10_proposal_6 rfl rfl ?_
  refine ax_iconst (pc := 7) (v := nI 0) G dX10_proposal_7 ic_0 ?_
  refine ax_bipush (pc := 8) (v := nI 7) G dX10_proposal_8 ib_7 ?_
  refine ax_cS1 (pc := 10) (kb := 0) (nb := 0) G (mt_in hA w (nI 0) (nI 7)) lSX10_74 dX10_proposal_10 rfl (by decide) (Nat.le_of_ble_eq_true rfl) rfl ?_
  refine ax_top (show Value.int (bI (pIn w (nI 0) (nI 7))) = .int (nI 0) from congrArg Value.int (by rw [hb]; rfl)) ?_
  refine ax_cV1 (pc := 13) (kb := 0) (nb := 0) G (mt_mayAskForC hA (μ := μ) hm h19) lVX10_361_8 dX10_proposal_13 md_obj rfl (by decide) (Nat.le_of_ble_eq_true rfl) rfl ?_
  show ax_W Ω Γ _ _ (md_H h m (md_si μ 0 (nI 3))) _ _ _
  refine ax_if_ne (pc := 16) (tgt := 21) G dX10_proposal_16 rfl (fun c9 => absurd rfl c9) (fun _ => ?_)
  refine ax_iconst (pc := 19) (v := nI 0) G dX10_proposal_19 ic_0 ?_
  exact ax_iretE (pc := 20) G E rfl (rfl) dX10_proposal_20 (rfl) (rfl)

theorem mq_letter_Y {Ω : ax_O} (hA : ax_Amb Ω) {h : ax_H} {m : Nat} {μ : md_S} (hm : Ω.2.1.heap.size ≤ m) (h19 : μ.1 19 = nI 1) {P V O A : Nat} (hp : pWP (μ.2 2) P V O) (hs : pWS (μ.2 4) A) (k : Nat) (hk : k < P) {n : Nat} (hn : (μ.2 2) (11 + k) = nI n) (hn8 : n ≤ 8) (i : Nat) (hi : i < n) : ax_Met Ω yX10_letter 14 0 0 [.ref m, .int (nI k), .int (nI i)] (md_H h m μ) (.inl (some (.int ((μ.2 2) (17 + 8 * k + i))))) (md_H h m (md_si μ 0 (nI 0))) := by
  refine ax_met q2808 q142 (by decide +kernel) (by decide) hA (Nat.le_of_ble_eq_true rfl) (fun Γ G E => ?_)
  have hP9 := hp.lP
  show ax_W Ω Γ 0 0 (md_H h m μ) 0 [some (.ref m), some (.int (nI k)), some (.int (nI i))] []
  refine ax_aload_n (pc := 0) G dX10_letter_0 rfl rfl ?_
  refine ax_aload_n (pc := 1) G dX10_letter_1 rfl rfl ?_
  refine ax_iload_n (pc := 2) G dX10_letter_2 rfl rfl ?_
  refine ax_cV1 (pc := 3) (kb := 0) (nb := 0) G (mt_isProposal hA (μ := μ) (nI k)) lVX10_358_8 dX10_letter_3 md_obj rfl (by decide) (Nat.le_of_ble_eq_true rfl) rfl ?_
  refine ax_top (show Value.int (bI (pIn (nI k) (nI 0) ((μ.2 2) 10 - nI 1))) = .int (nI 1) from congrArg Value.int (by rw [pIn_k hp.hP hk (by have := hp.lP; omega)]; rfl)) ?_
  refine ax_if_eq (pc := 6) (tgt := 32) G dX10_letter_6 rfl (fun c9 => absurd c9 (by decide)) (fun _ => ?_)
  refine ax_iload_n (pc := 9) G dX10_letter_9 rfl rfl ?_
  refine ax_iconst (pc := 10) (v := nI 0) G dX10_letter_10 ic_0 ?_
  refine ax_aload_n (pc := 11) G dX10_letter_11 rfl rfl ?_
  refine md_get (pc := 12) (v := .ref (m + 2)) G flX10_17_8 dX10_letter_12 rfl ?_
  refine ax_bipush (pc := 15) (v := nI 11) G dX10_letter_15 ib_11 ?_
  refine ax_iload_n (pc := 17) G dX10_letter_17 rfl rfl ?_
  refine ax_iaddN (pc := 18) G dX10_letter_18 ?_
  refine md_ld (pc := 19) (i := 11 + k) (j := 2) G 235 dX10_letter_19 (by decide) (by decide) rfl rfl rfl (by omega) (by decide) ?_
  refine ax_iconst (pc := 20) (v := nI 1) G dX10_letter_20 ic_1 ?_
  refine ax_isub (pc := 21) G dX10_letter_21 ?_
  refine ax_cS1 (pc := 22) (kb := 0) (nb := 0) G (mt_in hA (nI i) (nI 0) (((μ.2 2) (11 + k)) - (nI 1))) lSX10_74 dX10_letter_22 rfl (by decide) (Nat.le_of_ble_eq_true rfl) rfl ?_
  refine ax_top (show Value.int (bI (pIn (nI i) (nI 0) (((μ.2 2) (11 + k)) - (nI 1)))) = .int (nI 1) from congrArg Value.int (by rw [pIn_k hn hi (by omega)]; rfl)) ?_
  refine ax_if_eq (pc := 25) (tgt := 32) G dX10_letter_25 rfl (fun c9 => absurd c9 (by decide)) (fun _ => ?_)
  refine ax_iconst (pc := 28) (v := nI 1) G dX10_letter_28 ic_1 ?_
  refine ax_goto (pc := 29) (tgt := 33) G dX10_letter_29 rfl ?_
  refine ax_cV1 (pc := 33) (kb := 0) (nb := 0) G (mt_mayAskY hA (μ := μ) hm h19) lVX10_368_8 dX10_letter_33 md_obj rfl (by decide) (Nat.le_of_ble_eq_true rfl) rfl ?_
  show ax_W Ω Γ _ _ (md_H h m (md_si μ 0 (nI 0))) _ _ _
  refine ax_if_eq (pc := 36) (tgt := 56) G dX10_letter_36 rfl (fun c9 => absurd c9 (by decide)) (fun _ => ?_)
  refine ax_aload_n (pc := 39) G dX10_letter_39 rfl rfl ?_
  refine md_get (pc := 40) (v := .ref (m + 2)) G flX10_17_8 dX10_letter_40 rfl ?_
  refine ax_bipush (pc := 43) (v := nI 17) G dX10_letter_43 ib_17 ?_
  refine ax_bipush (pc := 45) (v := nI 8) G dX10_letter_45 ib_8 ?_
  refine ax_iload_n (pc := 47) G dX10_letter_47 rfl rfl ?_
  refine ax_imulN (pc := 48) G dX10_letter_48 ?_
  refine ax_iaddN (pc := 49) G dX10_letter_49 ?_
  refine ax_iload_n (pc := 50) G dX10_letter_50 rfl rfl ?_
  refine ax_iaddN (pc := 51) G dX10_letter_51 ?_
  refine md_ld (pc := 52) (i := 17 + (8 * k) + i) (j := 2) G 235 dX10_letter_52 (by decide) (by decide) rfl rfl rfl (by omega) (by decide) ?_
  refine ax_goto (pc := 53) (tgt := 57) G dX10_letter_53 rfl ?_
  exact ax_iretE (pc := 57) G E rfl (rfl) dX10_letter_57 (rfl) (rfl)

theorem mq_letter_N {Ω : ax_O} (hA : ax_Amb Ω) {h : ax_H} {m : Nat} {μ : md_S} (hm : Ω.2.1.heap.size ≤ m) (h19 : μ.1 19 = nI 0) (h10 : μ.2 2 10 = nI 0) (k i : Int32) : ax_Met Ω yX10_letter 14 0 0 [.ref m, .int k, .int i] (md_H h m μ) (.inl (some (.int (nI 0)))) (md_H h m (md_si μ 0 (nI 1))) := by
  refine ax_met q2808 q142 (by decide +kernel) (by decide) hA (Nat.le_of_ble_eq_true rfl) (fun Γ G E => ?_)
  show ax_W Ω Γ 0 0 (md_H h m μ) 0 [some (.ref m), some (.int k), some (.int i)] []
  refine ax_aload_n (pc := 0) G dX10_letter_0 rfl rfl ?_
  refine ax_aload_n (pc := 1) G dX10_letter_1 rfl rfl ?_
  refine ax_iload_n (pc := 2) G dX10_letter_2 rfl rfl ?_
  refine ax_cV1 (pc := 3) (kb := 0) (nb := 0) G (mt_isProposal hA (μ := μ) k) lVX10_358_8 dX10_letter_3 md_obj rfl (by decide) (Nat.le_of_ble_eq_true rfl) rfl ?_
  refine ax_top (show Value.int (bI (pIn k (nI 0) ((μ.2 2) 10 - nI 1))) = .int (nI 0) from congrArg Value.int (by rw [pIn_z h10]; rfl)) ?_
  refine ax_if_eq (pc := 6) (tgt := 32) G dX10_letter_6 rfl (fun _ => ?_) (fun c9 => absurd rfl c9)
  refine ax_iconst (pc := 32) (v := nI 0) G dX10_letter_32 ic_0 ?_
  refine ax_cV1 (pc := 33) (kb := 0) (nb := 0) G (mt_mayAskN hA (μ := μ) hm h19 false) lVX10_368_8 dX10_letter_33 md_obj rfl (by decide) (Nat.le_of_ble_eq_true rfl) rfl ?_
  show ax_W Ω Γ _ _ (md_H h m (md_si μ 0 (nI 1))) _ _ _
  refine ax_if_eq (pc := 36) (tgt := 56) G dX10_letter_36 rfl (fun _ => ?_) (fun c9 => absurd rfl c9)
  refine ax_iconst (pc := 56) (v := nI 0) G dX10_letter_56 ic_0 ?_
  exact ax_iretE (pc := 57) G E rfl (rfl) dX10_letter_57 (rfl) (rfl)

theorem mq_letter_B {Ω : ax_O} (hA : ax_Amb Ω) {h : ax_H} {m : Nat} {μ : md_S} (hm : Ω.2.1.heap.size ≤ m) (h19 : μ.1 19 = nI 1) (k i : Int32) (hb : pIn k (nI 0) ((μ.2 2) 10 - nI 1) = false) : ax_Met Ω yX10_letter 14 0 0 [.ref m, .int k, .int i] (md_H h m μ) (.inl (some (.int (nI 0)))) (md_H h m (md_si μ 0 (nI 2))) := by
  refine ax_met q2808 q142 (by decide +kernel) (by decide) hA (Nat.le_of_ble_eq_true rfl) (fun Γ G E => ?_)
  show ax_W Ω Γ 0 0 (md_H h m μ) 0 [some (.ref m), some (.int k), some (.int i)] []
  refine ax_aload_n (pc := 0) G dX10_letter_0 rfl rfl ?_
  refine ax_aload_n (pc := 1) G dX10_letter_1 rfl rfl ?_
  refine ax_iload_n (pc := 2) G dX10_letter_2 rfl rfl ?_
  refine ax_cV1 (pc := 3) (kb := 0) (nb := 0) G (mt_isProposal hA (μ := μ) k) lVX10_358_8 dX10_letter_3 md_obj rfl (by decide) (Nat.le_of_ble_eq_true rfl) rfl ?_
  refine ax_top (show Value.int (bI (pIn k (nI 0) ((μ.2 2) 10 - nI 1))) = .int (nI 0) from congrArg Value.int (by rw [hb]; rfl)) ?_
  refine ax_if_eq (pc := 6) (tgt := 32) G dX10_letter_6 rfl (fun _ => ?_) (fun c9 => absurd rfl c9)
  refine ax_iconst (pc := 32) (v := nI 0) G dX10_letter_32 ic_0 ?_
  refine ax_cV1 (pc := 33) (kb := 0) (nb := 0) G (mt_mayAskB hA (μ := μ) hm h19) lVX10_368_8 dX10_letter_33 md_obj rfl (by decide) (Nat.le_of_ble_eq_true rfl) rfl ?_
  show ax_W Ω Γ _ _ (md_H h m (md_si μ 0 (nI 2))) _ _ _
  refine ax_if_eq (pc := 36) (tgt := 56) G dX10_letter_36 rfl (fun _ => ?_) (fun c9 => absurd rfl c9)
  refine ax_iconst (pc := 56) (v := nI 0) G dX10_letter_56 ic_0 ?_
  exact ax_iretE (pc := 57) G E rfl (rfl) dX10_letter_57 (rfl) (rfl)

theorem mq_letter_B2 {Ω : ax_O} (hA : ax_Amb Ω) {h : ax_H} {m : Nat} {μ : md_S} (hm : Ω.2.1.heap.size ≤ m) (h19 : μ.1 19 = nI 1) {P V O A : Nat} (hp : pWP (μ.2 2) P V O) (hs : pWS (μ.2 4) A) (k : Nat) (hk : k < P) (i : Int32) (hb : pIn i (nI 0) ((μ.2 2) (11 + k) - nI 1) = false) : ax_Met Ω yX10_letter 14 0 0 [.ref m, .int (nI k), .int i] (md_H h m μ) (.inl (some (.int (nI 0)))) (md_H h m (md_si μ 0 (nI 2))) := by
  refine ax_met q2808 q142 (by decide +kernel) (by decide) hA (Nat.le_of_ble_eq_true rfl) (fun Γ G E => ?_)
  have hP9 := hp.lP
  show ax_W Ω Γ 0 0 (md_H h m μ) 0 [some (.ref m), some (.int (nI k)), some (.int i)] []
  refine ax_aload_n (pc := 0) G dX10_letter_0 rfl rfl ?_
  refine ax_aload_n (pc := 1) G dX10_letter_1 rfl rfl ?_
  refine ax_iload_n (pc := 2) G dX10_letter_2 rfl rfl ?_
  refine ax_cV1 (pc := 3) (kb := 0) (nb := 0) G (mt_isProposal hA (μ := μ) (nI k)) lVX10_358_8 dX10_letter_3 md_obj rfl (by decide) (Nat.le_of_ble_eq_true rfl) rfl ?_
  refine ax_top (show Value.int (bI (pIn (nI k) (nI 0) ((μ.2 2) 10 - nI 1))) = .int (nI 1) from congrArg Value.int (by rw [pIn_k hp.hP hk (by have := hp.lP; omega)]; rfl)) ?_
  refine ax_if_eq (pc := 6) (tgt := 32) G dX10_letter_6 rfl (fun c9 => absurd c9 (by decide)) (fun _ => ?_)
  refine ax_iload_n (pc := 9) G dX10_letter_9 rfl rfl ?_
  refine ax_iconst (pc := 10) (v := nI 0) G dX10_letter_10 ic_0 ?_
  refine ax_aload_n (pc := 11) G dX10_letter_11 rfl rfl ?_
  refine md_get (pc := 12) (v := .ref (m + 2)) G flX10_17_8 dX10_letter_12 rfl ?_
  refine ax_bipush (pc := 15) (v := nI 11) G dX10_letter_15 ib_11 ?_
  refine ax_iload_n (pc := 17) G dX10_letter_17 rfl rfl ?_
  refine ax_iaddN (pc := 18) G dX10_letter_18 ?_
  refine md_ld (pc := 19) (i := 11 + k) (j := 2) G 235 dX10_letter_19 (by decide) (by decide) rfl rfl rfl (by omega) (by decide) ?_
  refine ax_iconst (pc := 20) (v := nI 1) G dX10_letter_20 ic_1 ?_
  refine ax_isub (pc := 21) G dX10_letter_21 ?_
  refine ax_cS1 (pc := 22) (kb := 0) (nb := 0) G (mt_in hA i (nI 0) (((μ.2 2) (11 + k)) - (nI 1))) lSX10_74 dX10_letter_22 rfl (by decide) (Nat.le_of_ble_eq_true rfl) rfl ?_
  refine ax_top (show Value.int (bI (pIn i (nI 0) (((μ.2 2) (11 + k)) - (nI 1)))) = .int (nI 0) from congrArg Value.int (by rw [hb]; rfl)) ?_
  refine ax_if_eq (pc := 25) (tgt := 32) G dX10_letter_25 rfl (fun _ => ?_) (fun c9 => absurd rfl c9)
  refine ax_iconst (pc := 32) (v := nI 0) G dX10_letter_32 ic_0 ?_
  refine ax_cV1 (pc := 33) (kb := 0) (nb := 0) G (mt_mayAskB hA (μ := μ) hm h19) lVX10_368_8 dX10_letter_33 md_obj rfl (by decide) (Nat.le_of_ble_eq_true rfl) rfl ?_
  show ax_W Ω Γ _ _ (md_H h m (md_si μ 0 (nI 2))) _ _ _
  refine ax_if_eq (pc := 36) (tgt := 56) G dX10_letter_36 rfl (fun _ => ?_) (fun c9 => absurd rfl c9)
  refine ax_iconst (pc := 56) (v := nI 0) G dX10_letter_56 ic_0 ?_
  exact ax_iretE (pc := 57) G E rfl (rfl) dX10_letter_57 (rfl) (rfl)

theorem mq_waiting_Y {Ω : ax_O} (hA : ax_Amb Ω) {h : ax_H} {m : Nat} {μ : md_S} (hm : Ω.2.1.heap.size ≤ m) (h19 : μ.1 19 = nI 1) {P V O A : Nat} (hp : pWP (μ.2 2) P V O) (hs : pWS (μ.2 4) A)  : ax_Met Ω yX10_waiting 14 0 0 [.ref m] (md_H h m μ) (.inl (some (.int (pWait (μ.2 4) A)))) (md_H h m (md_si μ 0 (nI 0))) := by
  refine ax_met q2864 q142 (by decide +kernel) (by decide) hA (Nat.le_of_ble_eq_true rfl) (fun Γ G E => ?_)
  have hA9 := hs.lA
  have LL : ∀ (n i : Nat), i + n = A → ax_W Ω Γ 0 0 (md_H h m (md_si μ 0 (nI 0))) 14 [some (.ref m), some (.int (pWait (μ.2 4) i)), some (.int (nI i))] [] := by
    intro n
    induction n with
    | zero =>
      intro i hi
      have hi9 : A = i := by omega
      subst hi9
      refine ax_iload_n (pc := 14) G dX10_waiting_14 rfl rfl ?_
      refine ax_aload_n (pc := 15) G dX10_waiting_15 rfl rfl ?_
      refine md_get (pc := 16) (v := .ref (m + 4)) G flX10_23_8 dX10_waiting_16 rfl ?_
      refine ax_bipush (pc := 19) (v := nI 14) G dX10_waiting_19 ib_14 ?_
      refine md_ld (pc := 21) (i := 14) (j := 4) G 627 dX10_waiting_21 (by decide) (by decide) rfl rfl rfl (by omega) (by decide) ?_
      refine ax_top (show Value.int ((μ.2 4) 14) = .int (nI A) from congrArg Value.int ((hs).hA)) ?_
      refine ax_icmp_geN (pc := 22) (tgt := 66) G dX10_waiting_22 rfl (by omega) (by omega) (fun c22 => ?_) (fun c22 => ?_)
      · refine ax_iload_n (pc := 66) G dX10_waiting_66 rfl rfl ?_
        exact ax_iretE (pc := 67) G E rfl (rfl) dX10_waiting_67 (rfl) (rfl)
      · omega
    | succ n ih =>
      intro i hi
      refine ax_iload_n (pc := 14) G dX10_waiting_14 rfl rfl ?_
      refine ax_aload_n (pc := 15) G dX10_waiting_15 rfl rfl ?_
      refine md_get (pc := 16) (v := .ref (m + 4)) G flX10_23_8 dX10_waiting_16 rfl ?_
      refine ax_bipush (pc := 19) (v := nI 14) G dX10_waiting_19 ib_14 ?_
      refine md_ld (pc := 21) (i := 14) (j := 4) G 627 dX10_waiting_21 (by decide) (by decide) rfl rfl rfl (by omega) (by decide) ?_
      refine ax_top (show Value.int ((μ.2 4) 14) = .int (nI A) from congrArg Value.int ((hs).hA)) ?_
      refine ax_icmp_geN (pc := 22) (tgt := 66) G dX10_waiting_22 rfl (by omega) (by omega) (fun c22 => ?_) (fun c22 => ?_)
      · omega
      · refine ax_iload_n (pc := 25) G dX10_waiting_25 rfl rfl ?_
        refine ax_aload_n (pc := 26) G dX10_waiting_26 rfl rfl ?_
        refine ax_iload_n (pc := 27) G dX10_waiting_27 rfl rfl ?_
        refine ax_bipush (pc := 28) (v := nI 7) G dX10_waiting_28 ib_7 ?_
        refine ax_cV1 (pc := 30) (kb := 0) (nb := 0) G (mt_ofAlert hA (μ := (md_si μ 0 (nI 0))) i 7 (by omega) (by omega)) lVX10_378_8 dX10_waiting_30 md_obj rfl (by decide) (Nat.le_of_ble_eq_true rfl) rfl ?_
        refine ax_if_ne (pc := 33) (tgt := 57) G dX10_waiting_33 rfl (fun c33 => ?_) (fun c33 => ?_)
        · replace c33 : ¬ ((μ.2 4) (127 + 10 * i + 7)) = 0 := c33
          refine ax_iconst (pc := 57) (v := nI 0) G dX10_waiting_57 ic_0 ?_
          refine ax_ior (pc := 58) G dX10_waiting_58 ?_
          refine ax_istore_n (pc := 59) G dX10_waiting_59 rfl (Nat.le_of_ble_eq_true rfl) rfl ?_
          refine ax_iincN (pc := 60) (n := 1) G dX10_waiting_60 rfl rfl ic_1 ?_
          refine ax_goto (pc := 63) (tgt := 14) G dX10_waiting_63 rfl ?_
          have q9 := ih (i + 1) (by omega)
          rw [show pWait (μ.2 4) (i + 1) = (pWait (μ.2 4) i) ||| (nI 0) from by first | (simp only [pWait, c22, c33, if_true, if_false, Bool.false_eq_true, not_false_eq_true, not_true_eq_false, decide_true, decide_false, Bool.and_true, Bool.true_and, Bool.and_false, Bool.false_and, Bool.or_true, Bool.true_or, Bool.or_false, Bool.false_or, and_self, and_true, true_and, and_false, false_and, or_true, true_or, or_false, false_or, ne_eq]; done) | (simp only [pWait, c22, c33, if_true, if_false, Bool.false_eq_true, not_false_eq_true, not_true_eq_false, decide_true, decide_false, Bool.and_true, Bool.true_and, Bool.and_false, Bool.false_and, Bool.or_true, Bool.true_or, Bool.or_false, Bool.false_or, and_self, and_true, true_and, and_false, false_and, or_true, true_or, or_false, false_or, ne_eq]; rfl)] at q9
          exact q9
        · replace c33 : ((μ.2 4) (127 + 10 * i + 7)) = 0 := c33
          refine ax_aload_n (pc := 36) G dX10_waiting_36 rfl rfl ?_
          refine ax_iload_n (pc := 37) G dX10_waiting_37 rfl rfl ?_
          refine ax_iconst (pc := 38) (v := nI 1) G dX10_waiting_38 ic_1 ?_
          refine ax_cV1 (pc := 39) (kb := 0) (nb := 0) G (mt_ofAlert hA (μ := (md_si μ 0 (nI 0))) i 1 (by omega) (by omega)) lVX10_378_8 dX10_waiting_39 md_obj rfl (by decide) (Nat.le_of_ble_eq_true rfl) rfl ?_
          refine ax_aload_n (pc := 42) G dX10_waiting_42 rfl rfl ?_
          refine md_get (pc := 43) (v := .ref (m + 4)) G flX10_23_8 dX10_waiting_43 rfl ?_
          refine ax_iconst (pc := 46) (v := nI 0) G dX10_waiting_46 ic_0 ?_
          refine md_ld (pc := 47) (i := 0) (j := 4) G 627 dX10_waiting_47 (by decide) (by decide) rfl rfl rfl (by omega) (by decide) ?_
          refine ax_icmp_gt (pc := 48) (tgt := 57) G dX10_waiting_48 rfl (fun c48 => ?_) (fun c48 => ?_)
          · replace c48 : ((μ.2 4) 0) < ((μ.2 4) (127 + 10 * i + 1)) := c48
            refine ax_iconst (pc := 57) (v := nI 0) G dX10_waiting_57 ic_0 ?_
            refine ax_ior (pc := 58) G dX10_waiting_58 ?_
            refine ax_istore_n (pc := 59) G dX10_waiting_59 rfl (Nat.le_of_ble_eq_true rfl) rfl ?_
            refine ax_iincN (pc := 60) (n := 1) G dX10_waiting_60 rfl rfl ic_1 ?_
            refine ax_goto (pc := 63) (tgt := 14) G dX10_waiting_63 rfl ?_
            have q9 := ih (i + 1) (by omega)
            rw [show pWait (μ.2 4) (i + 1) = (pWait (μ.2 4) i) ||| (nI 0) from by first | (simp only [pWait, c22, c33, c48, Int32.not_le.mpr c48, if_true, if_false, Bool.false_eq_true, not_false_eq_true, not_true_eq_false, decide_true, decide_false, Bool.and_true, Bool.true_and, Bool.and_false, Bool.false_and, Bool.or_true, Bool.true_or, Bool.or_false, Bool.false_or, and_self, and_true, true_and, and_false, false_and, or_true, true_or, or_false, false_or, ne_eq]; done) | (simp only [pWait, c22, c33, c48, Int32.not_le.mpr c48, if_true, if_false, Bool.false_eq_true, not_false_eq_true, not_true_eq_false, decide_true, decide_false, Bool.and_true, Bool.true_and, Bool.and_false, Bool.false_and, Bool.or_true, Bool.true_or, Bool.or_false, Bool.false_or, and_self, and_true, true_and, and_false, false_and, or_true, true_or, or_false, false_or, ne_eq]; rfl) | (simp only [pWait, c22, if_pos c33, decide_eq_true c33, c48, Int32.not_le.mpr c48, if_true, if_false, Bool.false_eq_true, not_false_eq_true, not_true_eq_false, decide_true, decide_false, Bool.and_true, Bool.true_and, Bool.and_false, Bool.false_and, Bool.or_true, Bool.true_or, Bool.or_false, Bool.false_or, and_self, and_true, true_and, and_false, false_and, or_true, true_or, or_false, false_or, ne_eq]; done) | (simp only [pWait, c22, if_pos c33, decide_eq_true c33, c48, Int32.not_le.mpr c48, if_true, if_false, Bool.false_eq_true, not_false_eq_true, not_true_eq_false, decide_true, decide_false, Bool.and_true, Bool.true_and, Bool.and_false, Bool.false_and, Bool.or_true, Bool.true_or, Bool.or_false, Bool.false_or, and_self, and_true, true_and, and_false, false_and, or_true, true_or, or_false, false_or, ne_eq]; rfl)] at q9
            exact q9
          · replace c48 : ¬ ((μ.2 4) 0) < ((μ.2 4) (127 + 10 * i + 1)) := c48
            refine ax_iconst (pc := 51) (v := nI 1) G dX10_waiting_51 ic_1 ?_
            refine ax_iload_n (pc := 52) G dX10_waiting_52 rfl rfl ?_
            refine ax_ishl (pc := 53) G dX10_waiting_53 ?_
            refine ax_goto (pc := 54) (tgt := 58) G dX10_waiting_54 rfl ?_
            refine ax_ior (pc := 58) G dX10_waiting_58 ?_
            refine ax_istore_n (pc := 59) G dX10_waiting_59 rfl (Nat.le_of_ble_eq_true rfl) rfl ?_
            refine ax_iincN (pc := 60) (n := 1) G dX10_waiting_60 rfl rfl ic_1 ?_
            refine ax_goto (pc := 63) (tgt := 14) G dX10_waiting_63 rfl ?_
            have q9 := ih (i + 1) (by omega)
            rw [show pWait (μ.2 4) (i + 1) = (pWait (μ.2 4) i) ||| ((nI 1) <<< ((nI i) &&& 31)) from by first | (simp only [pWait, c22, c33, c48, Int32.not_lt.mp c48, if_true, if_false, Bool.false_eq_true, not_false_eq_true, not_true_eq_false, decide_true, decide_false, Bool.and_true, Bool.true_and, Bool.and_false, Bool.false_and, Bool.or_true, Bool.true_or, Bool.or_false, Bool.false_or, and_self, and_true, true_and, and_false, false_and, or_true, true_or, or_false, false_or, ne_eq]; done) | (simp only [pWait, c22, c33, c48, Int32.not_lt.mp c48, if_true, if_false, Bool.false_eq_true, not_false_eq_true, not_true_eq_false, decide_true, decide_false, Bool.and_true, Bool.true_and, Bool.and_false, Bool.false_and, Bool.or_true, Bool.true_or, Bool.or_false, Bool.false_or, and_self, and_true, true_and, and_false, false_and, or_true, true_or, or_false, false_or, ne_eq]; rfl) | (simp only [pWait, c22, if_pos c33, decide_eq_true c33, c48, Int32.not_lt.mp c48, if_true, if_false, Bool.false_eq_true, not_false_eq_true, not_true_eq_false, decide_true, decide_false, Bool.and_true, Bool.true_and, Bool.and_false, Bool.false_and, Bool.or_true, Bool.true_or, Bool.or_false, Bool.false_or, and_self, and_true, true_and, and_false, false_and, or_true, true_or, or_false, false_or, ne_eq]; done) | (simp only [pWait, c22, if_pos c33, decide_eq_true c33, c48, Int32.not_lt.mp c48, if_true, if_false, Bool.false_eq_true, not_false_eq_true, not_true_eq_false, decide_true, decide_false, Bool.and_true, Bool.true_and, Bool.and_false, Bool.false_and, Bool.or_true, Bool.true_or, Bool.or_false, Bool.false_or, and_self, and_true, true_and, and_false, false_and, or_true, true_or, or_false, false_or, ne_eq]; rfl)] at q9
            exact q9
  show ax_W Ω Γ 0 0 (md_H h m μ) 0 [some (.ref m), none, none] []
  refine ax_aload_n (pc := 0) G dX10_waiting_0 rfl rfl ?_
  refine ax_iconst (pc := 1) (v := nI 1) G dX10_waiting_1 ic_1 ?_
  refine ax_cV1 (pc := 2) (kb := 0) (nb := 0) G (mt_mayAskY hA (μ := μ) hm h19) lVX10_368_8 dX10_waiting_2 md_obj rfl (by decide) (Nat.le_of_ble_eq_true rfl) rfl ?_
  show ax_W Ω Γ _ _ (md_H h m (md_si μ 0 (nI 0))) _ _ _
  refine ax_if_ne (pc := 5) (tgt := 10) G dX10_waiting_5 rfl (fun _ => ?_) (fun c9 => absurd c9 (by decide))
  refine ax_iconst (pc := 10) (v := nI 0) G dX10_waiting_10 ic_0 ?_
  refine ax_istore_n (pc := 11) G dX10_waiting_11 rfl (Nat.le_of_ble_eq_true rfl) rfl ?_
  refine ax_iconst (pc := 12) (v := nI 0) G dX10_waiting_12 ic_0 ?_
  refine ax_istore_n (pc := 13) G dX10_waiting_13 rfl (Nat.le_of_ble_eq_true rfl) rfl ?_
  exact LL A 0 (by omega)

theorem mq_waiting_N {Ω : ax_O} (hA : ax_Amb Ω) {h : ax_H} {m : Nat} {μ : md_S} (hm : Ω.2.1.heap.size ≤ m) (h19 : μ.1 19 = nI 0)  : ax_Met Ω yX10_waiting 14 0 0 [.ref m] (md_H h m μ) (.inl (some (.int (nI 0)))) (md_H h m (md_si μ 0 (nI 1))) := by
  refine ax_met q2864 q142 (by decide +kernel) (by decide) hA (Nat.le_of_ble_eq_true rfl) (fun Γ G E => ?_)
  show ax_W Ω Γ 0 0 (md_H h m μ) 0 [some (.ref m), none, none] []
  refine ax_aload_n (pc := 0) G dX10_waiting_0 rfl rfl ?_
  refine ax_iconst (pc := 1) (v := nI 1) G dX10_waiting_1 ic_1 ?_
  refine ax_cV1 (pc := 2) (kb := 0) (nb := 0) G (mt_mayAskN hA (μ := μ) hm h19 true) lVX10_368_8 dX10_waiting_2 md_obj rfl (by decide) (Nat.le_of_ble_eq_true rfl) rfl ?_
  show ax_W Ω Γ _ _ (md_H h m (md_si μ 0 (nI 1))) _ _ _
  refine ax_if_ne (pc := 5) (tgt := 10) G dX10_waiting_5 rfl (fun c9 => absurd rfl c9) (fun _ => ?_)
  refine ax_iconst (pc := 8) (v := nI 0) G dX10_waiting_8 ic_0 ?_
  exact ax_iretE (pc := 9) G E rfl (rfl) dX10_waiting_9 (rfl) (rfl)

theorem mq_dump_Y {Ω : ax_O} (hA : ax_Amb Ω) {h : ax_H} {m : Nat} {μ : md_S} (hm : Ω.2.1.heap.size ≤ m) (h19 : μ.1 19 = nI 1) {P V O A : Nat} (hp : pWP (μ.2 2) P V O) (hs : pWS (μ.2 4) A) (u : Nat) (hu : u ≤ 8) (h18 : μ.1 18 = nI u) (hd : ¬ μ.2 2 0 < μ.2 4 0 + μ.2 2 4) : ax_Met Ω yX10_dump 14 0 0 [.ref m] (md_H h m μ) (.inl (some (.int ((μ.2 4) 3)))) (md_H h m (md_sa (md_si (md_sa (md_si μ 0 (nI 0)) 7 (pRem (μ.2 7) (μ.2 4) u)) 18 (nI (pU u))) 4 (pDumps (μ.2 2) (μ.2 4)))) := by
  refine ax_met q3213 q142 (by decide +kernel) (by decide) hA (Nat.le_of_ble_eq_true rfl) (fun Γ G E => ?_)
  show ax_W Ω Γ 0 0 (md_H h m μ) 0 [some (.ref m), none] []
  refine ax_aload_n (pc := 0) G dX10_dump_0 rfl rfl ?_
  refine ax_aload_n (pc := 1) G dX10_dump_1 rfl rfl ?_
  refine md_get (pc := 2) (v := .ref (m + 4)) G flX10_23_8 dX10_dump_2 rfl ?_
  refine ax_iconst (pc := 5) (v := nI 0) G dX10_dump_5 ic_0 ?_
  refine md_ld (pc := 6) (i := 0) (j := 4) G 627 dX10_dump_6 (by decide) (by decide) rfl rfl rfl (by omega) (by decide) ?_
  refine ax_aload_n (pc := 7) G dX10_dump_7 rfl rfl ?_
  refine md_get (pc := 8) (v := .ref (m + 2)) G flX10_17_8 dX10_dump_8 rfl ?_
  refine ax_iconst (pc := 11) (v := nI 4) G dX10_dump_11 ic_4 ?_
  refine md_ld (pc := 12) (i := 4) (j := 2) G 235 dX10_dump_12 (by decide) (by decide) rfl rfl rfl (by omega) (by decide) ?_
  refine ax_iadd (pc := 13) G dX10_dump_13 ?_
  refine ax_aload_n (pc := 14) G dX10_dump_14 rfl rfl ?_
  refine md_get (pc := 15) (v := .ref (m + 2)) G flX10_17_8 dX10_dump_15 rfl ?_
  refine ax_iconst (pc := 18) (v := nI 0) G dX10_dump_18 ic_0 ?_
  refine md_ld (pc := 19) (i := 0) (j := 2) G 235 dX10_dump_19 (by decide) (by decide) rfl rfl rfl (by omega) (by decide) ?_
  refine ax_icmp_gt (pc := 20) (tgt := 27) G dX10_dump_20 rfl (fun c9 => absurd c9 hd) (fun _ => ?_)
  refine ax_iconst (pc := 23) (v := nI 1) G dX10_dump_23 ic_1 ?_
  refine ax_goto (pc := 24) (tgt := 28) G dX10_dump_24 rfl ?_
  refine ax_cV1 (pc := 28) (kb := 0) (nb := 0) G (mt_mayAskY hA (μ := μ) hm h19) lVX10_368_8 dX10_dump_28 md_obj rfl (by decide) (Nat.le_of_ble_eq_true rfl) rfl ?_
  show ax_W Ω Γ _ _ (md_H h m (md_si μ 0 (nI 0))) _ _ _
  refine ax_if_ne (pc := 31) (tgt := 36) G dX10_dump_31 rfl (fun _ => ?_) (fun c9 => absurd c9 (by decide))
  refine ax_aload_n (pc := 36) G dX10_dump_36 rfl rfl ?_
  refine ax_cV0 (pc := 37) (kb := 0) (nb := 0) G (mt_rem hA (h := h) (m := m) (μ := (md_si μ 0 (nI 0))) hm u hu h18) lVX10_414_8 dX10_dump_37 md_obj rfl (by decide) (Nat.le_of_ble_eq_true rfl) rfl ?_
  show ax_W Ω Γ _ _ (md_H h m (md_si (md_sa (md_si μ 0 (nI 0)) 7 (pRem (μ.2 7) (μ.2 4) u)) 18 (nI (pU u)))) _ _ _
  refine ax_aload_n (pc := 40) G dX10_dump_40 rfl rfl ?_
  refine md_get (pc := 41) (v := .ref (m + 4)) G flX10_23_8 dX10_dump_41 rfl ?_
  refine ax_iconst (pc := 44) (v := nI 3) G dX10_dump_44 ic_3 ?_
  refine md_ld (pc := 45) (i := 3) (j := 4) G 627 dX10_dump_45 (by decide) (by decide) rfl rfl rfl (by omega) (by decide) ?_
  refine ax_istore_n (pc := 46) G dX10_dump_46 rfl (Nat.le_of_ble_eq_true rfl) rfl ?_
  refine ax_aload_n (pc := 47) G dX10_dump_47 rfl rfl ?_
  refine ax_aload_n (pc := 48) G dX10_dump_48 rfl rfl ?_
  refine md_get (pc := 49) (v := .ref (m + 4)) G flX10_23_8 dX10_dump_49 rfl ?_
  refine ax_cV0 (pc := 52) (kb := 0) (nb := 0) G (md_wr (mt_dumps hA (μ := (md_si (md_sa (md_si μ 0 (nI 0)) 7 (pRem (μ.2 7) (μ.2 4) u)) 18 (nI (pU u)))) (s := μ.2 4) hm (j := 4) (Or.inl rfl))) lVX10_286_8 dX10_dump_52 md_obj rfl (by decide) (Nat.le_of_ble_eq_true rfl) rfl ?_
  show ax_W Ω Γ _ _ (md_H h m (md_sa (md_si (md_sa (md_si μ 0 (nI 0)) 7 (pRem (μ.2 7) (μ.2 4) u)) 18 (nI (pU u))) 4 (pDumps (μ.2 2) (μ.2 4)))) _ _ _
  refine ax_iload_n (pc := 55) G dX10_dump_55 rfl rfl ?_
  exact ax_iretE (pc := 56) G E rfl (rfl) dX10_dump_56 (rfl) (rfl)

theorem mq_dump_N {Ω : ax_O} (hA : ax_Amb Ω) {h : ax_H} {m : Nat} {μ : md_S} (hm : Ω.2.1.heap.size ≤ m) (h19 : μ.1 19 = nI 0)  : ax_Met Ω yX10_dump 14 0 0 [.ref m] (md_H h m μ) (.inl (some (.int (nI 0)))) (md_H h m (md_si μ 0 (nI 1))) := by
  refine ax_met q3213 q142 (by decide +kernel) (by decide) hA (Nat.le_of_ble_eq_true rfl) (fun Γ G E => ?_)
  show ax_W Ω Γ 0 0 (md_H h m μ) 0 [some (.ref m), none] []
  refine ax_aload_n (pc := 0) G dX10_dump_0 rfl rfl ?_
  refine ax_aload_n (pc := 1) G dX10_dump_1 rfl rfl ?_
  refine md_get (pc := 2) (v := .ref (m + 4)) G flX10_23_8 dX10_dump_2 rfl ?_
  refine ax_iconst (pc := 5) (v := nI 0) G dX10_dump_5 ic_0 ?_
  refine md_ld (pc := 6) (i := 0) (j := 4) G 627 dX10_dump_6 (by decide) (by decide) rfl rfl rfl (by omega) (by decide) ?_
  refine ax_aload_n (pc := 7) G dX10_dump_7 rfl rfl ?_
  refine md_get (pc := 8) (v := .ref (m + 2)) G flX10_17_8 dX10_dump_8 rfl ?_
  refine ax_iconst (pc := 11) (v := nI 4) G dX10_dump_11 ic_4 ?_
  refine md_ld (pc := 12) (i := 4) (j := 2) G 235 dX10_dump_12 (by decide) (by decide) rfl rfl rfl (by omega) (by decide) ?_
  refine ax_iadd (pc := 13) G dX10_dump_13 ?_
  refine ax_aload_n (pc := 14) G dX10_dump_14 rfl rfl ?_
  refine md_get (pc := 15) (v := .ref (m + 2)) G flX10_17_8 dX10_dump_15 rfl ?_
  refine ax_iconst (pc := 18) (v := nI 0) G dX10_dump_18 ic_0 ?_
  refine md_ld (pc := 19) (i := 0) (j := 2) G 235 dX10_dump_19 (by decide) (by decide) rfl rfl rfl (by omega) (by decide) ?_
  refine ax_icmp_gt (pc := 20) (tgt := 27) G dX10_dump_20 rfl (fun c20 => ?_) (fun c20 => ?_)
  · refine ax_iconst (pc := 27) (v := nI 0) G dX10_dump_27 ic_0 ?_
    refine ax_cV1 (pc := 28) (kb := 0) (nb := 0) G (mt_mayAskN hA (μ := μ) hm h19 false) lVX10_368_8 dX10_dump_28 md_obj rfl (by decide) (Nat.le_of_ble_eq_true rfl) rfl ?_
    show ax_W Ω Γ _ _ (md_H h m (md_si μ 0 (nI 1))) _ _ _
    refine ax_if_ne (pc := 31) (tgt := 36) G dX10_dump_31 rfl (fun c9 => absurd rfl c9) (fun _ => ?_)
    refine ax_iconst (pc := 34) (v := nI 0) G dX10_dump_34 ic_0 ?_
    exact ax_iretE (pc := 35) G E rfl (rfl) dX10_dump_35 (rfl) (rfl)
  · refine ax_iconst (pc := 23) (v := nI 1) G dX10_dump_23 ic_1 ?_
    refine ax_goto (pc := 24) (tgt := 28) G dX10_dump_24 rfl ?_
    refine ax_cV1 (pc := 28) (kb := 0) (nb := 0) G (mt_mayAskN hA (μ := μ) hm h19 true) lVX10_368_8 dX10_dump_28 md_obj rfl (by decide) (Nat.le_of_ble_eq_true rfl) rfl ?_
    show ax_W Ω Γ _ _ (md_H h m (md_si μ 0 (nI 1))) _ _ _
    refine ax_if_ne (pc := 31) (tgt := 36) G dX10_dump_31 rfl (fun c9 => absurd rfl c9) (fun _ => ?_)
    refine ax_iconst (pc := 34) (v := nI 0) G dX10_dump_34 ic_0 ?_
    exact ax_iretE (pc := 35) G E rfl (rfl) dX10_dump_35 (rfl) (rfl)

theorem mq_dump_B {Ω : ax_O} (hA : ax_Amb Ω) {h : ax_H} {m : Nat} {μ : md_S} (hm : Ω.2.1.heap.size ≤ m) (h19 : μ.1 19 = nI 1) (hd : μ.2 2 0 < μ.2 4 0 + μ.2 2 4) : ax_Met Ω yX10_dump 14 0 0 [.ref m] (md_H h m μ) (.inl (some (.int (nI 0)))) (md_H h m (md_si μ 0 (nI 2))) := by
  refine ax_met q3213 q142 (by decide +kernel) (by decide) hA (Nat.le_of_ble_eq_true rfl) (fun Γ G E => ?_)
  show ax_W Ω Γ 0 0 (md_H h m μ) 0 [some (.ref m), none] []
  refine ax_aload_n (pc := 0) G dX10_dump_0 rfl rfl ?_
  refine ax_aload_n (pc := 1) G dX10_dump_1 rfl rfl ?_
  refine md_get (pc := 2) (v := .ref (m + 4)) G flX10_23_8 dX10_dump_2 rfl ?_
  refine ax_iconst (pc := 5) (v := nI 0) G dX10_dump_5 ic_0 ?_
  refine md_ld (pc := 6) (i := 0) (j := 4) G 627 dX10_dump_6 (by decide) (by decide) rfl rfl rfl (by omega) (by decide) ?_
  refine ax_aload_n (pc := 7) G dX10_dump_7 rfl rfl ?_
  refine md_get (pc := 8) (v := .ref (m + 2)) G flX10_17_8 dX10_dump_8 rfl ?_
  refine ax_iconst (pc := 11) (v := nI 4) G dX10_dump_11 ic_4 ?_
  refine md_ld (pc := 12) (i := 4) (j := 2) G 235 dX10_dump_12 (by decide) (by decide) rfl rfl rfl (by omega) (by decide) ?_
  refine ax_iadd (pc := 13) G dX10_dump_13 ?_
  refine ax_aload_n (pc := 14) G dX10_dump_14 rfl rfl ?_
  refine md_get (pc := 15) (v := .ref (m + 2)) G flX10_17_8 dX10_dump_15 rfl ?_
  refine ax_iconst (pc := 18) (v := nI 0) G dX10_dump_18 ic_0 ?_
  refine md_ld (pc := 19) (i := 0) (j := 2) G 235 dX10_dump_19 (by decide) (by decide) rfl rfl rfl (by omega) (by decide) ?_
  refine ax_icmp_gt (pc := 20) (tgt := 27) G dX10_dump_20 rfl (fun _ => ?_) (fun c9 => absurd hd c9)
  refine ax_iconst (pc := 27) (v := nI 0) G dX10_dump_27 ic_0 ?_
  refine ax_cV1 (pc := 28) (kb := 0) (nb := 0) G (mt_mayAskB hA (μ := μ) hm h19) lVX10_368_8 dX10_dump_28 md_obj rfl (by decide) (Nat.le_of_ble_eq_true rfl) rfl ?_
  show ax_W Ω Γ _ _ (md_H h m (md_si μ 0 (nI 2))) _ _ _
  refine ax_if_ne (pc := 31) (tgt := 36) G dX10_dump_31 rfl (fun c9 => absurd rfl c9) (fun _ => ?_)
  refine ax_iconst (pc := 34) (v := nI 0) G dX10_dump_34 ic_0 ?_
  exact ax_iretE (pc := 35) G E rfl (rfl) dX10_dump_35 (rfl) (rfl)

theorem mq_calibrate_Y {Ω : ax_O} (hA : ax_Amb Ω) {h : ax_H} {m : Nat} {μ : md_S} (hm : Ω.2.1.heap.size ≤ m) (h19 : μ.1 19 = nI 1) {P V O A : Nat} (hp : pWP (μ.2 2) P V O) (hs : pWS (μ.2 4) A) (u : Nat) (hu : u ≤ 8) (h18 : μ.1 18 = nI u) (hd : ¬ μ.2 2 0 < μ.2 4 0 + μ.2 2 6) : ax_Met Ω yX10_calibrate 14 0 0 [.ref m] (md_H h m μ) (.inl (some (.int (pCalibrates (μ.2 2) (μ.2 4) 0)))) (md_H h m (md_sa (md_si (md_sa (md_si μ 0 (nI 0)) 7 (pRem (μ.2 7) (μ.2 4) u)) 18 (nI (pU u))) 4 (pCalibrates (μ.2 2) (μ.2 4)))) := by
  refine ax_met q3217 q142 (by decide +kernel) (by decide) hA (Nat.le_of_ble_eq_true rfl) (fun Γ G E => ?_)
  show ax_W Ω Γ 0 0 (md_H h m μ) 0 [some (.ref m)] []
  refine ax_aload_n (pc := 0) G dX10_calibrate_0 rfl rfl ?_
  refine ax_aload_n (pc := 1) G dX10_calibrate_1 rfl rfl ?_
  refine md_get (pc := 2) (v := .ref (m + 4)) G flX10_23_8 dX10_calibrate_2 rfl ?_
  refine ax_iconst (pc := 5) (v := nI 0) G dX10_calibrate_5 ic_0 ?_
  refine md_ld (pc := 6) (i := 0) (j := 4) G 627 dX10_calibrate_6 (by decide) (by decide) rfl rfl rfl (by omega) (by decide) ?_
  refine ax_aload_n (pc := 7) G dX10_calibrate_7 rfl rfl ?_
  refine md_get (pc := 8) (v := .ref (m + 2)) G flX10_17_8 dX10_calibrate_8 rfl ?_
  refine ax_bipush (pc := 11) (v := nI 6) G dX10_calibrate_11 ib_6 ?_
  refine md_ld (pc := 13) (i := 6) (j := 2) G 235 dX10_calibrate_13 (by decide) (by decide) rfl rfl rfl (by omega) (by decide) ?_
  refine ax_iadd (pc := 14) G dX10_calibrate_14 ?_
  refine ax_aload_n (pc := 15) G dX10_calibrate_15 rfl rfl ?_
  refine md_get (pc := 16) (v := .ref (m + 2)) G flX10_17_8 dX10_calibrate_16 rfl ?_
  refine ax_iconst (pc := 19) (v := nI 0) G dX10_calibrate_19 ic_0 ?_
  refine md_ld (pc := 20) (i := 0) (j := 2) G 235 dX10_calibrate_20 (by decide) (by decide) rfl rfl rfl (by omega) (by decide) ?_
  refine ax_icmp_gt (pc := 21) (tgt := 28) G dX10_calibrate_21 rfl (fun c9 => absurd c9 hd) (fun _ => ?_)
  refine ax_iconst (pc := 24) (v := nI 1) G dX10_calibrate_24 ic_1 ?_
  refine ax_goto (pc := 25) (tgt := 29) G dX10_calibrate_25 rfl ?_
  refine ax_cV1 (pc := 29) (kb := 0) (nb := 0) G (mt_mayAskY hA (μ := μ) hm h19) lVX10_368_8 dX10_calibrate_29 md_obj rfl (by decide) (Nat.le_of_ble_eq_true rfl) rfl ?_
  show ax_W Ω Γ _ _ (md_H h m (md_si μ 0 (nI 0))) _ _ _
  refine ax_if_ne (pc := 32) (tgt := 37) G dX10_calibrate_32 rfl (fun _ => ?_) (fun c9 => absurd c9 (by decide))
  refine ax_aload_n (pc := 37) G dX10_calibrate_37 rfl rfl ?_
  refine ax_cV0 (pc := 38) (kb := 0) (nb := 0) G (mt_rem hA (h := h) (m := m) (μ := (md_si μ 0 (nI 0))) hm u hu h18) lVX10_414_8 dX10_calibrate_38 md_obj rfl (by decide) (Nat.le_of_ble_eq_true rfl) rfl ?_
  show ax_W Ω Γ _ _ (md_H h m (md_si (md_sa (md_si μ 0 (nI 0)) 7 (pRem (μ.2 7) (μ.2 4) u)) 18 (nI (pU u)))) _ _ _
  refine ax_aload_n (pc := 41) G dX10_calibrate_41 rfl rfl ?_
  refine ax_aload_n (pc := 42) G dX10_calibrate_42 rfl rfl ?_
  refine md_get (pc := 43) (v := .ref (m + 4)) G flX10_23_8 dX10_calibrate_43 rfl ?_
  refine ax_cV0 (pc := 46) (kb := 0) (nb := 0) G (md_wr (mt_calibrates hA (μ := (md_si (md_sa (md_si μ 0 (nI 0)) 7 (pRem (μ.2 7) (μ.2 4) u)) 18 (nI (pU u)))) (s := μ.2 4) hm (j := 4) (Or.inl rfl))) lVX10_333_8 dX10_calibrate_46 md_obj rfl (by decide) (Nat.le_of_ble_eq_true rfl) rfl ?_
  show ax_W Ω Γ _ _ (md_H h m (md_sa (md_si (md_sa (md_si μ 0 (nI 0)) 7 (pRem (μ.2 7) (μ.2 4) u)) 18 (nI (pU u))) 4 (pCalibrates (μ.2 2) (μ.2 4)))) _ _ _
  refine ax_aload_n (pc := 49) G dX10_calibrate_49 rfl rfl ?_
  refine md_get (pc := 50) (v := .ref (m + 4)) G flX10_23_8 dX10_calibrate_50 rfl ?_
  refine ax_iconst (pc := 53) (v := nI 0) G dX10_calibrate_53 ic_0 ?_
  refine md_ld (pc := 54) (i := 0) (j := 4) G 627 dX10_calibrate_54 (by decide) (by decide) rfl rfl rfl (by omega) (by decide) ?_
  exact ax_iretE (pc := 55) G E rfl (rfl) dX10_calibrate_55 (rfl) (rfl)

theorem mq_calibrate_N {Ω : ax_O} (hA : ax_Amb Ω) {h : ax_H} {m : Nat} {μ : md_S} (hm : Ω.2.1.heap.size ≤ m) (h19 : μ.1 19 = nI 0)  : ax_Met Ω yX10_calibrate 14 0 0 [.ref m] (md_H h m μ) (.inl (some (.int (nI 0)))) (md_H h m (md_si μ 0 (nI 1))) := by
  refine ax_met q3217 q142 (by decide +kernel) (by decide) hA (Nat.le_of_ble_eq_true rfl) (fun Γ G E => ?_)
  show ax_W Ω Γ 0 0 (md_H h m μ) 0 [some (.ref m)] []
  refine ax_aload_n (pc := 0) G dX10_calibrate_0 rfl rfl ?_
  refine ax_aload_n (pc := 1) G dX10_calibrate_1 rfl rfl ?_
  refine md_get (pc := 2) (v := .ref (m + 4)) G flX10_23_8 dX10_calibrate_2 rfl ?_
  refine ax_iconst (pc := 5) (v := nI 0) G dX10_calibrate_5 ic_0 ?_
  refine md_ld (pc := 6) (i := 0) (j := 4) G 627 dX10_calibrate_6 (by decide) (by decide) rfl rfl rfl (by omega) (by decide) ?_
  refine ax_aload_n (pc := 7) G dX10_calibrate_7 rfl rfl ?_
  refine md_get (pc := 8) (v := .ref (m + 2)) G flX10_17_8 dX10_calibrate_8 rfl ?_
  refine ax_bipush (pc := 11) (v := nI 6) G dX10_calibrate_11 ib_6 ?_
  refine md_ld (pc := 13) (i := 6) (j := 2) G 235 dX10_calibrate_13 (by decide) (by decide) rfl rfl rfl (by omega) (by decide) ?_
  refine ax_iadd (pc := 14) G dX10_calibrate_14 ?_
  refine ax_aload_n (pc := 15) G dX10_calibrate_15 rfl rfl ?_
  refine md_get (pc := 16) (v := .ref (m + 2)) G flX10_17_8 dX10_calibrate_16 rfl ?_
  refine ax_iconst (pc := 19) (v := nI 0) G dX10_calibrate_19 ic_0 ?_
  refine md_ld (pc := 20) (i := 0) (j := 2) G 235 dX10_calibrate_20 (by decide) (by decide) rfl rfl rfl (by omega) (by decide) ?_
  refine ax_icmp_gt (pc := 21) (tgt := 28) G dX10_calibrate_21 rfl (fun c21 => ?_) (fun c21 => ?_)
  · refine ax_iconst (pc := 28) (v := nI 0) G dX10_calibrate_28 ic_0 ?_
    refine ax_cV1 (pc := 29) (kb := 0) (nb := 0) G (mt_mayAskN hA (μ := μ) hm h19 false) lVX10_368_8 dX10_calibrate_29 md_obj rfl (by decide) (Nat.le_of_ble_eq_true rfl) rfl ?_
    show ax_W Ω Γ _ _ (md_H h m (md_si μ 0 (nI 1))) _ _ _
    refine ax_if_ne (pc := 32) (tgt := 37) G dX10_calibrate_32 rfl (fun c9 => absurd rfl c9) (fun _ => ?_)
    refine ax_iconst (pc := 35) (v := nI 0) G dX10_calibrate_35 ic_0 ?_
    exact ax_iretE (pc := 36) G E rfl (rfl) dX10_calibrate_36 (rfl) (rfl)
  · refine ax_iconst (pc := 24) (v := nI 1) G dX10_calibrate_24 ic_1 ?_
    refine ax_goto (pc := 25) (tgt := 29) G dX10_calibrate_25 rfl ?_
    refine ax_cV1 (pc := 29) (kb := 0) (nb := 0) G (mt_mayAskN hA (μ := μ) hm h19 true) lVX10_368_8 dX10_calibrate_29 md_obj rfl (by decide) (Nat.le_of_ble_eq_true rfl) rfl ?_
    show ax_W Ω Γ _ _ (md_H h m (md_si μ 0 (nI 1))) _ _ _
    refine ax_if_ne (pc := 32) (tgt := 37) G dX10_calibrate_32 rfl (fun c9 => absurd rfl c9) (fun _ => ?_)
    refine ax_iconst (pc := 35) (v := nI 0) G dX10_calibrate_35 ic_0 ?_
    exact ax_iretE (pc := 36) G E rfl (rfl) dX10_calibrate_36 (rfl) (rfl)

theorem mq_calibrate_B {Ω : ax_O} (hA : ax_Amb Ω) {h : ax_H} {m : Nat} {μ : md_S} (hm : Ω.2.1.heap.size ≤ m) (h19 : μ.1 19 = nI 1) (hd : μ.2 2 0 < μ.2 4 0 + μ.2 2 6) : ax_Met Ω yX10_calibrate 14 0 0 [.ref m] (md_H h m μ) (.inl (some (.int (nI 0)))) (md_H h m (md_si μ 0 (nI 2))) := by
  refine ax_met q3217 q142 (by decide +kernel) (by decide) hA (Nat.le_of_ble_eq_true rfl) (fun Γ G E => ?_)
  show ax_W Ω Γ 0 0 (md_H h m μ) 0 [some (.ref m)] []
  refine ax_aload_n (pc := 0) G dX10_calibrate_0 rfl rfl ?_
  refine ax_aload_n (pc := 1) G dX10_calibrate_1 rfl rfl ?_
  refine md_get (pc := 2) (v := .ref (m + 4)) G flX10_23_8 dX10_calibrate_2 rfl ?_
  refine ax_iconst (pc := 5) (v := nI 0) G dX10_calibrate_5 ic_0 ?_
  refine md_ld (pc := 6) (i := 0) (j := 4) G 627 dX10_calibrate_6 (by decide) (by decide) rfl rfl rfl (by omega) (by decide) ?_
  refine ax_aload_n (pc := 7) G dX10_calibrate_7 rfl rfl ?_
  refine md_get (pc := 8) (v := .ref (m + 2)) G flX10_17_8 dX10_calibrate_8 rfl ?_
  refine ax_bipush (pc := 11) (v := nI 6) G dX10_calibrate_11 ib_6 ?_
  refine md_ld (pc := 13) (i := 6) (j := 2) G 235 dX10_calibrate_13 (by decide) (by decide) rfl rfl rfl (by omega) (by decide) ?_
  refine ax_iadd (pc := 14) G dX10_calibrate_14 ?_
  refine ax_aload_n (pc := 15) G dX10_calibrate_15 rfl rfl ?_
  refine md_get (pc := 16) (v := .ref (m + 2)) G flX10_17_8 dX10_calibrate_16 rfl ?_
  refine ax_iconst (pc := 19) (v := nI 0) G dX10_calibrate_19 ic_0 ?_
  refine md_ld (pc := 20) (i := 0) (j := 2) G 235 dX10_calibrate_20 (by decide) (by decide) rfl rfl rfl (by omega) (by decide) ?_
  refine ax_icmp_gt (pc := 21) (tgt := 28) G dX10_calibrate_21 rfl (fun _ => ?_) (fun c9 => absurd hd c9)
  refine ax_iconst (pc := 28) (v := nI 0) G dX10_calibrate_28 ic_0 ?_
  refine ax_cV1 (pc := 29) (kb := 0) (nb := 0) G (mt_mayAskB hA (μ := μ) hm h19) lVX10_368_8 dX10_calibrate_29 md_obj rfl (by decide) (Nat.le_of_ble_eq_true rfl) rfl ?_
  show ax_W Ω Γ _ _ (md_H h m (md_si μ 0 (nI 2))) _ _ _
  refine ax_if_ne (pc := 32) (tgt := 37) G dX10_calibrate_32 rfl (fun c9 => absurd rfl c9) (fun _ => ?_)
  refine ax_iconst (pc := 35) (v := nI 0) G dX10_calibrate_35 ic_0 ?_
  exact ax_iretE (pc := 36) G E rfl (rfl) dX10_calibrate_36 (rfl) (rfl)

