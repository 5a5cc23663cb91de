/-! THE MODEL: what it reads off a row -/
theorem mt_of {Ω : ax_O} (hA : ax_Amb Ω) {h : ax_H} {m : Nat} {μ : md_S} {s : pR} {j : Nat} (hj : j = 4 ∨ j = 6) (k v a : Nat) (hk : k < 30) (hv : v < 8) (ha : a < 10) : ax_Met Ω yX10_of 1 0 0 [.ref m, .ref (m + j), .int (nI k), .int (nI v), .int (nI a)] (md_H h m (md_sa μ j s)) (.inl (some (.int (pOf (μ.2 2) s k v a)))) (md_H h m (md_sa μ j s)) := by
  refine ax_met q2804 q142 (by decide +kernel) (by decide) hA (Nat.le_of_ble_eq_true rfl) (fun Γ G E => ?_)
  show ax_W Ω Γ 0 0 (md_H h m (md_sa μ j s)) 0 [some (.ref m), some (.ref (m + j)), some (.int (nI k)), some (.int (nI v)), some (.int (nI a))] []
  refine ax_iload_n (pc := 0) G dX10_of_0 rfl rfl ?_
  refine ax_bipush (pc := 1) (v := nI 20) G dX10_of_1 ib_20 ?_
  refine ax_icmp_geN (pc := 3) (tgt := 23) G dX10_of_3 rfl (by omega) (by omega) (fun c3 => ?_) (fun c3 => ?_)
  · refine ax_aload_n (pc := 23) G dX10_of_23 rfl rfl ?_
    refine ax_bipush (pc := 24) (v := nI 127) G dX10_of_24 ib_127 ?_
    refine ax_bipush (pc := 26) (v := nI 10) G dX10_of_26 ib_10 ?_
    refine ax_iload_n (pc := 28) G dX10_of_28 rfl rfl ?_
    refine ax_bipush (pc := 29) (v := nI 20) G dX10_of_29 ib_20 ?_
    refine ax_isubN (pc := 31) G dX10_of_31 (by omega) ?_
    refine ax_imulN (pc := 32) G dX10_of_32 ?_
    refine ax_iaddN (pc := 33) G dX10_of_33 ?_
    refine ax_iload (pc := 34) G dX10_of_34 rfl ?_
    refine ax_iaddN (pc := 36) G dX10_of_36 ?_
    refine md_lds (pc := 37) (i := (127 + (10 * (k - 20))) + a) G hj dX10_of_37 rfl (by omega) ?_
    exact ax_iretE (pc := 38) G E rfl (rfl) dX10_of_38 (by rw [pOf]; first | rw [if_pos (by omega)] | rw [if_neg (by omega)]) (rfl)
  · refine ax_aload_n (pc := 6) G dX10_of_6 rfl rfl ?_
    refine md_get (pc := 7) (v := .ref (m + 2)) G flX10_17_8 dX10_of_7 rfl ?_
    refine ax_bipush (pc := 10) (v := nI 66) G dX10_of_10 ib_66 ?_
    refine ax_bipush (pc := 12) (v := nI 8) G dX10_of_12 ib_8 ?_
    refine ax_iload_n (pc := 14) G dX10_of_14 rfl rfl ?_
    refine ax_imulN (pc := 15) G dX10_of_15 ?_
    refine ax_iaddN (pc := 16) G dX10_of_16 ?_
    refine ax_iload_n (pc := 17) G dX10_of_17 rfl rfl ?_
    refine ax_iaddN (pc := 18) G dX10_of_18 ?_
    refine md_ldp (pc := 19) (i := 66 + (8 * k) + v) (j2 := 2) G 235 dX10_of_19 (by omega) (by decide) (by decide) rfl rfl rfl (by omega) (by decide) ?_
    refine ax_goto (pc := 20) (tgt := 38) G dX10_of_20 rfl ?_
    exact ax_iretE (pc := 38) G E rfl (rfl) dX10_of_38 (by rw [pOf]; first | rw [if_pos (by omega)] | rw [if_neg (by omega)]) (rfl)

theorem mt_itsProposal {Ω : ax_O} (hA : ax_Amb Ω) {h : ax_H} {m : Nat} {μ : md_S} {s : pR} {j : Nat} (hj : j = 4 ∨ j = 6) (k : Nat) (hk : k < 30) : ax_Met Ω yX10_itsProposal 2 0 0 [.ref m, .ref (m + j), .int (nI k)] (md_H h m (md_sa μ j s)) (.inl (some (.int (pProp (μ.2 2) s k)))) (md_H h m (md_sa μ j s)) := by
  refine ax_met q2800 q142 (by decide +kernel) (by decide) hA (Nat.le_of_ble_eq_true rfl) (fun Γ G E => ?_)
  show ax_W Ω Γ 0 0 (md_H h m (md_sa μ j s)) 0 [some (.ref m), some (.ref (m + j)), some (.int (nI k))] []
  refine ax_aload_n (pc := 0) G dX10_itsProposal_0 rfl rfl ?_
  refine ax_aload_n (pc := 1) G dX10_itsProposal_1 rfl rfl ?_
  refine ax_iload_n (pc := 2) G dX10_itsProposal_2 rfl rfl ?_
  refine ax_iconst (pc := 3) (v := nI 0) G dX10_itsProposal_3 ic_0 ?_
  refine ax_iconst (pc := 4) (v := nI 0) G dX10_itsProposal_4 ic_0 ?_
  refine ax_cV1 (pc := 5) (kb := 0) (nb := 0) G (mt_of hA hj k 0 0 (by omega) (by omega) (by omega)) lVX10_223_8 dX10_itsProposal_5 md_obj rfl (by decide) (Nat.le_of_ble_eq_true rfl) rfl ?_
  exact ax_iretE (pc := 8) G E rfl (rfl) dX10_itsProposal_8 (rfl) (rfl)

theorem mt_itsLon {Ω : ax_O} (hA : ax_Amb Ω) {h : ax_H} {m : Nat} {μ : md_S} {s : pR} {j : Nat} (hj : j = 4 ∨ j = 6) (k : Nat) (hk : k < 30) : ax_Met Ω yX10_itsLon 2 0 0 [.ref m, .ref (m + j), .int (nI k)] (md_H h m (md_sa μ j s)) (.inl (some (.int (pLon (μ.2 2) s k)))) (md_H h m (md_sa μ j s)) := by
  refine ax_met q2964 q142 (by decide +kernel) (by decide) hA (Nat.le_of_ble_eq_true rfl) (fun Γ G E => ?_)
  show ax_W Ω Γ 0 0 (md_H h m (md_sa μ j s)) 0 [some (.ref m), some (.ref (m + j)), some (.int (nI k))] []
  refine ax_aload_n (pc := 0) G dX10_itsLon_0 rfl rfl ?_
  refine ax_aload_n (pc := 1) G dX10_itsLon_1 rfl rfl ?_
  refine ax_iload_n (pc := 2) G dX10_itsLon_2 rfl rfl ?_
  refine ax_iconst (pc := 3) (v := nI 1) G dX10_itsLon_3 ic_1 ?_
  refine ax_iconst (pc := 4) (v := nI 2) G dX10_itsLon_4 ic_2 ?_
  refine ax_cV1 (pc := 5) (kb := 0) (nb := 0) G (mt_of hA hj k 1 2 (by omega) (by omega) (by omega)) lVX10_223_8 dX10_itsLon_5 md_obj rfl (by decide) (Nat.le_of_ble_eq_true rfl) rfl ?_
  exact ax_iretE (pc := 8) G E rfl (rfl) dX10_itsLon_8 (rfl) (rfl)

theorem mt_itsLat {Ω : ax_O} (hA : ax_Amb Ω) {h : ax_H} {m : Nat} {μ : md_S} {s : pR} {j : Nat} (hj : j = 4 ∨ j = 6) (k : Nat) (hk : k < 30) : ax_Met Ω yX10_itsLat 2 0 0 [.ref m, .ref (m + j), .int (nI k)] (md_H h m (md_sa μ j s)) (.inl (some (.int (pLat (μ.2 2) s k)))) (md_H h m (md_sa μ j s)) := by
  refine ax_met q2968 q142 (by decide +kernel) (by decide) hA (Nat.le_of_ble_eq_true rfl) (fun Γ G E => ?_)
  show ax_W Ω Γ 0 0 (md_H h m (md_sa μ j s)) 0 [some (.ref m), some (.ref (m + j)), some (.int (nI k))] []
  refine ax_aload_n (pc := 0) G dX10_itsLat_0 rfl rfl ?_
  refine ax_aload_n (pc := 1) G dX10_itsLat_1 rfl rfl ?_
  refine ax_iload_n (pc := 2) G dX10_itsLat_2 rfl rfl ?_
  refine ax_iconst (pc := 3) (v := nI 2) G dX10_itsLat_3 ic_2 ?_
  refine ax_iconst (pc := 4) (v := nI 3) G dX10_itsLat_4 ic_3 ?_
  refine ax_cV1 (pc := 5) (kb := 0) (nb := 0) G (mt_of hA hj k 2 3 (by omega) (by omega) (by omega)) lVX10_223_8 dX10_itsLat_5 md_obj rfl (by decide) (Nat.le_of_ble_eq_true rfl) rfl ?_
  exact ax_iretE (pc := 8) G E rfl (rfl) dX10_itsLat_8 (rfl) (rfl)

theorem mt_itsDuration {Ω : ax_O} (hA : ax_Amb Ω) {h : ax_H} {m : Nat} {μ : md_S} {s : pR} {j : Nat} (hj : j = 4 ∨ j = 6) (k : Nat) (hk : k < 30) : ax_Met Ω yX10_itsDuration 2 0 0 [.ref m, .ref (m + j), .int (nI k)] (md_H h m (md_sa μ j s)) (.inl (some (.int (pDur (μ.2 2) s k)))) (md_H h m (md_sa μ j s)) := by
  refine ax_met q2940 q142 (by decide +kernel) (by decide) hA (Nat.le_of_ble_eq_true rfl) (fun Γ G E => ?_)
  show ax_W Ω Γ 0 0 (md_H h m (md_sa μ j s)) 0 [some (.ref m), some (.ref (m + j)), some (.int (nI k))] []
  refine ax_aload_n (pc := 0) G dX10_itsDuration_0 rfl rfl ?_
  refine ax_aload_n (pc := 1) G dX10_itsDuration_1 rfl rfl ?_
  refine ax_iload_n (pc := 2) G dX10_itsDuration_2 rfl rfl ?_
  refine ax_iconst (pc := 3) (v := nI 3) G dX10_itsDuration_3 ic_3 ?_
  refine ax_iconst (pc := 4) (v := nI 4) G dX10_itsDuration_4 ic_4 ?_
  refine ax_cV1 (pc := 5) (kb := 0) (nb := 0) G (mt_of hA hj k 3 4 (by omega) (by omega) (by omega)) lVX10_223_8 dX10_itsDuration_5 md_obj rfl (by decide) (Nat.le_of_ble_eq_true rfl) rfl ?_
  exact ax_iretE (pc := 8) G E rfl (rfl) dX10_itsDuration_8 (rfl) (rfl)

theorem mt_itsFrom {Ω : ax_O} (hA : ax_Amb Ω) {h : ax_H} {m : Nat} {μ : md_S} {s : pR} {j : Nat} (hj : j = 4 ∨ j = 6) (k : Nat) (hk : k < 30) : ax_Met Ω yX10_itsFrom 2 0 0 [.ref m, .ref (m + j), .int (nI k)] (md_H h m (md_sa μ j s)) (.inl (some (.int (pFrom (μ.2 2) s k)))) (md_H h m (md_sa μ j s)) := by
  refine ax_met q2983 q142 (by decide +kernel) (by decide) hA (Nat.le_of_ble_eq_true rfl) (fun Γ G E => ?_)
  show ax_W Ω Γ 0 0 (md_H h m (md_sa μ j s)) 0 [some (.ref m), some (.ref (m + j)), some (.int (nI k))] []
  refine ax_aload_n (pc := 0) G dX10_itsFrom_0 rfl rfl ?_
  refine ax_aload_n (pc := 1) G dX10_itsFrom_1 rfl rfl ?_
  refine ax_iload_n (pc := 2) G dX10_itsFrom_2 rfl rfl ?_
  refine ax_bipush (pc := 3) (v := nI 6) G dX10_itsFrom_3 ib_6 ?_
  refine ax_iconst (pc := 5) (v := nI 1) G dX10_itsFrom_5 ic_1 ?_
  refine ax_cV1 (pc := 6) (kb := 0) (nb := 0) G (mt_of hA hj k 6 1 (by omega) (by omega) (by omega)) lVX10_223_8 dX10_itsFrom_6 md_obj rfl (by decide) (Nat.le_of_ble_eq_true rfl) rfl ?_
  exact ax_iretE (pc := 9) G E rfl (rfl) dX10_itsFrom_9 (rfl) (rfl)

theorem mt_itsTo {Ω : ax_O} (hA : ax_Amb Ω) {h : ax_H} {m : Nat} {μ : md_S} {s : pR} {j : Nat} (hj : j = 4 ∨ j = 6) (k : Nat) (hk : k < 30) : ax_Met Ω yX10_itsTo 3 0 0 [.ref m, .ref (m + j), .int (nI k)] (md_H h m (md_sa μ j s)) (.inl (some (.int (pTo (μ.2 2) s k)))) (md_H h m (md_sa μ j s)) := by
  refine ax_met q2987 q142 (by decide +kernel) (by decide) hA (Nat.le_of_ble_eq_true rfl) (fun Γ G E => ?_)
  show ax_W Ω Γ 0 0 (md_H h m (md_sa μ j s)) 0 [some (.ref m), some (.ref (m + j)), some (.int (nI k))] []
  refine ax_iload_n (pc := 0) G dX10_itsTo_0 rfl rfl ?_
  refine ax_bipush (pc := 1) (v := nI 20) G dX10_itsTo_1 ib_20 ?_
  refine ax_icmp_geN (pc := 3) (tgt := 24) G dX10_itsTo_3 rfl (by omega) (by omega) (fun c3 => ?_) (fun c3 => ?_)
  · refine ax_aload_n (pc := 24) G dX10_itsTo_24 rfl rfl ?_
    refine ax_aload_n (pc := 25) G dX10_itsTo_25 rfl rfl ?_
    refine ax_iload_n (pc := 26) G dX10_itsTo_26 rfl rfl ?_
    refine ax_cV1 (pc := 27) (kb := 0) (nb := 0) G (mt_itsFrom hA hj k (by omega)) lVX10_227_8 dX10_itsTo_27 md_obj rfl (by decide) (Nat.le_of_ble_eq_true rfl) rfl ?_
    refine ax_aload_n (pc := 30) G dX10_itsTo_30 rfl rfl ?_
    refine ax_bipush (pc := 31) (v := nI 127) G dX10_itsTo_31 ib_127 ?_
    refine ax_bipush (pc := 33) (v := nI 10) G dX10_itsTo_33 ib_10 ?_
    refine ax_iload_n (pc := 35) G dX10_itsTo_35 rfl rfl ?_
    refine ax_bipush (pc := 36) (v := nI 20) G dX10_itsTo_36 ib_20 ?_
    refine ax_isubN (pc := 38) G dX10_itsTo_38 (by omega) ?_
    refine ax_imulN (pc := 39) G dX10_itsTo_39 ?_
    refine ax_iaddN (pc := 40) G dX10_itsTo_40 ?_
    refine ax_bipush (pc := 41) (v := nI 6) G dX10_itsTo_41 ib_6 ?_
    refine ax_iaddN (pc := 43) G dX10_itsTo_43 ?_
    refine md_lds (pc := 44) (i := (127 + (10 * (k - 20))) + 6) G hj dX10_itsTo_44 rfl (by omega) ?_
    refine ax_iadd (pc := 45) G dX10_itsTo_45 ?_
    exact ax_iretE (pc := 46) G E rfl (rfl) dX10_itsTo_46 (by rw [pTo]; first | rw [if_pos (by omega)] | rw [if_neg (by omega)]) (rfl)
  · refine ax_aload_n (pc := 6) G dX10_itsTo_6 rfl rfl ?_
    refine md_get (pc := 7) (v := .ref (m + 2)) G flX10_17_8 dX10_itsTo_7 rfl ?_
    refine ax_bipush (pc := 10) (v := nI 66) G dX10_itsTo_10 ib_66 ?_
    refine ax_bipush (pc := 12) (v := nI 8) G dX10_itsTo_12 ib_8 ?_
    refine ax_iload_n (pc := 14) G dX10_itsTo_14 rfl rfl ?_
    refine ax_imulN (pc := 15) G dX10_itsTo_15 ?_
    refine ax_iaddN (pc := 16) G dX10_itsTo_16 ?_
    refine ax_bipush (pc := 17) (v := nI 7) G dX10_itsTo_17 ib_7 ?_
    refine ax_iaddN (pc := 19) G dX10_itsTo_19 ?_
    refine md_ldp (pc := 20) (i := 66 + (8 * k) + 7) (j2 := 2) G 235 dX10_itsTo_20 (by omega) (by decide) (by decide) rfl rfl rfl (by omega) (by decide) ?_
    refine ax_goto (pc := 21) (tgt := 46) G dX10_itsTo_21 rfl ?_
    exact ax_iretE (pc := 46) G E rfl (rfl) dX10_itsTo_46 (by rw [pTo]; first | rw [if_pos (by omega)] | rw [if_neg (by omega)]) (rfl)

theorem mt_stateAt {Ω : ax_O} (hA : ax_Amb Ω) {h : ax_H} {m : Nat} {μ : md_S} (k : Nat) (hk : k < 30) : ax_Met Ω yX10_stateAt 1 0 0 [.int (nI k)] (md_H h m μ) (.inl (some (.int (nI (pStateAt k))))) (md_H h m μ) := by
  refine ax_met q2979 q142 (by decide +kernel) (by decide) hA (Nat.le_of_ble_eq_true rfl) (fun Γ G E => ?_)
  show ax_W Ω Γ 0 0 (md_H h m μ) 0 [some (.int (nI k))] []
  refine ax_iload_n (pc := 0) G dX10_stateAt_0 rfl rfl ?_
  refine ax_bipush (pc := 1) (v := nI 20) G dX10_stateAt_1 ib_20 ?_
  refine ax_icmp_geN (pc := 3) (tgt := 13) G dX10_stateAt_3 rfl (by omega) (by omega) (fun c3 => ?_) (fun c3 => ?_)
  · refine ax_bipush (pc := 13) (v := nI 127) G dX10_stateAt_13 ib_127 ?_
    refine ax_bipush (pc := 15) (v := nI 10) G dX10_stateAt_15 ib_10 ?_
    refine ax_iload_n (pc := 17) G dX10_stateAt_17 rfl rfl ?_
    refine ax_bipush (pc := 18) (v := nI 20) G dX10_stateAt_18 ib_20 ?_
    refine ax_isubN (pc := 20) G dX10_stateAt_20 (by omega) ?_
    refine ax_imulN (pc := 21) G dX10_stateAt_21 ?_
    refine ax_iaddN (pc := 22) G dX10_stateAt_22 ?_
    refine ax_bipush (pc := 23) (v := nI 7) G dX10_stateAt_23 ib_7 ?_
    refine ax_iaddN (pc := 25) G dX10_stateAt_25 ?_
    exact ax_iretE (pc := 26) G E rfl (rfl) dX10_stateAt_26 (by rw [pStateAt]; first | rw [if_pos (by omega)] | rw [if_neg (by omega)]) (rfl)
  · refine ax_bipush (pc := 6) (v := nI 47) G dX10_stateAt_6 ib_47 ?_
    refine ax_iload_n (pc := 8) G dX10_stateAt_8 rfl rfl ?_
    refine ax_iaddN (pc := 9) G dX10_stateAt_9 ?_
    refine ax_goto (pc := 10) (tgt := 26) G dX10_stateAt_10 rfl ?_
    exact ax_iretE (pc := 26) G E rfl (rfl) dX10_stateAt_26 (by rw [pStateAt]; first | rw [if_pos (by omega)] | rw [if_neg (by omega)]) (rfl)

theorem mt_startAt {Ω : ax_O} (hA : ax_Amb Ω) {h : ax_H} {m : Nat} {μ : md_S} (k : Nat) (hk : k < 30) : ax_Met Ω yX10_startAt 1 0 0 [.int (nI k)] (md_H h m μ) (.inl (some (.int (nI (pStartAt k))))) (md_H h m μ) := by
  refine ax_met q3044 q142 (by decide +kernel) (by decide) hA (Nat.le_of_ble_eq_true rfl) (fun Γ G E => ?_)
  show ax_W Ω Γ 0 0 (md_H h m μ) 0 [some (.int (nI k))] []
  refine ax_iload_n (pc := 0) G dX10_startAt_0 rfl rfl ?_
  refine ax_bipush (pc := 1) (v := nI 20) G dX10_startAt_1 ib_20 ?_
  refine ax_icmp_geN (pc := 3) (tgt := 13) G dX10_startAt_3 rfl (by omega) (by omega) (fun c3 => ?_) (fun c3 => ?_)
  · refine ax_bipush (pc := 13) (v := nI 127) G dX10_startAt_13 ib_127 ?_
    refine ax_bipush (pc := 15) (v := nI 10) G dX10_startAt_15 ib_10 ?_
    refine ax_iload_n (pc := 17) G dX10_startAt_17 rfl rfl ?_
    refine ax_bipush (pc := 18) (v := nI 20) G dX10_startAt_18 ib_20 ?_
    refine ax_isubN (pc := 20) G dX10_startAt_20 (by omega) ?_
    refine ax_imulN (pc := 21) G dX10_startAt_21 ?_
    refine ax_iaddN (pc := 22) G dX10_startAt_22 ?_
    refine ax_bipush (pc := 23) (v := nI 8) G dX10_startAt_23 ib_8 ?_
    refine ax_iaddN (pc := 25) G dX10_startAt_25 ?_
    exact ax_iretE (pc := 26) G E rfl (rfl) dX10_startAt_26 (by rw [pStartAt]; first | rw [if_pos (by omega)] | rw [if_neg (by omega)]) (rfl)
  · refine ax_bipush (pc := 6) (v := nI 87) G dX10_startAt_6 ib_87 ?_
    refine ax_iload_n (pc := 8) G dX10_startAt_8 rfl rfl ?_
    refine ax_iaddN (pc := 9) G dX10_startAt_9 ?_
    refine ax_goto (pc := 10) (tgt := 26) G dX10_startAt_10 rfl ?_
    exact ax_iretE (pc := 26) G E rfl (rfl) dX10_startAt_26 (by rw [pStartAt]; first | rw [if_pos (by omega)] | rw [if_neg (by omega)]) (rfl)

theorem mt_grows {Ω : ax_O} (hA : ax_Amb Ω) {h : ax_H} {m : Nat} {μ : md_S} {s : pR} {j : Nat} (hj : j = 4 ∨ j = 6) (k : Nat) (hk : k < 30) (mi : Int32) : ax_Met Ω yX10_grows 2 0 0 [.ref m, .ref (m + j), .int (nI k), .int mi] (md_H h m (md_sa μ j s)) (.inl (some (.int (pGrows (μ.2 2) s k mi)))) (md_H h m (md_sa μ j s)) := by
  refine ax_met q2944 q142 (by decide +kernel) (by decide) hA (Nat.le_of_ble_eq_true rfl) (fun Γ G E => ?_)
  show ax_W Ω Γ 0 0 (md_H h m (md_sa μ j s)) 0 [some (.ref m), some (.ref (m + j)), some (.int (nI k)), some (.int mi)] []
  refine ax_aload_n (pc := 0) G dX10_grows_0 rfl rfl ?_
  refine ax_aload_n (pc := 1) G dX10_grows_1 rfl rfl ?_
  refine ax_iload_n (pc := 2) G dX10_grows_2 rfl rfl ?_
  refine ax_iconst (pc := 3) (v := nI 5) G dX10_grows_3 ic_5 ?_
  refine ax_iconst (pc := 4) (v := nI 5) G dX10_grows_4 ic_5 ?_
  refine ax_cV1 (pc := 5) (kb := 0) (nb := 0) G (mt_of hA hj k 5 5 (by omega) (by omega) (by omega)) lVX10_223_8 dX10_grows_5 md_obj rfl (by decide) (Nat.le_of_ble_eq_true rfl) rfl ?_
  refine ax_iload_n (pc := 8) G dX10_grows_8 rfl rfl ?_
  refine ax_imul (pc := 9) G dX10_grows_9 ?_
  refine ax_bipush (pc := 10) (v := nI 9) G dX10_grows_10 ib_9 ?_
  refine ax_iadd (pc := 12) G dX10_grows_12 ?_
  refine ax_bipush (pc := 13) (v := nI 10) G dX10_grows_13 ib_10 ?_
  refine ax_idiv (pc := 15) G dX10_grows_15 (by decide) ?_
  exact ax_iretE (pc := 16) G E rfl (rfl) dX10_grows_16 (rfl) (rfl)

theorem mt_dumpsFor {Ω : ax_O} (hA : ax_Amb Ω) {h : ax_H} {m : Nat} {μ : md_S} {s : pR} {j : Nat} (hj : j = 4 ∨ j = 6) (k : Nat) (hk : k < 30) : ax_Met Ω yX10_dumpsFor 3 0 0 [.ref m, .ref (m + j), .int (nI k)] (md_H h m (md_sa μ j s)) (.inl (some (.int (bI (pDumpsFor (μ.2 2) s k))))) (md_H h m (md_sa μ j s)) := by
  refine ax_met q2952 q142 (by decide +kernel) (by decide) hA (Nat.le_of_ble_eq_true rfl) (fun Γ G E => ?_)
  show ax_W Ω Γ 0 0 (md_H h m (md_sa μ j s)) 0 [some (.ref m), some (.ref (m + j)), some (.int (nI k))] []
  refine ax_aload_n (pc := 0) G dX10_dumpsFor_0 rfl rfl ?_
  refine ax_iconst (pc := 1) (v := nI 3) G dX10_dumpsFor_1 ic_3 ?_
  refine md_lds (pc := 2) (i := 3) G hj dX10_dumpsFor_2 rfl (by omega) ?_
  refine ax_aload_n (pc := 3) G dX10_dumpsFor_3 rfl rfl ?_
  refine ax_aload_n (pc := 4) G dX10_dumpsFor_4 rfl rfl ?_
  refine ax_iload_n (pc := 5) G dX10_dumpsFor_5 rfl rfl ?_
  refine ax_aload_n (pc := 6) G dX10_dumpsFor_6 rfl rfl ?_
  refine ax_aload_n (pc := 7) G dX10_dumpsFor_7 rfl rfl ?_
  refine ax_iload_n (pc := 8) G dX10_dumpsFor_8 rfl rfl ?_
  refine ax_cV1 (pc := 9) (kb := 0) (nb := 0) G (mt_itsDuration hA hj k (by omega)) lVX10_231_8 dX10_dumpsFor_9 md_obj rfl (by decide) (Nat.le_of_ble_eq_true rfl) rfl ?_
  refine ax_cV1 (pc := 12) (kb := 0) (nb := 0) G (mt_grows hA hj k (by omega) (pDur (μ.2 2) s k)) lVX10_234_8 dX10_dumpsFor_12 md_obj rfl (by decide) (Nat.le_of_ble_eq_true rfl) rfl ?_
  refine ax_iadd (pc := 15) G dX10_dumpsFor_15 ?_
  refine ax_aload_n (pc := 16) G dX10_dumpsFor_16 rfl rfl ?_
  refine md_get (pc := 17) (v := .ref (m + 2)) G flX10_17_8 dX10_dumpsFor_17 rfl ?_
  refine ax_iconst (pc := 20) (v := nI 3) G dX10_dumpsFor_20 ic_3 ?_
  refine md_ldp (pc := 21) (i := 3) (j2 := 2) G 235 dX10_dumpsFor_21 (by omega) (by decide) (by decide) rfl rfl rfl (by omega) (by decide) ?_
  refine ax_icmp_le (pc := 22) (tgt := 29) G dX10_dumpsFor_22 rfl (fun c22 => ?_) (fun c22 => ?_)
  · refine ax_iconst (pc := 29) (v := nI 0) G dX10_dumpsFor_29 ic_0 ?_
    exact ax_iretE (pc := 30) G E rfl (rfl) dX10_dumpsFor_30 (by rw [pDumpsFor]; first | rw [decide_eq_true (by assumption)]; rfl | rw [decide_eq_false (by assumption)]; rfl | (rw [decide_eq_true (Int32.not_le.mp (by assumption))]; rfl) | (rw [decide_eq_false (Int32.not_lt.mpr (by assumption))]; rfl) | (rw [decide_eq_true (Int32.not_lt.mp (by assumption))]; rfl) | (rw [decide_eq_false (Int32.not_le.mpr (by assumption))]; rfl)) (rfl)
  · refine ax_iconst (pc := 25) (v := nI 1) G dX10_dumpsFor_25 ic_1 ?_
    refine ax_goto (pc := 26) (tgt := 30) G dX10_dumpsFor_26 rfl ?_
    exact ax_iretE (pc := 30) G E rfl (rfl) dX10_dumpsFor_30 (by rw [pDumpsFor]; first | rw [decide_eq_true (by assumption)]; rfl | rw [decide_eq_false (by assumption)]; rfl | (rw [decide_eq_true (Int32.not_le.mp (by assumption))]; rfl) | (rw [decide_eq_false (Int32.not_lt.mpr (by assumption))]; rfl) | (rw [decide_eq_true (Int32.not_lt.mp (by assumption))]; rfl) | (rw [decide_eq_false (Int32.not_le.mpr (by assumption))]; rfl)) (rfl)

theorem mt_apart {Ω : ax_O} (hA : ax_Amb Ω) {h : ax_H} {m : Nat} {μ : md_S} (a b : Int32) : ax_Met Ω yX10_apart 2 0 0 [.int a, .int b] (md_H h m μ) (.inl (some (.int (pApart a b)))) (md_H h m μ) := by
  refine ax_met q2909 q142 (by decide +kernel) (by decide) hA (Nat.le_of_ble_eq_true rfl) (fun Γ G E => ?_)
  show ax_W Ω Γ 0 0 (md_H h m μ) 0 [some (.int a), some (.int b), none] []
  refine ax_iload_n (pc := 0) G dX10_apart_0 rfl rfl ?_
  refine ax_iload_n (pc := 1) G dX10_apart_1 rfl rfl ?_
  refine ax_isub (pc := 2) G dX10_apart_2 ?_
  refine ax_abs (pc := 3) G q2910 q1679 q132 q1680 (by decide) (Nat.le_of_ble_eq_true rfl) dX10_apart_3 ?_
  refine ax_istore_n (pc := 6) G dX10_apart_6 rfl (Nat.le_of_ble_eq_true rfl) rfl ?_
  refine ax_iload_n (pc := 7) G dX10_apart_7 rfl rfl ?_
  refine ax_sipush (pc := 8) (v := nI 360) G dX10_apart_8 is_360 ?_
  refine ax_iload_n (pc := 11) G dX10_apart_11 rfl rfl ?_
  refine ax_isub (pc := 12) G dX10_apart_12 ?_
  refine ax_min (pc := 13) G q2911 q340 q132 q341 (by decide) (Nat.le_of_ble_eq_true rfl) dX10_apart_13 ?_
  exact ax_iretE (pc := 16) G E rfl (rfl) dX10_apart_16 (rfl) (rfl)

theorem mt_angle {Ω : ax_O} (hA : ax_Amb Ω) {h : ax_H} {m : Nat} {μ : md_S} {s : pR} {j : Nat} (hj : j = 4 ∨ j = 6) (lon lat : Int32) : ax_Met Ω yX10_angle 3 0 0 [.ref (m + j), .int lon, .int lat] (md_H h m (md_sa μ j s)) (.inl (some (.int (pAngle s lon lat)))) (md_H h m (md_sa μ j s)) := by
  refine ax_met q2906 q142 (by decide +kernel) (by decide) hA (Nat.le_of_ble_eq_true rfl) (fun Γ G E => ?_)
  show ax_W Ω Γ 0 0 (md_H h m (md_sa μ j s)) 0 [some (.ref (m + j)), some (.int lon), some (.int lat)] []
  refine ax_aload_n (pc := 0) G dX10_angle_0 rfl rfl ?_
  refine ax_iconst (pc := 1) (v := nI 1) G dX10_angle_1 ic_1 ?_
  refine md_lds (pc := 2) (i := 1) G hj dX10_angle_2 rfl (by omega) ?_
  refine ax_iload_n (pc := 3) G dX10_angle_3 rfl rfl ?_
  refine ax_cS1 (pc := 4) (kb := 0) (nb := 0) G (mt_apart hA (s 1) lon) lSX10_212 dX10_angle_4 rfl (by decide) (Nat.le_of_ble_eq_true rfl) rfl ?_
  refine ax_aload_n (pc := 7) G dX10_angle_7 rfl rfl ?_
  refine ax_iconst (pc := 8) (v := nI 2) G dX10_angle_8 ic_2 ?_
  refine md_lds (pc := 9) (i := 2) G hj dX10_angle_9 rfl (by omega) ?_
  refine ax_iload_n (pc := 10) G dX10_angle_10 rfl rfl ?_
  refine ax_isub (pc := 11) G dX10_angle_11 ?_
  refine ax_abs (pc := 12) G q2910 q1679 q132 q1680 (by decide) (Nat.le_of_ble_eq_true rfl) dX10_angle_12 ?_
  refine ax_max (pc := 15) G q2912 q322 q132 q323 (by decide) (Nat.le_of_ble_eq_true rfl) dX10_angle_15 ?_
  exact ax_iretE (pc := 18) G E rfl (rfl) dX10_angle_18 (rfl) (rfl)

theorem mt_minutes {Ω : ax_O} (hA : ax_Amb Ω) {h : ax_H} {m : Nat} {μ : md_S} {s : pR} {j : Nat} (hj : j = 4 ∨ j = 6) (lon lat : Int32) (hz : ¬ μ.2 2 2 = 0) : ax_Met Ω yX10_minutes 4 0 0 [.ref m, .ref (m + j), .int lon, .int lat] (md_H h m (md_sa μ j s)) (.inl (some (.int (pMinutes (μ.2 2) s lon lat)))) (md_H h m (md_sa μ j s)) := by
  refine ax_met q2920 q142 (by decide +kernel) (by decide) hA (Nat.le_of_ble_eq_true rfl) (fun Γ G E => ?_)
  show ax_W Ω Γ 0 0 (md_H h m (md_sa μ j s)) 0 [some (.ref m), some (.ref (m + j)), some (.int lon), some (.int lat), none] []
  refine ax_aload_n (pc := 0) G dX10_minutes_0 rfl rfl ?_
  refine ax_iload_n (pc := 1) G dX10_minutes_1 rfl rfl ?_
  refine ax_iload_n (pc := 2) G dX10_minutes_2 rfl rfl ?_
  refine ax_cS1 (pc := 3) (kb := 0) (nb := 0) G (mt_angle hA hj lon lat) lSX10_208 dX10_minutes_3 rfl (by decide) (Nat.le_of_ble_eq_true rfl) rfl ?_
  refine ax_istore (pc := 6) G dX10_minutes_6 (Nat.le_of_ble_eq_true rfl) rfl ?_
  refine ax_iload (pc := 8) G dX10_minutes_8 rfl ?_
  refine ax_if_ne (pc := 10) (tgt := 17) G dX10_minutes_10 rfl (fun c10 => ?_) (fun c10 => ?_)
  · refine ax_aload_n (pc := 17) G dX10_minutes_17 rfl rfl ?_
    refine md_get (pc := 18) (v := .ref (m + 2)) G flX10_17_8 dX10_minutes_18 rfl ?_
    refine ax_iconst (pc := 21) (v := nI 1) G dX10_minutes_21 ic_1 ?_
    refine md_ldp (pc := 22) (i := 1) (j2 := 2) G 235 dX10_minutes_22 (by omega) (by decide) (by decide) rfl rfl rfl (by omega) (by decide) ?_
    refine ax_iload (pc := 23) G dX10_minutes_23 rfl ?_
    refine ax_aload_n (pc := 25) G dX10_minutes_25 rfl rfl ?_
    refine md_get (pc := 26) (v := .ref (m + 2)) G flX10_17_8 dX10_minutes_26 rfl ?_
    refine ax_iconst (pc := 29) (v := nI 2) G dX10_minutes_29 ic_2 ?_
    refine md_ldp (pc := 30) (i := 2) (j2 := 2) G 235 dX10_minutes_30 (by omega) (by decide) (by decide) rfl rfl rfl (by omega) (by decide) ?_
    refine ax_iadd (pc := 31) G dX10_minutes_31 ?_
    refine ax_iconst (pc := 32) (v := nI 1) G dX10_minutes_32 ic_1 ?_
    refine ax_isub (pc := 33) G dX10_minutes_33 ?_
    refine ax_aload_n (pc := 34) G dX10_minutes_34 rfl rfl ?_
    refine md_get (pc := 35) (v := .ref (m + 2)) G flX10_17_8 dX10_minutes_35 rfl ?_
    refine ax_iconst (pc := 38) (v := nI 2) G dX10_minutes_38 ic_2 ?_
    refine md_ldp (pc := 39) (i := 2) (j2 := 2) G 235 dX10_minutes_39 (by omega) (by decide) (by decide) rfl rfl rfl (by omega) (by decide) ?_
    refine ax_idiv (pc := 40) G dX10_minutes_40 (hz) ?_
    refine ax_iadd (pc := 41) G dX10_minutes_41 ?_
    exact ax_iretE (pc := 42) G E rfl (rfl) dX10_minutes_42 (by rw [pMinutes]; first | rw [if_pos (by assumption)]; rfl | rw [if_neg (by assumption)]; rfl) (rfl)
  · refine ax_iconst (pc := 13) (v := nI 0) G dX10_minutes_13 ic_0 ?_
    refine ax_goto (pc := 14) (tgt := 42) G dX10_minutes_14 rfl ?_
    exact ax_iretE (pc := 42) G E rfl (rfl) dX10_minutes_42 (by rw [pMinutes]; first | rw [if_pos (by assumption)]; rfl | rw [if_neg (by assumption)]; rfl) (rfl)

theorem mt_sunAt {Ω : ax_O} (hA : ax_Amb Ω) {h : ax_H} {m : Nat} {μ : md_S} (t : Int32) (hz8 : ¬ μ.2 2 8 = 0) : ax_Met Ω yX10_sunAt 1 0 0 [.ref m, .int t] (md_H h m μ) (.inl (some (.int (pSunAt (μ.2 2) t)))) (md_H h m μ) := by
  refine ax_met q2892 q142 (by decide +kernel) (by decide) hA (Nat.le_of_ble_eq_true rfl) (fun Γ G E => ?_)
  show ax_W Ω Γ 0 0 (md_H h m μ) 0 [some (.ref m), some (.int t)] []
  refine ax_aload_n (pc := 0) G dX10_sunAt_0 rfl rfl ?_
  refine md_get (pc := 1) (v := .ref (m + 2)) G flX10_17_8 dX10_sunAt_1 rfl ?_
  refine ax_bipush (pc := 4) (v := nI 7) G dX10_sunAt_4 ib_7 ?_
  refine md_ld (pc := 6) (i := 7) (j := 2) G 235 dX10_sunAt_6 (by decide) (by decide) rfl rfl rfl (by omega) (by decide) ?_
  refine ax_i2l (pc := 7) G dX10_sunAt_7 rfl ?_
  refine ax_iload_n (pc := 8) G dX10_sunAt_8 rfl rfl ?_
  refine ax_aload_n (pc := 9) G dX10_sunAt_9 rfl rfl ?_
  refine md_get (pc := 10) (v := .ref (m + 2)) G flX10_17_8 dX10_sunAt_10 rfl ?_
  refine ax_bipush (pc := 13) (v := nI 8) G dX10_sunAt_13 ib_8 ?_
  refine md_ld (pc := 15) (i := 8) (j := 2) G 235 dX10_sunAt_15 (by decide) (by decide) rfl rfl rfl (by omega) (by decide) ?_
  refine ax_idiv (pc := 16) G dX10_sunAt_16 (hz8) ?_
  refine ax_i2l (pc := 17) G dX10_sunAt_17 rfl ?_
  refine ax_ladd (pc := 18) G dX10_sunAt_18 ?_
  refine ax_ldc2 (pc := 19) G q2893 dX10_sunAt_19 ?_
  refine ax_lrem (pc := 22) G dX10_sunAt_22 (by decide) ?_
  refine ax_l2i (pc := 23) G dX10_sunAt_23 rfl ?_
  exact ax_iretE (pc := 24) G E rfl (rfl) dX10_sunAt_24 (rfl) (rfl)

theorem mt_sunAt' {Ω : ax_O} (hA : ax_Amb Ω) {h : ax_H} {m : Nat} {μ : md_S} {s : pR} {j : Nat} (hj : j = 4 ∨ j = 6) (t : Int32) (hz8 : ¬ μ.2 2 8 = 0) : ax_Met Ω yX10_sunAt 1 0 0 [.ref m, .int t] (md_H h m (md_sa μ j s)) (.inl (some (.int (pSunAt (μ.2 2) t)))) (md_H h m (md_sa μ j s)) := by
  have e : (md_sa μ j s).2 2 = μ.2 2 := va_up_ne _ _ (by omega)
  have M := mt_sunAt hA (h := h) (m := m) (μ := md_sa μ j s) t (by rw [e]; exact hz8)
  rw [e] at M
  exact M
theorem mt_isSeen {Ω : ax_O} (hA : ax_Amb Ω) {h : ax_H} {m : Nat} {μ : md_S} (lon t : Int32) (hz8 : ¬ μ.2 2 8 = 0) : ax_Met Ω yX10_isSeen 3 0 0 [.ref m, .int lon, .int t] (md_H h m μ) (.inl (some (.int (bI (pSeen (μ.2 2) lon t))))) (md_H h m μ) := by
  refine ax_met q2928 q142 (by decide +kernel) (by decide) hA (Nat.le_of_ble_eq_true rfl) (fun Γ G E => ?_)
  show ax_W Ω Γ 0 0 (md_H h m μ) 0 [some (.ref m), some (.int lon), some (.int t)] []
  refine ax_iload_n (pc := 0) G dX10_isSeen_0 rfl rfl ?_
  refine ax_aload_n (pc := 1) G dX10_isSeen_1 rfl rfl ?_
  refine ax_iload_n (pc := 2) G dX10_isSeen_2 rfl rfl ?_
  refine ax_cV1 (pc := 3) (kb := 0) (nb := 0) G (mt_sunAt hA t hz8) lVX10_220_8 dX10_isSeen_3 md_obj rfl (by decide) (Nat.le_of_ble_eq_true rfl) rfl ?_
  refine ax_cS1 (pc := 6) (kb := 0) (nb := 0) G (mt_apart hA lon (pSunAt (μ.2 2) t)) lSX10_212 dX10_isSeen_6 rfl (by decide) (Nat.le_of_ble_eq_true rfl) rfl ?_
  refine ax_aload_n (pc := 9) G dX10_isSeen_9 rfl rfl ?_
  refine md_get (pc := 10) (v := .ref (m + 2)) G flX10_17_8 dX10_isSeen_10 rfl ?_
  refine ax_bipush (pc := 13) (v := nI 9) G dX10_isSeen_13 ib_9 ?_
  refine md_ld (pc := 15) (i := 9) (j := 2) G 235 dX10_isSeen_15 (by decide) (by decide) rfl rfl rfl (by omega) (by decide) ?_
  refine ax_icmp_lt (pc := 16) (tgt := 23) G dX10_isSeen_16 rfl (fun c16 => ?_) (fun c16 => ?_)
  · refine ax_iconst (pc := 23) (v := nI 0) G dX10_isSeen_23 ic_0 ?_
    exact ax_iretE (pc := 24) G E rfl (rfl) dX10_isSeen_24 (by rw [pSeen]; first | rw [decide_eq_true (by assumption)]; rfl | rw [decide_eq_false (by assumption)]; rfl | (rw [decide_eq_true (Int32.not_le.mp (by assumption))]; rfl) | (rw [decide_eq_false (Int32.not_lt.mpr (by assumption))]; rfl) | (rw [decide_eq_true (Int32.not_lt.mp (by assumption))]; rfl) | (rw [decide_eq_false (Int32.not_le.mpr (by assumption))]; rfl)) (rfl)
  · refine ax_iconst (pc := 19) (v := nI 1) G dX10_isSeen_19 ic_1 ?_
    refine ax_goto (pc := 20) (tgt := 24) G dX10_isSeen_20 rfl ?_
    exact ax_iretE (pc := 24) G E rfl (rfl) dX10_isSeen_24 (by rw [pSeen]; first | rw [decide_eq_true (by assumption)]; rfl | rw [decide_eq_false (by assumption)]; rfl | (rw [decide_eq_true (Int32.not_le.mp (by assumption))]; rfl) | (rw [decide_eq_false (Int32.not_lt.mpr (by assumption))]; rfl) | (rw [decide_eq_true (Int32.not_lt.mp (by assumption))]; rfl) | (rw [decide_eq_false (Int32.not_le.mpr (by assumption))]; rfl)) (rfl)

theorem mt_isSeen' {Ω : ax_O} (hA : ax_Amb Ω) {h : ax_H} {m : Nat} {μ : md_S} {s : pR} {j : Nat} (hj : j = 4 ∨ j = 6) (lon t : Int32) (hz8 : ¬ μ.2 2 8 = 0) : ax_Met Ω yX10_isSeen 3 0 0 [.ref m, .int lon, .int t] (md_H h m (md_sa μ j s)) (.inl (some (.int (bI (pSeen (μ.2 2) lon t))))) (md_H h m (md_sa μ j s)) := by
  have e : (md_sa μ j s).2 2 = μ.2 2 := va_up_ne _ _ (by omega)
  have M := mt_isSeen hA (h := h) (m := m) (μ := md_sa μ j s) lon t (by rw [e]; exact hz8)
  rw [e] at M
  exact M
