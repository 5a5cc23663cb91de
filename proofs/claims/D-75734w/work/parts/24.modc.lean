/-! THE MODEL: what a step alters -/
theorem mt_adds {Ω : ax_O} (hA : ax_Amb Ω) {h : ax_H} {m : Nat} {μ : md_S} {s : pR} {j : Nat} (hm : Ω.2.1.heap.size ≤ m) (hj : j = 4 ∨ j = 6) (t : Nat) (ht : t < 8) (v : Int32) : ax_Met Ω yX10_adds 1 0 0 [.ref (m + j), .int (nI t), .int v] (md_H h m (md_sa μ j s)) (.inl none) (md_H h m (md_sa μ j (pAdds s t v))) := by
  refine ax_met q3037 q142 (by decide +kernel) (by decide) hA (Nat.le_of_ble_eq_true rfl) (fun Γ G E => ?_)
  show ax_W Ω Γ 0 0 (md_H h m (md_sa μ j s)) 0 [some (.ref (m + j)), some (.int (nI t)), some (.int v)] []
  refine ax_aload_n (pc := 0) G dX10_adds_0 rfl rfl ?_
  refine ax_bipush (pc := 1) (v := nI 6) G dX10_adds_1 ib_6 ?_
  refine ax_iload_n (pc := 3) G dX10_adds_3 rfl rfl ?_
  refine ax_iaddN (pc := 4) G dX10_adds_4 ?_
  refine ax_dup2_11 (pc := 5) G dX10_adds_5 rfl rfl ?_
  refine md_lds (pc := 6) (i := 6 + t) G hj dX10_adds_6 rfl (by omega) ?_
  refine ax_iload_n (pc := 7) G dX10_adds_7 rfl rfl ?_
  refine ax_iadd (pc := 8) G dX10_adds_8 ?_
  refine md_sts (pc := 9) (i := 6 + t) G hj hm dX10_adds_9 rfl (by omega) ?_
  show ax_W Ω Γ _ _ (md_H h m (md_sa μ j (pAdd s (6 + t) v))) _ _ _
  exact ax_vretE (pc := 10) G E rfl dX10_adds_10 (rfl)

theorem mt_dumps {Ω : ax_O} (hA : ax_Amb Ω) {h : ax_H} {m : Nat} {μ : md_S} {s : pR} {j : Nat} (hm : Ω.2.1.heap.size ≤ m) (hj : j = 4 ∨ j = 6)  : ax_Met Ω yX10_dumps 2 0 0 [.ref m, .ref (m + j)] (md_H h m (md_sa μ j s)) (.inl none) (md_H h m (md_sa μ j (pDumps (μ.2 2) s))) := by
  refine ax_met q3034 q142 (by decide +kernel) (by decide) hA (Nat.le_of_ble_eq_true rfl) (fun Γ G E => ?_)
  show ax_W Ω Γ 0 0 (md_H h m (md_sa μ j s)) 0 [some (.ref m), some (.ref (m + j))] []
  refine ax_aload_n (pc := 0) G dX10_dumps_0 rfl rfl ?_
  refine ax_iconst (pc := 1) (v := nI 3) G dX10_dumps_1 ic_3 ?_
  refine ax_iconst (pc := 2) (v := nI 0) G dX10_dumps_2 ic_0 ?_
  refine md_sts (pc := 3) (i := 3) G hj hm dX10_dumps_3 rfl (by omega) ?_
  refine ax_aload_n (pc := 4) G dX10_dumps_4 rfl rfl ?_
  refine ax_iconst (pc := 5) (v := nI 0) G dX10_dumps_5 ic_0 ?_
  refine ax_dup2_11 (pc := 6) G dX10_dumps_6 rfl rfl ?_
  refine md_lds (pc := 7) (i := 0) G hj dX10_dumps_7 rfl (by omega) ?_
  refine ax_aload_n (pc := 8) G dX10_dumps_8 rfl rfl ?_
  refine md_get (pc := 9) (v := .ref (m + 2)) G flX10_17_8 dX10_dumps_9 rfl ?_
  refine ax_iconst (pc := 12) (v := nI 4) G dX10_dumps_12 ic_4 ?_
  refine md_ldp (pc := 13) (i := 4) (j2 := 2) G 235 dX10_dumps_13 (by omega) (by decide) (by decide) rfl rfl rfl (by omega) (by decide) ?_
  refine ax_iadd (pc := 14) G dX10_dumps_14 ?_
  refine md_sts (pc := 15) (i := 0) G hj hm dX10_dumps_15 rfl (by omega) ?_
  show ax_W Ω Γ _ _ (md_H h m (md_sa μ j (pAdd (upd s 3 (nI 0)) 0 ((μ.2 2) 4)))) _ _ _
  refine ax_aload_n (pc := 16) G dX10_dumps_16 rfl rfl ?_
  refine ax_iconst (pc := 17) (v := nI 3) G dX10_dumps_17 ic_3 ?_
  refine ax_aload_n (pc := 18) G dX10_dumps_18 rfl rfl ?_
  refine md_get (pc := 19) (v := .ref (m + 2)) G flX10_17_8 dX10_dumps_19 rfl ?_
  refine ax_iconst (pc := 22) (v := nI 4) G dX10_dumps_22 ic_4 ?_
  refine md_ldp (pc := 23) (i := 4) (j2 := 2) G 235 dX10_dumps_23 (by omega) (by decide) (by decide) rfl rfl rfl (by omega) (by decide) ?_
  refine ax_cS0 (pc := 24) (kb := 0) (nb := 0) G (mt_adds hA (μ := μ) hm hj 3 (by omega) ((μ.2 2) 4)) lSX10_282 dX10_dumps_24 rfl (by decide) (Nat.le_of_ble_eq_true rfl) rfl ?_
  show ax_W Ω Γ _ _ (md_H h m (md_sa μ j (pAdds (pAdd (upd s 3 (nI 0)) 0 ((μ.2 2) 4)) 3 ((μ.2 2) 4)))) _ _ _
  refine ax_aload_n (pc := 27) G dX10_dumps_27 rfl rfl ?_
  refine ax_bipush (pc := 28) (v := nI 6) G dX10_dumps_28 ib_6 ?_
  refine ax_iconst (pc := 30) (v := nI 1) G dX10_dumps_30 ic_1 ?_
  refine ax_cS0 (pc := 31) (kb := 0) (nb := 0) G (mt_adds hA (μ := μ) hm hj 6 (by omega) (nI 1)) lSX10_282 dX10_dumps_31 rfl (by decide) (Nat.le_of_ble_eq_true rfl) rfl ?_
  show ax_W Ω Γ _ _ (md_H h m (md_sa μ j (pAdds (pAdds (pAdd (upd s 3 (nI 0)) 0 ((μ.2 2) 4)) 3 ((μ.2 2) 4)) 6 (nI 1)))) _ _ _
  exact ax_vretE (pc := 34) G E rfl dX10_dumps_34 (rfl)

theorem mt_calibrates {Ω : ax_O} (hA : ax_Amb Ω) {h : ax_H} {m : Nat} {μ : md_S} {s : pR} {j : Nat} (hm : Ω.2.1.heap.size ≤ m) (hj : j = 4 ∨ j = 6)  : ax_Met Ω yX10_calibrates 2 0 0 [.ref m, .ref (m + j)] (md_H h m (md_sa μ j s)) (.inl none) (md_H h m (md_sa μ j (pCalibrates (μ.2 2) s))) := by
  refine ax_met q3056 q142 (by decide +kernel) (by decide) hA (Nat.le_of_ble_eq_true rfl) (fun Γ G E => ?_)
  show ax_W Ω Γ 0 0 (md_H h m (md_sa μ j s)) 0 [some (.ref m), some (.ref (m + j))] []
  refine ax_aload_n (pc := 0) G dX10_calibrates_0 rfl rfl ?_
  refine ax_iconst (pc := 1) (v := nI 0) G dX10_calibrates_1 ic_0 ?_
  refine ax_dup2_11 (pc := 2) G dX10_calibrates_2 rfl rfl ?_
  refine md_lds (pc := 3) (i := 0) G hj dX10_calibrates_3 rfl (by omega) ?_
  refine ax_aload_n (pc := 4) G dX10_calibrates_4 rfl rfl ?_
  refine md_get (pc := 5) (v := .ref (m + 2)) G flX10_17_8 dX10_calibrates_5 rfl ?_
  refine ax_bipush (pc := 8) (v := nI 6) G dX10_calibrates_8 ib_6 ?_
  refine md_ldp (pc := 10) (i := 6) (j2 := 2) G 235 dX10_calibrates_10 (by omega) (by decide) (by decide) rfl rfl rfl (by omega) (by decide) ?_
  refine ax_iadd (pc := 11) G dX10_calibrates_11 ?_
  refine md_sts (pc := 12) (i := 0) G hj hm dX10_calibrates_12 rfl (by omega) ?_
  show ax_W Ω Γ _ _ (md_H h m (md_sa μ j (pAdd s 0 ((μ.2 2) 6)))) _ _ _
  refine ax_aload_n (pc := 13) G dX10_calibrates_13 rfl rfl ?_
  refine ax_iconst (pc := 14) (v := nI 4) G dX10_calibrates_14 ic_4 ?_
  refine ax_aload_n (pc := 15) G dX10_calibrates_15 rfl rfl ?_
  refine ax_iconst (pc := 16) (v := nI 0) G dX10_calibrates_16 ic_0 ?_
  refine md_lds (pc := 17) (i := 0) G hj dX10_calibrates_17 rfl (by omega) ?_
  refine md_sts (pc := 18) (i := 4) G hj hm dX10_calibrates_18 rfl (by omega) ?_
  refine ax_aload_n (pc := 19) G dX10_calibrates_19 rfl rfl ?_
  refine ax_iconst (pc := 20) (v := nI 4) G dX10_calibrates_20 ic_4 ?_
  refine ax_aload_n (pc := 21) G dX10_calibrates_21 rfl rfl ?_
  refine md_get (pc := 22) (v := .ref (m + 2)) G flX10_17_8 dX10_calibrates_22 rfl ?_
  refine ax_bipush (pc := 25) (v := nI 6) G dX10_calibrates_25 ib_6 ?_
  refine md_ldp (pc := 27) (i := 6) (j2 := 2) G 235 dX10_calibrates_27 (by omega) (by decide) (by decide) rfl rfl rfl (by omega) (by decide) ?_
  refine ax_cS0 (pc := 28) (kb := 0) (nb := 0) G (mt_adds hA (μ := μ) hm hj 4 (by omega) ((μ.2 2) 6)) lSX10_282 dX10_calibrates_28 rfl (by decide) (Nat.le_of_ble_eq_true rfl) rfl ?_
  show ax_W Ω Γ _ _ (md_H h m (md_sa μ j (pAdds (upd (pAdd s 0 ((μ.2 2) 6)) 4 ((pAdd s 0 ((μ.2 2) 6)) 0)) 4 ((μ.2 2) 6)))) _ _ _
  refine ax_aload_n (pc := 31) G dX10_calibrates_31 rfl rfl ?_
  refine ax_bipush (pc := 32) (v := nI 7) G dX10_calibrates_32 ib_7 ?_
  refine ax_iconst (pc := 34) (v := nI 1) G dX10_calibrates_34 ic_1 ?_
  refine ax_cS0 (pc := 35) (kb := 0) (nb := 0) G (mt_adds hA (μ := μ) hm hj 7 (by omega) (nI 1)) lSX10_282 dX10_calibrates_35 rfl (by decide) (Nat.le_of_ble_eq_true rfl) rfl ?_
  show ax_W Ω Γ _ _ (md_H h m (md_sa μ j (pAdds (pAdds (upd (pAdd s 0 ((μ.2 2) 6)) 4 ((pAdd s 0 ((μ.2 2) 6)) 0)) 4 ((μ.2 2) 6)) 7 (nI 1)))) _ _ _
  exact ax_vretE (pc := 38) G E rfl dX10_calibrates_38 (rfl)

theorem mt_comesTo {Ω : ax_O} (hA : ax_Amb Ω) {h : ax_H} {m : Nat} {μ : md_S} {s : pR} {j : Nat} (hm : Ω.2.1.heap.size ≤ m) (hj : j = 4 ∨ j = 6) {P V O : Nat} (hp : pWP (μ.2 2) P V O) {A : Nat} (hs : pWS s A) (k : Nat) (hk : k < 30) : ax_Met Ω yX10_comesTo 5 0 0 [.ref m, .ref (m + j), .int (nI k)] (md_H h m (md_sa μ j s)) (.inl none) (md_H h m (md_sa μ j (pComes (μ.2 2) s k))) := by
  refine ax_met q3030 q142 (by decide +kernel) (by decide) hA (Nat.le_of_ble_eq_true rfl) (fun Γ G E => ?_)
  show ax_W Ω Γ 0 0 (md_H h m (md_sa μ j s)) 0 [some (.ref m), some (.ref (m + j)), some (.int (nI k)), none] []
  refine ax_aload_n (pc := 0) G dX10_comesTo_0 rfl rfl ?_
  refine ax_aload_n (pc := 1) G dX10_comesTo_1 rfl rfl ?_
  refine ax_iload_n (pc := 2) G dX10_comesTo_2 rfl rfl ?_
  refine ax_cV1 (pc := 3) (kb := 0) (nb := 0) G (mt_dumpsFor hA hj k (by omega)) lVX10_237_8 dX10_comesTo_3 md_obj rfl (by decide) (Nat.le_of_ble_eq_true rfl) rfl ?_
  refine ax_if_eq (pc := 6) (tgt := 14) G dX10_comesTo_6 rfl (fun c6 => ?_) (fun c6 => ?_)
  · have c6b := bI_f c6
    refine ax_aload_n (pc := 14) G dX10_comesTo_14 rfl rfl ?_
    refine ax_aload_n (pc := 15) G dX10_comesTo_15 rfl rfl ?_
    refine ax_aload_n (pc := 16) G dX10_comesTo_16 rfl rfl ?_
    refine ax_aload_n (pc := 17) G dX10_comesTo_17 rfl rfl ?_
    refine ax_iload_n (pc := 18) G dX10_comesTo_18 rfl rfl ?_
    refine ax_cV1 (pc := 19) (kb := 0) (nb := 0) G (mt_itsLon hA hj k (by omega)) lVX10_241_8 dX10_comesTo_19 md_obj rfl (by decide) (Nat.le_of_ble_eq_true rfl) rfl ?_
    refine ax_aload_n (pc := 22) G dX10_comesTo_22 rfl rfl ?_
    refine ax_aload_n (pc := 23) G dX10_comesTo_23 rfl rfl ?_
    refine ax_iload_n (pc := 24) G dX10_comesTo_24 rfl rfl ?_
    refine ax_cV1 (pc := 25) (kb := 0) (nb := 0) G (mt_itsLat hA hj k (by omega)) lVX10_244_8 dX10_comesTo_25 md_obj rfl (by decide) (Nat.le_of_ble_eq_true rfl) rfl ?_
    refine ax_cV1 (pc := 28) (kb := 0) (nb := 0) G (mt_minutes hA hj (pLon (μ.2 2) s k) (pLat (μ.2 2) s k) hp.z2) lVX10_247_8 dX10_comesTo_28 md_obj rfl (by decide) (Nat.le_of_ble_eq_true rfl) rfl ?_
    refine ax_istore_n (pc := 31) G dX10_comesTo_31 rfl (Nat.le_of_ble_eq_true rfl) rfl ?_
    refine ax_aload_n (pc := 32) G dX10_comesTo_32 rfl rfl ?_
    refine ax_iconst (pc := 33) (v := nI 0) G dX10_comesTo_33 ic_0 ?_
    refine ax_dup2_11 (pc := 34) G dX10_comesTo_34 rfl rfl ?_
    refine md_lds (pc := 35) (i := 0) G hj dX10_comesTo_35 rfl (by omega) ?_
    refine ax_iload_n (pc := 36) G dX10_comesTo_36 rfl rfl ?_
    refine ax_iadd (pc := 37) G dX10_comesTo_37 ?_
    refine md_sts (pc := 38) (i := 0) G hj hm dX10_comesTo_38 rfl (by omega) ?_
    show ax_W Ω Γ _ _ (md_H h m (md_sa μ j (pAdd s 0 (pMinutes (μ.2 2) s (pLon (μ.2 2) s k) (pLat (μ.2 2) s k))))) _ _ _
    refine ax_aload_n (pc := 39) G dX10_comesTo_39 rfl rfl ?_
    refine ax_bipush (pc := 40) (v := nI 41) G dX10_comesTo_40 ib_41 ?_
    refine ax_aload_n (pc := 42) G dX10_comesTo_42 rfl rfl ?_
    refine ax_aload_n (pc := 43) G dX10_comesTo_43 rfl rfl ?_
    refine ax_iload_n (pc := 44) G dX10_comesTo_44 rfl rfl ?_
    refine ax_cV1 (pc := 45) (kb := 0) (nb := 0) G (mt_itsProposal hA hj k (by omega)) lVX10_256_8 dX10_comesTo_45 md_obj rfl (by decide) (Nat.le_of_ble_eq_true rfl) rfl ?_
    have := pQ_l (pl := μ.2 2) (s := (pAdd s 0 (pMinutes (μ.2 2) s (pLon (μ.2 2) s k) (pLat (μ.2 2) s k)))) (k := k) hp ((hs).add _ (by omega) (by omega) (fun _ _ => by omega)) (by omega)
    refine ax_top (show Value.int (pProp (μ.2 2) (pAdd s 0 (pMinutes (μ.2 2) s (pLon (μ.2 2) s k) (pLat (μ.2 2) s k))) k) = .int (nI (pQ (μ.2 2) (pAdd s 0 (pMinutes (μ.2 2) s (pLon (μ.2 2) s k) (pLat (μ.2 2) s k))) k)) from congrArg Value.int (pQ_e (s := (pAdd s 0 (pMinutes (μ.2 2) s (pLon (μ.2 2) s k) (pLat (μ.2 2) s k)))) hp ((hs).add _ (by omega) (by omega) (fun _ _ => by omega)) (by omega))) ?_
    refine ax_iaddN (pc := 48) G dX10_comesTo_48 ?_
    refine ax_dup2_11 (pc := 49) G dX10_comesTo_49 rfl rfl ?_
    refine md_lds (pc := 50) (i := 41 + (pQ (μ.2 2) (pAdd s 0 (pMinutes (μ.2 2) s (pLon (μ.2 2) s k) (pLat (μ.2 2) s k))) k)) G hj dX10_comesTo_50 rfl (by omega) ?_
    refine ax_iload_n (pc := 51) G dX10_comesTo_51 rfl rfl ?_
    refine ax_iadd (pc := 52) G dX10_comesTo_52 ?_
    refine md_sts (pc := 53) (i := 41 + (pQ (μ.2 2) (pAdd s 0 (pMinutes (μ.2 2) s (pLon (μ.2 2) s k) (pLat (μ.2 2) s k))) k)) G hj hm dX10_comesTo_53 rfl (by omega) ?_
    show ax_W Ω Γ _ _ (md_H h m (md_sa μ j (pAdd (pAdd s 0 (pMinutes (μ.2 2) s (pLon (μ.2 2) s k) (pLat (μ.2 2) s k))) (41 + (pQ (μ.2 2) (pAdd s 0 (pMinutes (μ.2 2) s (pLon (μ.2 2) s k) (pLat (μ.2 2) s k))) k)) (pMinutes (μ.2 2) s (pLon (μ.2 2) s k) (pLat (μ.2 2) s k))))) _ _ _
    refine ax_aload_n (pc := 54) G dX10_comesTo_54 rfl rfl ?_
    refine ax_iconst (pc := 55) (v := nI 2) G dX10_comesTo_55 ic_2 ?_
    refine ax_iload_n (pc := 56) G dX10_comesTo_56 rfl rfl ?_
    refine ax_cS0 (pc := 57) (kb := 0) (nb := 0) G (mt_adds hA (μ := μ) hm hj 2 (by omega) (pMinutes (μ.2 2) s (pLon (μ.2 2) s k) (pLat (μ.2 2) s k))) lSX10_282 dX10_comesTo_57 rfl (by decide) (Nat.le_of_ble_eq_true rfl) rfl ?_
    show ax_W Ω Γ _ _ (md_H h m (md_sa μ j (pAdds (pAdd (pAdd s 0 (pMinutes (μ.2 2) s (pLon (μ.2 2) s k) (pLat (μ.2 2) s k))) (41 + (pQ (μ.2 2) (pAdd s 0 (pMinutes (μ.2 2) s (pLon (μ.2 2) s k) (pLat (μ.2 2) s k))) k)) (pMinutes (μ.2 2) s (pLon (μ.2 2) s k) (pLat (μ.2 2) s k))) 2 (pMinutes (μ.2 2) s (pLon (μ.2 2) s k) (pLat (μ.2 2) s k))))) _ _ _
    refine ax_aload_n (pc := 60) G dX10_comesTo_60 rfl rfl ?_
    refine ax_iconst (pc := 61) (v := nI 1) G dX10_comesTo_61 ic_1 ?_
    refine ax_aload_n (pc := 62) G dX10_comesTo_62 rfl rfl ?_
    refine ax_aload_n (pc := 63) G dX10_comesTo_63 rfl rfl ?_
    refine ax_iload_n (pc := 64) G dX10_comesTo_64 rfl rfl ?_
    refine ax_cV1 (pc := 65) (kb := 0) (nb := 0) G (mt_itsLon hA hj k (by omega)) lVX10_241_8 dX10_comesTo_65 md_obj rfl (by decide) (Nat.le_of_ble_eq_true rfl) rfl ?_
    refine md_sts (pc := 68) (i := 1) G hj hm dX10_comesTo_68 rfl (by omega) ?_
    refine ax_aload_n (pc := 69) G dX10_comesTo_69 rfl rfl ?_
    refine ax_iconst (pc := 70) (v := nI 2) G dX10_comesTo_70 ic_2 ?_
    refine ax_aload_n (pc := 71) G dX10_comesTo_71 rfl rfl ?_
    refine ax_aload_n (pc := 72) G dX10_comesTo_72 rfl rfl ?_
    refine ax_iload_n (pc := 73) G dX10_comesTo_73 rfl rfl ?_
    refine ax_cV1 (pc := 74) (kb := 0) (nb := 0) G (mt_itsLat hA hj k (by omega)) lVX10_244_8 dX10_comesTo_74 md_obj rfl (by decide) (Nat.le_of_ble_eq_true rfl) rfl ?_
    refine md_sts (pc := 77) (i := 2) G hj hm dX10_comesTo_77 rfl (by omega) ?_
    exact ax_vretE (pc := 78) G E rfl dX10_comesTo_78 (by first | (simp only [pComes, pComesA, c6b, if_true, if_false, Bool.false_eq_true, not_false_eq_true, not_true_eq_false, decide_true, decide_false, Bool.and_true, Bool.true_and, Bool.and_false, Bool.false_and, Bool.or_true, Bool.true_or, Bool.or_false, Bool.false_or, and_self, and_true, true_and, and_false, false_and, or_true, true_or, or_false, false_or, ne_eq]; done) | (simp only [pComes, pComesA, c6b, if_true, if_false, Bool.false_eq_true, not_false_eq_true, not_true_eq_false, decide_true, decide_false, Bool.and_true, Bool.true_and, Bool.and_false, Bool.false_and, Bool.or_true, Bool.true_or, Bool.or_false, Bool.false_or, and_self, and_true, true_and, and_false, false_and, or_true, true_or, or_false, false_or, ne_eq]; rfl))
  · have c6b := bI_t c6
    refine ax_aload_n (pc := 9) G dX10_comesTo_9 rfl rfl ?_
    refine ax_aload_n (pc := 10) G dX10_comesTo_10 rfl rfl ?_
    refine ax_cV0 (pc := 11) (kb := 0) (nb := 0) G (mt_dumps hA (μ := μ) hm hj) lVX10_286_8 dX10_comesTo_11 md_obj rfl (by decide) (Nat.le_of_ble_eq_true rfl) rfl ?_
    show ax_W Ω Γ _ _ (md_H h m (md_sa μ j (pDumps (μ.2 2) s))) _ _ _
    refine ax_aload_n (pc := 14) G dX10_comesTo_14 rfl rfl ?_
    refine ax_aload_n (pc := 15) G dX10_comesTo_15 rfl rfl ?_
    refine ax_aload_n (pc := 16) G dX10_comesTo_16 rfl rfl ?_
    refine ax_aload_n (pc := 17) G dX10_comesTo_17 rfl rfl ?_
    refine ax_iload_n (pc := 18) G dX10_comesTo_18 rfl rfl ?_
    refine ax_cV1 (pc := 19) (kb := 0) (nb := 0) G (mt_itsLon hA hj k (by omega)) lVX10_241_8 dX10_comesTo_19 md_obj rfl (by decide) (Nat.le_of_ble_eq_true rfl) rfl ?_
    refine ax_aload_n (pc := 22) G dX10_comesTo_22 rfl rfl ?_
    refine ax_aload_n (pc := 23) G dX10_comesTo_23 rfl rfl ?_
    refine ax_iload_n (pc := 24) G dX10_comesTo_24 rfl rfl ?_
    refine ax_cV1 (pc := 25) (kb := 0) (nb := 0) G (mt_itsLat hA hj k (by omega)) lVX10_244_8 dX10_comesTo_25 md_obj rfl (by decide) (Nat.le_of_ble_eq_true rfl) rfl ?_
    refine ax_cV1 (pc := 28) (kb := 0) (nb := 0) G (mt_minutes hA hj (pLon (μ.2 2) (pDumps (μ.2 2) s) k) (pLat (μ.2 2) (pDumps (μ.2 2) s) k) hp.z2) lVX10_247_8 dX10_comesTo_28 md_obj rfl (by decide) (Nat.le_of_ble_eq_true rfl) rfl ?_
    refine ax_istore_n (pc := 31) G dX10_comesTo_31 rfl (Nat.le_of_ble_eq_true rfl) rfl ?_
    refine ax_aload_n (pc := 32) G dX10_comesTo_32 rfl rfl ?_
    refine ax_iconst (pc := 33) (v := nI 0) G dX10_comesTo_33 ic_0 ?_
    refine ax_dup2_11 (pc := 34) G dX10_comesTo_34 rfl rfl ?_
    refine md_lds (pc := 35) (i := 0) G hj dX10_comesTo_35 rfl (by omega) ?_
    refine ax_iload_n (pc := 36) G dX10_comesTo_36 rfl rfl ?_
    refine ax_iadd (pc := 37) G dX10_comesTo_37 ?_
    refine md_sts (pc := 38) (i := 0) G hj hm dX10_comesTo_38 rfl (by omega) ?_
    show ax_W Ω Γ _ _ (md_H h m (md_sa μ j (pAdd (pDumps (μ.2 2) s) 0 (pMinutes (μ.2 2) (pDumps (μ.2 2) s) (pLon (μ.2 2) (pDumps (μ.2 2) s) k) (pLat (μ.2 2) (pDumps (μ.2 2) s) k))))) _ _ _
    refine ax_aload_n (pc := 39) G dX10_comesTo_39 rfl rfl ?_
    refine ax_bipush (pc := 40) (v := nI 41) G dX10_comesTo_40 ib_41 ?_
    refine ax_aload_n (pc := 42) G dX10_comesTo_42 rfl rfl ?_
    refine ax_aload_n (pc := 43) G dX10_comesTo_43 rfl rfl ?_
    refine ax_iload_n (pc := 44) G dX10_comesTo_44 rfl rfl ?_
    refine ax_cV1 (pc := 45) (kb := 0) (nb := 0) G (mt_itsProposal hA hj k (by omega)) lVX10_256_8 dX10_comesTo_45 md_obj rfl (by decide) (Nat.le_of_ble_eq_true rfl) rfl ?_
    have := pQ_l (pl := μ.2 2) (s := (pAdd (pDumps (μ.2 2) s) 0 (pMinutes (μ.2 2) (pDumps (μ.2 2) s) (pLon (μ.2 2) (pDumps (μ.2 2) s) k) (pLat (μ.2 2) (pDumps (μ.2 2) s) k)))) (k := k) hp (((hs).dumps).add _ (by omega) (by omega) (fun _ _ => by omega)) (by omega)
    refine ax_top (show Value.int (pProp (μ.2 2) (pAdd (pDumps (μ.2 2) s) 0 (pMinutes (μ.2 2) (pDumps (μ.2 2) s) (pLon (μ.2 2) (pDumps (μ.2 2) s) k) (pLat (μ.2 2) (pDumps (μ.2 2) s) k))) k) = .int (nI (pQ (μ.2 2) (pAdd (pDumps (μ.2 2) s) 0 (pMinutes (μ.2 2) (pDumps (μ.2 2) s) (pLon (μ.2 2) (pDumps (μ.2 2) s) k) (pLat (μ.2 2) (pDumps (μ.2 2) s) k))) k)) from congrArg Value.int (pQ_e (s := (pAdd (pDumps (μ.2 2) s) 0 (pMinutes (μ.2 2) (pDumps (μ.2 2) s) (pLon (μ.2 2) (pDumps (μ.2 2) s) k) (pLat (μ.2 2) (pDumps (μ.2 2) s) k)))) hp (((hs).dumps).add _ (by omega) (by omega) (fun _ _ => by omega)) (by omega))) ?_
    refine ax_iaddN (pc := 48) G dX10_comesTo_48 ?_
    refine ax_dup2_11 (pc := 49) G dX10_comesTo_49 rfl rfl ?_
    refine md_lds (pc := 50) (i := 41 + (pQ (μ.2 2) (pAdd (pDumps (μ.2 2) s) 0 (pMinutes (μ.2 2) (pDumps (μ.2 2) s) (pLon (μ.2 2) (pDumps (μ.2 2) s) k) (pLat (μ.2 2) (pDumps (μ.2 2) s) k))) k)) G hj dX10_comesTo_50 rfl (by omega) ?_
    refine ax_iload_n (pc := 51) G dX10_comesTo_51 rfl rfl ?_
    refine ax_iadd (pc := 52) G dX10_comesTo_52 ?_
    refine md_sts (pc := 53) (i := 41 + (pQ (μ.2 2) (pAdd (pDumps (μ.2 2) s) 0 (pMinutes (μ.2 2) (pDumps (μ.2 2) s) (pLon (μ.2 2) (pDumps (μ.2 2) s) k) (pLat (μ.2 2) (pDumps (μ.2 2) s) k))) k)) G hj hm dX10_comesTo_53 rfl (by omega) ?_
    show ax_W Ω Γ _ _ (md_H h m (md_sa μ j (pAdd (pAdd (pDumps (μ.2 2) s) 0 (pMinutes (μ.2 2) (pDumps (μ.2 2) s) (pLon (μ.2 2) (pDumps (μ.2 2) s) k) (pLat (μ.2 2) (pDumps (μ.2 2) s) k))) (41 + (pQ (μ.2 2) (pAdd (pDumps (μ.2 2) s) 0 (pMinutes (μ.2 2) (pDumps (μ.2 2) s) (pLon (μ.2 2) (pDumps (μ.2 2) s) k) (pLat (μ.2 2) (pDumps (μ.2 2) s) k))) k)) (pMinutes (μ.2 2) (pDumps (μ.2 2) s) (pLon (μ.2 2) (pDumps (μ.2 2) s) k) (pLat (μ.2 2) (pDumps (μ.2 2) s) k))))) _ _ _
    refine ax_aload_n (pc := 54) G dX10_comesTo_54 rfl rfl ?_
    refine ax_iconst (pc := 55) (v := nI 2) G dX10_comesTo_55 ic_2 ?_
    refine ax_iload_n (pc := 56) G dX10_comesTo_56 rfl rfl ?_
    refine ax_cS0 (pc := 57) (kb := 0) (nb := 0) G (mt_adds hA (μ := μ) hm hj 2 (by omega) (pMinutes (μ.2 2) (pDumps (μ.2 2) s) (pLon (μ.2 2) (pDumps (μ.2 2) s) k) (pLat (μ.2 2) (pDumps (μ.2 2) s) k))) lSX10_282 dX10_comesTo_57 rfl (by decide) (Nat.le_of_ble_eq_true rfl) rfl ?_
    show ax_W Ω Γ _ _ (md_H h m (md_sa μ j (pAdds (pAdd (pAdd (pDumps (μ.2 2) s) 0 (pMinutes (μ.2 2) (pDumps (μ.2 2) s) (pLon (μ.2 2) (pDumps (μ.2 2) s) k) (pLat (μ.2 2) (pDumps (μ.2 2) s) k))) (41 + (pQ (μ.2 2) (pAdd (pDumps (μ.2 2) s) 0 (pMinutes (μ.2 2) (pDumps (μ.2 2) s) (pLon (μ.2 2) (pDumps (μ.2 2) s) k) (pLat (μ.2 2) (pDumps (μ.2 2) s) k))) k)) (pMinutes (μ.2 2) (pDumps (μ.2 2) s) (pLon (μ.2 2) (pDumps (μ.2 2) s) k) (pLat (μ.2 2) (pDumps (μ.2 2) s) k))) 2 (pMinutes (μ.2 2) (pDumps (μ.2 2) s) (pLon (μ.2 2) (pDumps (μ.2 2) s) k) (pLat (μ.2 2) (pDumps (μ.2 2) s) k))))) _ _ _
    refine ax_aload_n (pc := 60) G dX10_comesTo_60 rfl rfl ?_
    refine ax_iconst (pc := 61) (v := nI 1) G dX10_comesTo_61 ic_1 ?_
    refine ax_aload_n (pc := 62) G dX10_comesTo_62 rfl rfl ?_
    refine ax_aload_n (pc := 63) G dX10_comesTo_63 rfl rfl ?_
    refine ax_iload_n (pc := 64) G dX10_comesTo_64 rfl rfl ?_
    refine ax_cV1 (pc := 65) (kb := 0) (nb := 0) G (mt_itsLon hA hj k (by omega)) lVX10_241_8 dX10_comesTo_65 md_obj rfl (by decide) (Nat.le_of_ble_eq_true rfl) rfl ?_
    refine md_sts (pc := 68) (i := 1) G hj hm dX10_comesTo_68 rfl (by omega) ?_
    refine ax_aload_n (pc := 69) G dX10_comesTo_69 rfl rfl ?_
    refine ax_iconst (pc := 70) (v := nI 2) G dX10_comesTo_70 ic_2 ?_
    refine ax_aload_n (pc := 71) G dX10_comesTo_71 rfl rfl ?_
    refine ax_aload_n (pc := 72) G dX10_comesTo_72 rfl rfl ?_
    refine ax_iload_n (pc := 73) G dX10_comesTo_73 rfl rfl ?_
    refine ax_cV1 (pc := 74) (kb := 0) (nb := 0) G (mt_itsLat hA hj k (by omega)) lVX10_244_8 dX10_comesTo_74 md_obj rfl (by decide) (Nat.le_of_ble_eq_true rfl) rfl ?_
    refine md_sts (pc := 77) (i := 2) G hj hm dX10_comesTo_77 rfl (by omega) ?_
    exact ax_vretE (pc := 78) G E rfl dX10_comesTo_78 (by first | (simp only [pComes, pComesA, c6b, if_true, if_false, Bool.false_eq_true, not_false_eq_true, not_true_eq_false, decide_true, decide_false, Bool.and_true, Bool.true_and, Bool.and_false, Bool.false_and, Bool.or_true, Bool.true_or, Bool.or_false, Bool.false_or, and_self, and_true, true_and, and_false, false_and, or_true, true_or, or_false, false_or, ne_eq]; done) | (simp only [pComes, pComesA, c6b, if_true, if_false, Bool.false_eq_true, not_false_eq_true, not_true_eq_false, decide_true, decide_false, Bool.and_true, Bool.true_and, Bool.and_false, Bool.false_and, Bool.or_true, Bool.true_or, Bool.or_false, Bool.false_or, and_self, and_true, true_and, and_false, false_and, or_true, true_or, or_false, false_or, ne_eq]; rfl))

theorem mt_passesT {Ω : ax_O} (hA : ax_Amb Ω) {h : ax_H} {m : Nat} {μ : md_S} {s : pR} {j : Nat} (hm : Ω.2.1.heap.size ≤ m) (hj : j = 4 ∨ j = 6) {P V O : Nat} (hp : pWP (μ.2 2) P V O) {A : Nat} (hs : pWS s A) (k : Nat) (hk : k < 30) (mi : Int32) : ax_Met Ω yX10_passes 3 0 0 [.ref m, .ref (m + j), .int (nI k), .int mi, .int (nI 1)] (md_H h m (md_sa μ j s)) (.inl none) (md_H h m (md_sa μ j (pPasses (μ.2 2) s k mi true))) := by
  refine ax_met q3048 q142 (by decide +kernel) (by decide) hA (Nat.le_of_ble_eq_true rfl) (fun Γ G E => ?_)
  show ax_W Ω Γ 0 0 (md_H h m (md_sa μ j s)) 0 [some (.ref m), some (.ref (m + j)), some (.int (nI k)), some (.int mi), some (.int (nI 1))] []
  refine ax_aload_n (pc := 0) G dX10_passes_0 rfl rfl ?_
  refine ax_iconst (pc := 1) (v := nI 3) G dX10_passes_1 ic_3 ?_
  refine ax_dup2_11 (pc := 2) G dX10_passes_2 rfl rfl ?_
  refine md_lds (pc := 3) (i := 3) G hj dX10_passes_3 rfl (by omega) ?_
  refine ax_aload_n (pc := 4) G dX10_passes_4 rfl rfl ?_
  refine ax_aload_n (pc := 5) G dX10_passes_5 rfl rfl ?_
  refine ax_iload_n (pc := 6) G dX10_passes_6 rfl rfl ?_
  refine ax_iload_n (pc := 7) G dX10_passes_7 rfl rfl ?_
  refine ax_cV1 (pc := 8) (kb := 0) (nb := 0) G (mt_grows hA hj k (by omega) mi) lVX10_234_8 dX10_passes_8 md_obj rfl (by decide) (Nat.le_of_ble_eq_true rfl) rfl ?_
  refine ax_iadd (pc := 11) G dX10_passes_11 ?_
  refine md_sts (pc := 12) (i := 3) G hj hm dX10_passes_12 rfl (by omega) ?_
  show ax_W Ω Γ _ _ (md_H h m (md_sa μ j (pAdd s 3 (pGrows (μ.2 2) s k mi)))) _ _ _
  refine ax_aload_n (pc := 13) G dX10_passes_13 rfl rfl ?_
  refine ax_iconst (pc := 14) (v := nI 0) G dX10_passes_14 ic_0 ?_
  refine ax_dup2_11 (pc := 15) G dX10_passes_15 rfl rfl ?_
  refine md_lds (pc := 16) (i := 0) G hj dX10_passes_16 rfl (by omega) ?_
  refine ax_iload_n (pc := 17) G dX10_passes_17 rfl rfl ?_
  refine ax_iadd (pc := 18) G dX10_passes_18 ?_
  refine md_sts (pc := 19) (i := 0) G hj hm dX10_passes_19 rfl (by omega) ?_
  show ax_W Ω Γ _ _ (md_H h m (md_sa μ j (pAdd (pAdd s 3 (pGrows (μ.2 2) s k mi)) 0 mi))) _ _ _
  refine ax_aload_n (pc := 20) G dX10_passes_20 rfl rfl ?_
  refine ax_iload (pc := 21) G dX10_passes_21 rfl ?_
  refine ax_if_eq (pc := 23) (tgt := 31) G dX10_passes_23 rfl (fun c9 => absurd c9 (by decide)) (fun _ => ?_)
  refine ax_bipush (pc := 26) (v := nI 29) G dX10_passes_26 ib_29 ?_
  refine ax_goto (pc := 28) (tgt := 33) G dX10_passes_28 rfl ?_
  refine ax_aload_n (pc := 33) G dX10_passes_33 rfl rfl ?_
  refine ax_aload_n (pc := 34) G dX10_passes_34 rfl rfl ?_
  refine ax_iload_n (pc := 35) G dX10_passes_35 rfl rfl ?_
  refine ax_cV1 (pc := 36) (kb := 0) (nb := 0) G (mt_itsProposal hA hj k (by omega)) lVX10_256_8 dX10_passes_36 md_obj rfl (by decide) (Nat.le_of_ble_eq_true rfl) rfl ?_
  have := pQ_l (pl := μ.2 2) (s := (pAdd (pAdd s 3 (pGrows (μ.2 2) s k mi)) 0 mi)) (k := k) hp (((hs).add _ (by omega) (by omega) (fun _ _ => by omega)).add _ (by omega) (by omega) (fun _ _ => by omega)) (by omega)
  refine ax_top (show Value.int (pProp (μ.2 2) (pAdd (pAdd s 3 (pGrows (μ.2 2) s k mi)) 0 mi) k) = .int (nI (pQ (μ.2 2) (pAdd (pAdd s 3 (pGrows (μ.2 2) s k mi)) 0 mi) k)) from congrArg Value.int (pQ_e (s := (pAdd (pAdd s 3 (pGrows (μ.2 2) s k mi)) 0 mi)) hp (((hs).add _ (by omega) (by omega) (fun _ _ => by omega)).add _ (by omega) (by omega) (fun _ _ => by omega)) (by omega))) ?_
  refine ax_iaddN (pc := 39) G dX10_passes_39 ?_
  refine ax_dup2_11 (pc := 40) G dX10_passes_40 rfl rfl ?_
  refine md_lds (pc := 41) (i := 29 + (pQ (μ.2 2) (pAdd (pAdd s 3 (pGrows (μ.2 2) s k mi)) 0 mi) k)) G hj dX10_passes_41 rfl (by omega) ?_
  refine ax_iload_n (pc := 42) G dX10_passes_42 rfl rfl ?_
  refine ax_iadd (pc := 43) G dX10_passes_43 ?_
  refine md_sts (pc := 44) (i := 29 + (pQ (μ.2 2) (pAdd (pAdd s 3 (pGrows (μ.2 2) s k mi)) 0 mi) k)) G hj hm dX10_passes_44 rfl (by omega) ?_
  show ax_W Ω Γ _ _ (md_H h m (md_sa μ j (pAdd (pAdd (pAdd s 3 (pGrows (μ.2 2) s k mi)) 0 mi) (29 + (pQ (μ.2 2) (pAdd (pAdd s 3 (pGrows (μ.2 2) s k mi)) 0 mi) k)) mi))) _ _ _
  refine ax_aload_n (pc := 45) G dX10_passes_45 rfl rfl ?_
  refine ax_iload (pc := 46) G dX10_passes_46 rfl ?_
  refine ax_if_eq (pc := 48) (tgt := 55) G dX10_passes_48 rfl (fun c9 => absurd c9 (by decide)) (fun _ => ?_)
  refine ax_iconst (pc := 51) (v := nI 1) G dX10_passes_51 ic_1 ?_
  refine ax_goto (pc := 52) (tgt := 56) G dX10_passes_52 rfl ?_
  refine ax_iload_n (pc := 56) G dX10_passes_56 rfl rfl ?_
  refine ax_cS0 (pc := 57) (kb := 0) (nb := 0) G (mt_adds hA (μ := μ) hm hj 1 (by omega) mi) lSX10_282 dX10_passes_57 rfl (by decide) (Nat.le_of_ble_eq_true rfl) rfl ?_
  show ax_W Ω Γ _ _ (md_H h m (md_sa μ j (pAdds (pAdd (pAdd (pAdd s 3 (pGrows (μ.2 2) s k mi)) 0 mi) (29 + (pQ (μ.2 2) (pAdd (pAdd s 3 (pGrows (μ.2 2) s k mi)) 0 mi) k)) mi) 1 mi))) _ _ _
  exact ax_vretE (pc := 60) G E rfl dX10_passes_60 (rfl)

theorem mt_passesF {Ω : ax_O} (hA : ax_Amb Ω) {h : ax_H} {m : Nat} {μ : md_S} {s : pR} {j : Nat} (hm : Ω.2.1.heap.size ≤ m) (hj : j = 4 ∨ j = 6) {P V O : Nat} (hp : pWP (μ.2 2) P V O) {A : Nat} (hs : pWS s A) (k : Nat) (hk : k < 30) (mi : Int32) : ax_Met Ω yX10_passes 3 0 0 [.ref m, .ref (m + j), .int (nI k), .int mi, .int (nI 0)] (md_H h m (md_sa μ j s)) (.inl none) (md_H h m (md_sa μ j (pPasses (μ.2 2) s k mi false))) := by
  refine ax_met q3048 q142 (by decide +kernel) (by decide) hA (Nat.le_of_ble_eq_true rfl) (fun Γ G E => ?_)
  show ax_W Ω Γ 0 0 (md_H h m (md_sa μ j s)) 0 [some (.ref m), some (.ref (m + j)), some (.int (nI k)), some (.int mi), some (.int (nI 0))] []
  refine ax_aload_n (pc := 0) G dX10_passes_0 rfl rfl ?_
  refine ax_iconst (pc := 1) (v := nI 3) G dX10_passes_1 ic_3 ?_
  refine ax_dup2_11 (pc := 2) G dX10_passes_2 rfl rfl ?_
  refine md_lds (pc := 3) (i := 3) G hj dX10_passes_3 rfl (by omega) ?_
  refine ax_aload_n (pc := 4) G dX10_passes_4 rfl rfl ?_
  refine ax_aload_n (pc := 5) G dX10_passes_5 rfl rfl ?_
  refine ax_iload_n (pc := 6) G dX10_passes_6 rfl rfl ?_
  refine ax_iload_n (pc := 7) G dX10_passes_7 rfl rfl ?_
  refine ax_cV1 (pc := 8) (kb := 0) (nb := 0) G (mt_grows hA hj k (by omega) mi) lVX10_234_8 dX10_passes_8 md_obj rfl (by decide) (Nat.le_of_ble_eq_true rfl) rfl ?_
  refine ax_iadd (pc := 11) G dX10_passes_11 ?_
  refine md_sts (pc := 12) (i := 3) G hj hm dX10_passes_12 rfl (by omega) ?_
  show ax_W Ω Γ _ _ (md_H h m (md_sa μ j (pAdd s 3 (pGrows (μ.2 2) s k mi)))) _ _ _
  refine ax_aload_n (pc := 13) G dX10_passes_13 rfl rfl ?_
  refine ax_iconst (pc := 14) (v := nI 0) G dX10_passes_14 ic_0 ?_
  refine ax_dup2_11 (pc := 15) G dX10_passes_15 rfl rfl ?_
  refine md_lds (pc := 16) (i := 0) G hj dX10_passes_16 rfl (by omega) ?_
  refine ax_iload_n (pc := 17) G dX10_passes_17 rfl rfl ?_
  refine ax_iadd (pc := 18) G dX10_passes_18 ?_
  refine md_sts (pc := 19) (i := 0) G hj hm dX10_passes_19 rfl (by omega) ?_
  show ax_W Ω Γ _ _ (md_H h m (md_sa μ j (pAdd (pAdd s 3 (pGrows (μ.2 2) s k mi)) 0 mi))) _ _ _
  refine ax_aload_n (pc := 20) G dX10_passes_20 rfl rfl ?_
  refine ax_iload (pc := 21) G dX10_passes_21 rfl ?_
  refine ax_if_eq (pc := 23) (tgt := 31) G dX10_passes_23 rfl (fun _ => ?_) (fun c9 => absurd rfl c9)
  refine ax_bipush (pc := 31) (v := nI 23) G dX10_passes_31 ib_23 ?_
  refine ax_aload_n (pc := 33) G dX10_passes_33 rfl rfl ?_
  refine ax_aload_n (pc := 34) G dX10_passes_34 rfl rfl ?_
  refine ax_iload_n (pc := 35) G dX10_passes_35 rfl rfl ?_
  refine ax_cV1 (pc := 36) (kb := 0) (nb := 0) G (mt_itsProposal hA hj k (by omega)) lVX10_256_8 dX10_passes_36 md_obj rfl (by decide) (Nat.le_of_ble_eq_true rfl) rfl ?_
  have := pQ_l (pl := μ.2 2) (s := (pAdd (pAdd s 3 (pGrows (μ.2 2) s k mi)) 0 mi)) (k := k) hp (((hs).add _ (by omega) (by omega) (fun _ _ => by omega)).add _ (by omega) (by omega) (fun _ _ => by omega)) (by omega)
  refine ax_top (show Value.int (pProp (μ.2 2) (pAdd (pAdd s 3 (pGrows (μ.2 2) s k mi)) 0 mi) k) = .int (nI (pQ (μ.2 2) (pAdd (pAdd s 3 (pGrows (μ.2 2) s k mi)) 0 mi) k)) from congrArg Value.int (pQ_e (s := (pAdd (pAdd s 3 (pGrows (μ.2 2) s k mi)) 0 mi)) hp (((hs).add _ (by omega) (by omega) (fun _ _ => by omega)).add _ (by omega) (by omega) (fun _ _ => by omega)) (by omega))) ?_
  refine ax_iaddN (pc := 39) G dX10_passes_39 ?_
  refine ax_dup2_11 (pc := 40) G dX10_passes_40 rfl rfl ?_
  refine md_lds (pc := 41) (i := 23 + (pQ (μ.2 2) (pAdd (pAdd s 3 (pGrows (μ.2 2) s k mi)) 0 mi) k)) G hj dX10_passes_41 rfl (by omega) ?_
  refine ax_iload_n (pc := 42) G dX10_passes_42 rfl rfl ?_
  refine ax_iadd (pc := 43) G dX10_passes_43 ?_
  refine md_sts (pc := 44) (i := 23 + (pQ (μ.2 2) (pAdd (pAdd s 3 (pGrows (μ.2 2) s k mi)) 0 mi) k)) G hj hm dX10_passes_44 rfl (by omega) ?_
  show ax_W Ω Γ _ _ (md_H h m (md_sa μ j (pAdd (pAdd (pAdd s 3 (pGrows (μ.2 2) s k mi)) 0 mi) (23 + (pQ (μ.2 2) (pAdd (pAdd s 3 (pGrows (μ.2 2) s k mi)) 0 mi) k)) mi))) _ _ _
  refine ax_aload_n (pc := 45) G dX10_passes_45 rfl rfl ?_
  refine ax_iload (pc := 46) G dX10_passes_46 rfl ?_
  refine ax_if_eq (pc := 48) (tgt := 55) G dX10_passes_48 rfl (fun _ => ?_) (fun c9 => absurd rfl c9)
  refine ax_iconst (pc := 55) (v := nI 0) G dX10_passes_55 ic_0 ?_
  refine ax_iload_n (pc := 56) G dX10_passes_56 rfl rfl ?_
  refine ax_cS0 (pc := 57) (kb := 0) (nb := 0) G (mt_adds hA (μ := μ) hm hj 0 (by omega) mi) lSX10_282 dX10_passes_57 rfl (by decide) (Nat.le_of_ble_eq_true rfl) rfl ?_
  show ax_W Ω Γ _ _ (md_H h m (md_sa μ j (pAdds (pAdd (pAdd (pAdd s 3 (pGrows (μ.2 2) s k mi)) 0 mi) (23 + (pQ (μ.2 2) (pAdd (pAdd s 3 (pGrows (μ.2 2) s k mi)) 0 mi) k)) mi) 0 mi))) _ _ _
  exact ax_vretE (pc := 60) G E rfl dX10_passes_60 (rfl)

theorem mt_finishes {Ω : ax_O} (hA : ax_Amb Ω) {h : ax_H} {m : Nat} {μ : md_S} {s : pR} {j : Nat} (hm : Ω.2.1.heap.size ≤ m) (hj : j = 4 ∨ j = 6) {P V O : Nat} (hp : pWP (μ.2 2) P V O) {A : Nat} (hs : pWS s A) (k : Nat) (hk : k < 30) : ax_Met Ω yX10_finishes 4 0 0 [.ref m, .ref (m + j), .int (nI k)] (md_H h m (md_sa μ j s)) (.inl none) (md_H h m (md_sa μ j (pFinishes (μ.2 2) s k))) := by
  refine ax_met q3041 q142 (by decide +kernel) (by decide) hA (Nat.le_of_ble_eq_true rfl) (fun Γ G E => ?_)
  have hkS : pStateAt k < 627 := by unfold pStateAt; split <;> omega
  have hkT : pStartAt k < 627 := by unfold pStartAt; split <;> omega
  show ax_W Ω Γ 0 0 (md_H h m (md_sa μ j s)) 0 [some (.ref m), some (.ref (m + j)), some (.int (nI k))] []
  refine ax_aload_n (pc := 0) G dX10_finishes_0 rfl rfl ?_
  refine ax_iload_n (pc := 1) G dX10_finishes_1 rfl rfl ?_
  refine ax_cS1 (pc := 2) (kb := 0) (nb := 0) G (mt_startAt hA k (by omega)) lSX10_302 dX10_finishes_2 rfl (by decide) (Nat.le_of_ble_eq_true rfl) rfl ?_
  refine ax_aload_n (pc := 5) G dX10_finishes_5 rfl rfl ?_
  refine ax_iconst (pc := 6) (v := nI 0) G dX10_finishes_6 ic_0 ?_
  refine md_lds (pc := 7) (i := 0) G hj dX10_finishes_7 rfl (by omega) ?_
  refine md_sts (pc := 8) (i := pStartAt k) G hj hm dX10_finishes_8 rfl (by omega) ?_
  refine ax_aload_n (pc := 9) G dX10_finishes_9 rfl rfl ?_
  refine ax_iload_n (pc := 10) G dX10_finishes_10 rfl rfl ?_
  refine ax_cS1 (pc := 11) (kb := 0) (nb := 0) G (mt_stateAt hA k (by omega)) lSX10_253 dX10_finishes_11 rfl (by decide) (Nat.le_of_ble_eq_true rfl) rfl ?_
  refine ax_iconst (pc := 14) (v := nI 1) G dX10_finishes_14 ic_1 ?_
  refine md_sts (pc := 15) (i := pStateAt k) G hj hm dX10_finishes_15 rfl (by omega) ?_
  show ax_W Ω Γ _ _ (md_H h m (md_sa μ j (pFinA s k))) _ _ _
  refine ax_aload_n (pc := 16) G dX10_finishes_16 rfl rfl ?_
  refine ax_aload_n (pc := 17) G dX10_finishes_17 rfl rfl ?_
  refine ax_iload_n (pc := 18) G dX10_finishes_18 rfl rfl ?_
  refine ax_aload_n (pc := 19) G dX10_finishes_19 rfl rfl ?_
  refine ax_aload_n (pc := 20) G dX10_finishes_20 rfl rfl ?_
  refine ax_iload_n (pc := 21) G dX10_finishes_21 rfl rfl ?_
  refine ax_cV1 (pc := 22) (kb := 0) (nb := 0) G (mt_itsDuration hA hj k (by omega)) lVX10_231_8 dX10_finishes_22 md_obj rfl (by decide) (Nat.le_of_ble_eq_true rfl) rfl ?_
  refine ax_iconst (pc := 25) (v := nI 0) G dX10_finishes_25 ic_0 ?_
  refine ax_cV0 (pc := 26) (kb := 0) (nb := 0) G (mt_passesF hA (μ := μ) hm hj hp ((hs).finA (by omega)) k (by omega) (pDur (μ.2 2) (pFinA s k) k)) lVX10_305_8 dX10_finishes_26 md_obj rfl (by decide) (Nat.le_of_ble_eq_true rfl) rfl ?_
  show ax_W Ω Γ _ _ (md_H h m (md_sa μ j (pPasses (μ.2 2) (pFinA s k) k (pDur (μ.2 2) (pFinA s k) k) false))) _ _ _
  exact ax_vretE (pc := 29) G E rfl dX10_finishes_29 (rfl)

theorem mt_makesAlert {Ω : ax_O} (hA : ax_Amb Ω) {h : ax_H} {m : Nat} {μ : md_S} {s : pR} {j : Nat} (hm : Ω.2.1.heap.size ≤ m) (hj : j = 4 ∨ j = 6) {P V O : Nat} (hp : pWP (μ.2 2) P V O) {A : Nat} (hs : pWS s A) (k : Nat) (hk : k < 30) : ax_Met Ω yX10_makesAlert 6 0 0 [.ref m, .ref (m + j), .int (nI k)] (md_H h m (md_sa μ j s)) (.inl (some (.int (nI 2)))) (md_H h m (md_sa μ j (pMA (μ.2 2) s k))) := by
  refine ax_met q3026 q142 (by decide +kernel) (by decide) hA (Nat.le_of_ble_eq_true rfl) (fun Γ G E => ?_)
  show ax_W Ω Γ 0 0 (md_H h m (md_sa μ j s)) 0 [some (.ref m), some (.ref (m + j)), some (.int (nI k))] []
  refine ax_aload_n (pc := 0) G dX10_makesAlert_0 rfl rfl ?_
  refine ax_aload_n (pc := 1) G dX10_makesAlert_1 rfl rfl ?_
  refine ax_iload_n (pc := 2) G dX10_makesAlert_2 rfl rfl ?_
  refine ax_cV0 (pc := 3) (kb := 0) (nb := 0) G (mt_comesTo hA (μ := μ) hm hj hp hs k (by omega)) lVX10_309_8 dX10_makesAlert_3 md_obj rfl (by decide) (Nat.le_of_ble_eq_true rfl) rfl ?_
  show ax_W Ω Γ _ _ (md_H h m (md_sa μ j (pComes (μ.2 2) s k))) _ _ _
  refine ax_aload_n (pc := 6) G dX10_makesAlert_6 rfl rfl ?_
  refine ax_aload_n (pc := 7) G dX10_makesAlert_7 rfl rfl ?_
  refine ax_iload_n (pc := 8) G dX10_makesAlert_8 rfl rfl ?_
  refine ax_cV0 (pc := 9) (kb := 0) (nb := 0) G (mt_finishes hA (μ := μ) hm hj hp (pWS.comes hp (hs) (by omega)) k (by omega)) lVX10_316_8 dX10_makesAlert_9 md_obj rfl (by decide) (Nat.le_of_ble_eq_true rfl) rfl ?_
  show ax_W Ω Γ _ _ (md_H h m (md_sa μ j (pFinishes (μ.2 2) (pComes (μ.2 2) s k) k))) _ _ _
  refine ax_iconst (pc := 12) (v := nI 2) G dX10_makesAlert_12 ic_2 ?_
  exact ax_iretE (pc := 13) G E rfl (rfl) dX10_makesAlert_13 (rfl) (rfl)

theorem mt_breaks {Ω : ax_O} (hA : ax_Amb Ω) {h : ax_H} {m : Nat} {μ : md_S} {t : pT} {s : pR} {j : Nat} (hm : Ω.2.1.heap.size ≤ m) (hj : j = 4 ∨ j = 6) {P V O : Nat} (hp : pWP (μ.2 2) P V O) {A : Nat} (hs : pWS s A) (v k : Nat) (hv : v < 20) (hk : k < 30) : ax_Met Ω yX10_breaks 7 0 0 [.ref m, .ref (m + j), .int (nI v), .int (nI k)] (md_H h m (md_sa (mAs μ t) j s)) (.inl (some (.int (bI (pBreaks (μ.2 2) s v k))))) (md_H h m (md_sa (mAs μ (pBrkT (μ.2 2) s v k t)) j s)) := by
  refine ax_met q3068 q142 (by decide +kernel) (by decide) hA (Nat.le_of_ble_eq_true rfl) (fun Γ G E => ?_)
  have hkS : pStateAt k < 627 := by unfold pStateAt; split <;> omega
  show ax_W Ω Γ 0 0 (md_H h m (md_sa (mAs μ t) j s)) 0 [some (.ref m), some (.ref (m + j)), some (.int (nI v)), some (.int (nI k)), none, none, none, none] []
  refine ax_aload_n (pc := 0) G dX10_breaks_0 rfl rfl ?_
  refine ax_iconst (pc := 1) (v := nI 0) G dX10_breaks_1 ic_0 ?_
  refine md_lds (pc := 2) (i := 0) G hj dX10_breaks_2 rfl (by omega) ?_
  refine ax_istore (pc := 3) G dX10_breaks_3 (Nat.le_of_ble_eq_true rfl) rfl ?_
  refine ax_aload_n (pc := 5) G dX10_breaks_5 rfl rfl ?_
  refine ax_aload_n (pc := 6) G dX10_breaks_6 rfl rfl ?_
  refine ax_iload_n (pc := 7) G dX10_breaks_7 rfl rfl ?_
  refine ax_cV1 (pc := 8) (kb := 0) (nb := 0) G (mt_itsFrom hA hj k (by omega)) lVX10_227_8 dX10_breaks_8 md_obj rfl (by decide) (Nat.le_of_ble_eq_true rfl) rfl ?_
  refine ax_istore (pc := 11) G dX10_breaks_11 (Nat.le_of_ble_eq_true rfl) rfl ?_
  refine ax_bipush (pc := 13) (v := nI 29) G dX10_breaks_13 ib_29 ?_
  refine ax_aload_n (pc := 15) G dX10_breaks_15 rfl rfl ?_
  refine ax_aload_n (pc := 16) G dX10_breaks_16 rfl rfl ?_
  refine ax_iload_n (pc := 17) G dX10_breaks_17 rfl rfl ?_
  refine ax_cV1 (pc := 18) (kb := 0) (nb := 0) G (mt_itsProposal hA hj v (by omega)) lVX10_256_8 dX10_breaks_18 md_obj rfl (by decide) (Nat.le_of_ble_eq_true rfl) rfl ?_
  have := pQ_l (pl := μ.2 2) (s := s) (k := v) hp (hs) (by omega)
  refine ax_top (show Value.int (pProp (μ.2 2) s v) = .int (nI (pQ (μ.2 2) s v)) from congrArg Value.int (pQ_e (s := s) hp (hs) (by omega))) ?_
  refine ax_iaddN (pc := 21) G dX10_breaks_21 ?_
  refine ax_istore (pc := 22) G dX10_breaks_22 (Nat.le_of_ble_eq_true rfl) rfl ?_
  refine ax_aload_n (pc := 24) G dX10_breaks_24 rfl rfl ?_
  refine ax_iload_n (pc := 25) G dX10_breaks_25 rfl rfl ?_
  refine ax_cS1 (pc := 26) (kb := 0) (nb := 0) G (mt_stateAt hA k (by omega)) lSX10_253 dX10_breaks_26 rfl (by decide) (Nat.le_of_ble_eq_true rfl) rfl ?_
  refine md_lds (pc := 29) (i := pStateAt k) G hj dX10_breaks_29 rfl (by omega) ?_
  refine ax_if_ne (pc := 30) (tgt := 54) G dX10_breaks_30 rfl (fun c30 => ?_) (fun c30 => ?_)
  · replace c30 : ¬ (s (pStateAt k)) = 0 := c30
    refine ax_iconst (pc := 54) (v := nI 0) G dX10_breaks_54 ic_0 ?_
    exact ax_iretE (pc := 55) G E rfl (rfl) dX10_breaks_55 (by first | (simp only [pBreaks, pBrkNo, c30, if_true, if_false, Bool.false_eq_true, not_false_eq_true, not_true_eq_false, decide_true, decide_false, Bool.and_true, Bool.true_and, Bool.and_false, Bool.false_and, Bool.or_true, Bool.true_or, Bool.or_false, Bool.false_or, and_self, and_true, true_and, and_false, false_and, or_true, true_or, or_false, false_or, ne_eq]; done) | (simp only [pBreaks, pBrkNo, c30, if_true, if_false, Bool.false_eq_true, not_false_eq_true, not_true_eq_false, decide_true, decide_false, Bool.and_true, Bool.true_and, Bool.and_false, Bool.false_and, Bool.or_true, Bool.true_or, Bool.or_false, Bool.false_or, and_self, and_true, true_and, and_false, false_and, or_true, true_or, or_false, false_or, ne_eq]; rfl)) (by first | (simp only [pBrkT, pBrkNo, c30, if_true, if_false, Bool.false_eq_true, not_false_eq_true, not_true_eq_false, decide_true, decide_false, Bool.and_true, Bool.true_and, Bool.and_false, Bool.false_and, Bool.or_true, Bool.true_or, Bool.or_false, Bool.false_or, and_self, and_true, true_and, and_false, false_and, or_true, true_or, or_false, false_or, ne_eq]; done) | (simp only [pBrkT, pBrkNo, c30, if_true, if_false, Bool.false_eq_true, not_false_eq_true, not_true_eq_false, decide_true, decide_false, Bool.and_true, Bool.true_and, Bool.and_false, Bool.false_and, Bool.or_true, Bool.true_or, Bool.or_false, Bool.false_or, and_self, and_true, true_and, and_false, false_and, or_true, true_or, or_false, false_or, ne_eq]; rfl))
  · replace c30 : (s (pStateAt k)) = 0 := c30
    refine ax_iload (pc := 33) G dX10_breaks_33 rfl ?_
    refine ax_iload (pc := 35) G dX10_breaks_35 rfl ?_
    refine ax_icmp_le (pc := 37) (tgt := 54) G dX10_breaks_37 rfl (fun c37 => ?_) (fun c37 => ?_)
    · replace c37 : (pFrom (μ.2 2) s k) ≤ (s 0) := c37
      refine ax_iconst (pc := 54) (v := nI 0) G dX10_breaks_54 ic_0 ?_
      exact ax_iretE (pc := 55) G E rfl (rfl) dX10_breaks_55 (by first | (simp only [pBreaks, pBrkNo, c30, c37, Int32.not_lt.mpr c37, if_true, if_false, Bool.false_eq_true, not_false_eq_true, not_true_eq_false, decide_true, decide_false, Bool.and_true, Bool.true_and, Bool.and_false, Bool.false_and, Bool.or_true, Bool.true_or, Bool.or_false, Bool.false_or, and_self, and_true, true_and, and_false, false_and, or_true, true_or, or_false, false_or, ne_eq]; done) | (simp only [pBreaks, pBrkNo, c30, c37, Int32.not_lt.mpr c37, if_true, if_false, Bool.false_eq_true, not_false_eq_true, not_true_eq_false, decide_true, decide_false, Bool.and_true, Bool.true_and, Bool.and_false, Bool.false_and, Bool.or_true, Bool.true_or, Bool.or_false, Bool.false_or, and_self, and_true, true_and, and_false, false_and, or_true, true_or, or_false, false_or, ne_eq]; rfl) | (simp only [pBreaks, pBrkNo, if_pos c30, decide_eq_true c30, c37, Int32.not_lt.mpr c37, if_true, if_false, Bool.false_eq_true, not_false_eq_true, not_true_eq_false, decide_true, decide_false, Bool.and_true, Bool.true_and, Bool.and_false, Bool.false_and, Bool.or_true, Bool.true_or, Bool.or_false, Bool.false_or, and_self, and_true, true_and, and_false, false_and, or_true, true_or, or_false, false_or, ne_eq]; done) | (simp only [pBreaks, pBrkNo, if_pos c30, decide_eq_true c30, c37, Int32.not_lt.mpr c37, if_true, if_false, Bool.false_eq_true, not_false_eq_true, not_true_eq_false, decide_true, decide_false, Bool.and_true, Bool.true_and, Bool.and_false, Bool.false_and, Bool.or_true, Bool.true_or, Bool.or_false, Bool.false_or, and_self, and_true, true_and, and_false, false_and, or_true, true_or, or_false, false_or, ne_eq]; rfl)) (by first | (simp only [pBrkT, pBrkNo, c30, c37, Int32.not_lt.mpr c37, if_true, if_false, Bool.false_eq_true, not_false_eq_true, not_true_eq_false, decide_true, decide_false, Bool.and_true, Bool.true_and, Bool.and_false, Bool.false_and, Bool.or_true, Bool.true_or, Bool.or_false, Bool.false_or, and_self, and_true, true_and, and_false, false_and, or_true, true_or, or_false, false_or, ne_eq]; done) | (simp only [pBrkT, pBrkNo, c30, c37, Int32.not_lt.mpr c37, if_true, if_false, Bool.false_eq_true, not_false_eq_true, not_true_eq_false, decide_true, decide_false, Bool.and_true, Bool.true_and, Bool.and_false, Bool.false_and, Bool.or_true, Bool.true_or, Bool.or_false, Bool.false_or, and_self, and_true, true_and, and_false, false_and, or_true, true_or, or_false, false_or, ne_eq]; rfl) | (simp only [pBrkT, pBrkNo, if_pos c30, decide_eq_true c30, c37, Int32.not_lt.mpr c37, if_true, if_false, Bool.false_eq_true, not_false_eq_true, not_true_eq_false, decide_true, decide_false, Bool.and_true, Bool.true_and, Bool.and_false, Bool.false_and, Bool.or_true, Bool.true_or, Bool.or_false, Bool.false_or, and_self, and_true, true_and, and_false, false_and, or_true, true_or, or_false, false_or, ne_eq]; done) | (simp only [pBrkT, pBrkNo, if_pos c30, decide_eq_true c30, c37, Int32.not_lt.mpr c37, if_true, if_false, Bool.false_eq_true, not_false_eq_true, not_true_eq_false, decide_true, decide_false, Bool.and_true, Bool.true_and, Bool.and_false, Bool.false_and, Bool.or_true, Bool.true_or, Bool.or_false, Bool.false_or, and_self, and_true, true_and, and_false, false_and, or_true, true_or, or_false, false_or, ne_eq]; rfl))
    · replace c37 : ¬ (pFrom (μ.2 2) s k) ≤ (s 0) := c37
      refine ax_iload (pc := 40) G dX10_breaks_40 rfl ?_
      refine ax_iload (pc := 42) G dX10_breaks_42 rfl ?_
      refine ax_aload_n (pc := 44) G dX10_breaks_44 rfl rfl ?_
      refine ax_aload_n (pc := 45) G dX10_breaks_45 rfl rfl ?_
      refine ax_iload_n (pc := 46) G dX10_breaks_46 rfl rfl ?_
      refine ax_cV1 (pc := 47) (kb := 0) (nb := 0) G (mt_itsDuration hA hj v (by omega)) lVX10_231_8 dX10_breaks_47 md_obj rfl (by decide) (Nat.le_of_ble_eq_true rfl) rfl ?_
      refine ax_iadd (pc := 50) G dX10_breaks_50 ?_
      refine ax_icmp_lt (pc := 51) (tgt := 56) G dX10_breaks_51 rfl (fun c51 => ?_) (fun c51 => ?_)
      · replace c51 : (pFrom (μ.2 2) s k) < ((s 0) + (pDur (μ.2 2) s v)) := c51
        refine ax_aload_n (pc := 56) G dX10_breaks_56 rfl rfl ?_
        refine ax_iload (pc := 57) G dX10_breaks_57 rfl ?_
        refine md_put (pc := 59) G flX10_290_8 dX10_breaks_59 hm (by decide) (rfl) rfl rfl ?_
        show ax_W Ω Γ _ _ (md_H h m (md_sa (md_si (mAs μ t) 20 (s 0)) j s)) _ _ _
        rw [mAs_0]
        show ax_W Ω Γ _ _ (md_H h m (md_sa (mAs μ (s 0, t.2.1, t.2.2)) j s)) _ _ _
        refine ax_aload_n (pc := 62) G dX10_breaks_62 rfl rfl ?_
        refine ax_aload_n (pc := 63) G dX10_breaks_63 rfl rfl ?_
        refine ax_iconst (pc := 64) (v := nI 3) G dX10_breaks_64 ic_3 ?_
        refine md_lds (pc := 65) (i := 3) G hj dX10_breaks_65 rfl (by omega) ?_
        refine md_put (pc := 66) G flX10_293_8 dX10_breaks_66 hm (by decide) (rfl) rfl rfl ?_
        show ax_W Ω Γ _ _ (md_H h m (md_sa (md_si (mAs μ (s 0, t.2.1, t.2.2)) 21 (s 3)) j s)) _ _ _
        rw [mAs_1]
        show ax_W Ω Γ _ _ (md_H h m (md_sa (mAs μ (s 0, s 3, t.2.2)) j s)) _ _ _
        refine ax_aload_n (pc := 69) G dX10_breaks_69 rfl rfl ?_
        refine ax_aload_n (pc := 70) G dX10_breaks_70 rfl rfl ?_
        refine ax_iload (pc := 71) G dX10_breaks_71 rfl ?_
        refine md_lds (pc := 73) (i := 29 + (pQ (μ.2 2) s v)) G hj dX10_breaks_73 rfl (by omega) ?_
        refine md_put (pc := 74) G flX10_296_8 dX10_breaks_74 hm (by decide) (rfl) rfl rfl ?_
        show ax_W Ω Γ _ _ (md_H h m (md_sa (md_si (mAs μ (s 0, s 3, t.2.2)) 22 (s (29 + (pQ (μ.2 2) s v)))) j s)) _ _ _
        rw [mAs_2]
        show ax_W Ω Γ _ _ (md_H h m (md_sa (mAs μ (s 0, s 3, s (29 + (pQ (μ.2 2) s v)))) j s)) _ _ _
        refine ax_aload_n (pc := 77) G dX10_breaks_77 rfl rfl ?_
        refine ax_iconst (pc := 78) (v := nI 0) G dX10_breaks_78 ic_0 ?_
        refine ax_iload (pc := 79) G dX10_breaks_79 rfl ?_
        refine md_sts (pc := 81) (i := 0) G hj hm dX10_breaks_81 rfl (by omega) ?_
        refine ax_aload_n (pc := 82) G dX10_breaks_82 rfl rfl ?_
        refine ax_iconst (pc := 83) (v := nI 3) G dX10_breaks_83 ic_3 ?_
        refine ax_dup2_11 (pc := 84) G dX10_breaks_84 rfl rfl ?_
        refine md_lds (pc := 85) (i := 3) G hj dX10_breaks_85 rfl (by omega) ?_
        refine ax_aload_n (pc := 86) G dX10_breaks_86 rfl rfl ?_
        refine ax_aload_n (pc := 87) G dX10_breaks_87 rfl rfl ?_
        refine ax_iload_n (pc := 88) G dX10_breaks_88 rfl rfl ?_
        refine ax_iload (pc := 89) G dX10_breaks_89 rfl ?_
        refine ax_iload (pc := 91) G dX10_breaks_91 rfl ?_
        refine ax_isub (pc := 93) G dX10_breaks_93 ?_
        refine ax_cV1 (pc := 94) (kb := 0) (nb := 0) G (mt_grows hA hj v (by omega) ((pFrom (μ.2 2) s k) - (s 0))) lVX10_234_8 dX10_breaks_94 md_obj rfl (by decide) (Nat.le_of_ble_eq_true rfl) rfl ?_
        refine ax_iadd (pc := 97) G dX10_breaks_97 ?_
        refine md_sts (pc := 98) (i := 3) G hj hm dX10_breaks_98 rfl (by omega) ?_
        show ax_W Ω Γ _ _ (md_H h m (md_sa (mAs μ (s 0, s 3, s (29 + (pQ (μ.2 2) s v)))) j (pAdd (upd s 0 (pFrom (μ.2 2) s k)) 3 (pGrows (μ.2 2) (upd s 0 (pFrom (μ.2 2) s k)) v ((pFrom (μ.2 2) s k) - (s 0)))))) _ _ _
        refine ax_aload_n (pc := 99) G dX10_breaks_99 rfl rfl ?_
        refine ax_iload (pc := 100) G dX10_breaks_100 rfl ?_
        refine ax_dup2_11 (pc := 102) G dX10_breaks_102 rfl rfl ?_
        refine md_lds (pc := 103) (i := 29 + (pQ (μ.2 2) s v)) G hj dX10_breaks_103 rfl (by omega) ?_
        refine ax_iload (pc := 104) G dX10_breaks_104 rfl ?_
        refine ax_iload (pc := 106) G dX10_breaks_106 rfl ?_
        refine ax_isub (pc := 108) G dX10_breaks_108 ?_
        refine ax_iadd (pc := 109) G dX10_breaks_109 ?_
        refine md_sts (pc := 110) (i := 29 + (pQ (μ.2 2) s v)) G hj hm dX10_breaks_110 rfl (by omega) ?_
        show ax_W Ω Γ _ _ (md_H h m (md_sa (mAs μ (s 0, s 3, s (29 + (pQ (μ.2 2) s v)))) j (pAdd (pAdd (upd s 0 (pFrom (μ.2 2) s k)) 3 (pGrows (μ.2 2) (upd s 0 (pFrom (μ.2 2) s k)) v ((pFrom (μ.2 2) s k) - (s 0)))) (29 + (pQ (μ.2 2) s v)) ((pFrom (μ.2 2) s k) - (s 0))))) _ _ _
        refine ax_aload_n (pc := 111) G dX10_breaks_111 rfl rfl ?_
        refine ax_aload_n (pc := 112) G dX10_breaks_112 rfl rfl ?_
        refine ax_iload_n (pc := 113) G dX10_breaks_113 rfl rfl ?_
        refine ax_cV1 (pc := 114) (kb := 0) (nb := 0) G (mt_reasonFor hA (μ := (mAs μ (s 0, s 3, s (29 + (pQ (μ.2 2) s v))))) hj hp ((((hs).up _ (by omega) (by omega) (fun _ _ => by omega)).add _ (by omega) (by omega) (fun _ _ => by omega)).add _ (by omega) (by omega) (fun _ _ => by omega)) k (by omega)) lVX10_275_8 dX10_breaks_114 md_obj rfl (by decide) (Nat.le_of_ble_eq_true rfl) rfl ?_
        refine ax_if_ne (pc := 117) (tgt := 124) G dX10_breaks_117 rfl (fun c117 => ?_) (fun c117 => ?_)
        · replace c117 : ¬ (pReason (μ.2 2) (pAdd (pAdd (upd s 0 (pFrom (μ.2 2) s k)) 3 (pGrows (μ.2 2) (upd s 0 (pFrom (μ.2 2) s k)) v ((pFrom (μ.2 2) s k) - (s 0)))) (29 + (pQ (μ.2 2) s v)) ((pFrom (μ.2 2) s k) - (s 0))) k) = 0 := c117
          refine ax_iconst (pc := 124) (v := nI 0) G dX10_breaks_124 ic_0 ?_
          refine ax_istore (pc := 125) G dX10_breaks_125 (Nat.le_of_ble_eq_true rfl) rfl ?_
          refine ax_aload_n (pc := 127) G dX10_breaks_127 rfl rfl ?_
          refine ax_iconst (pc := 128) (v := nI 0) G dX10_breaks_128 ic_0 ?_
          refine ax_aload_n (pc := 129) G dX10_breaks_129 rfl rfl ?_
          refine md_get (pc := 130) (v := .int (s 0)) G flX10_290_8 dX10_breaks_130 rfl ?_
          refine md_sts (pc := 133) (i := 0) G hj hm dX10_breaks_133 rfl (by omega) ?_
          refine ax_aload_n (pc := 134) G dX10_breaks_134 rfl rfl ?_
          refine ax_iconst (pc := 135) (v := nI 3) G dX10_breaks_135 ic_3 ?_
          refine ax_aload_n (pc := 136) G dX10_breaks_136 rfl rfl ?_
          refine md_get (pc := 137) (v := .int (s 3)) G flX10_293_8 dX10_breaks_137 rfl ?_
          refine md_sts (pc := 140) (i := 3) G hj hm dX10_breaks_140 rfl (by omega) ?_
          refine ax_aload_n (pc := 141) G dX10_breaks_141 rfl rfl ?_
          refine ax_iload (pc := 142) G dX10_breaks_142 rfl ?_
          refine ax_aload_n (pc := 144) G dX10_breaks_144 rfl rfl ?_
          refine md_get (pc := 145) (v := .int (s (29 + (pQ (μ.2 2) s v)))) G flX10_296_8 dX10_breaks_145 rfl ?_
          refine md_sts (pc := 148) (i := 29 + (pQ (μ.2 2) s v)) G hj hm dX10_breaks_148 rfl (by omega) ?_
          refine ax_iload (pc := 149) G dX10_breaks_149 rfl ?_
          exact ax_iretE (pc := 151) G E rfl (rfl) dX10_breaks_151 (by first | (simp only [pBreaks, pBrkNo, pAside, bI, c30, c37, Int32.not_le.mp c37, c51, Int32.not_le.mpr c51, c117, if_true, if_false, Bool.false_eq_true, not_false_eq_true, not_true_eq_false, decide_true, decide_false, Bool.and_true, Bool.true_and, Bool.and_false, Bool.false_and, Bool.or_true, Bool.true_or, Bool.or_false, Bool.false_or, and_self, and_true, true_and, and_false, false_and, or_true, true_or, or_false, false_or, ne_eq]; done) | (simp only [pBreaks, pBrkNo, pAside, bI, c30, c37, Int32.not_le.mp c37, c51, Int32.not_le.mpr c51, c117, if_true, if_false, Bool.false_eq_true, not_false_eq_true, not_true_eq_false, decide_true, decide_false, Bool.and_true, Bool.true_and, Bool.and_false, Bool.false_and, Bool.or_true, Bool.true_or, Bool.or_false, Bool.false_or, and_self, and_true, true_and, and_false, false_and, or_true, true_or, or_false, false_or, ne_eq]; rfl) | (simp only [pBreaks, pBrkNo, pAside, bI, if_pos c30, decide_eq_true c30, c37, Int32.not_le.mp c37, c51, Int32.not_le.mpr c51, c117, if_true, if_false, Bool.false_eq_true, not_false_eq_true, not_true_eq_false, decide_true, decide_false, Bool.and_true, Bool.true_and, Bool.and_false, Bool.false_and, Bool.or_true, Bool.true_or, Bool.or_false, Bool.false_or, and_self, and_true, true_and, and_false, false_and, or_true, true_or, or_false, false_or, ne_eq]; done) | (simp only [pBreaks, pBrkNo, pAside, bI, if_pos c30, decide_eq_true c30, c37, Int32.not_le.mp c37, c51, Int32.not_le.mpr c51, c117, if_true, if_false, Bool.false_eq_true, not_false_eq_true, not_true_eq_false, decide_true, decide_false, Bool.and_true, Bool.true_and, Bool.and_false, Bool.false_and, Bool.or_true, Bool.true_or, Bool.or_false, Bool.false_or, and_self, and_true, true_and, and_false, false_and, or_true, true_or, or_false, false_or, ne_eq]; rfl)) (by
  rw [show pBrkT (μ.2 2) s v k t = (s 0, s 3, s (29 + pQ (μ.2 2) s v)) from by first | (simp only [pBrkT, pBrkNo, c30, c37, Int32.not_le.mp c37, c51, Int32.not_le.mpr c51, c117, if_true, if_false, Bool.false_eq_true, not_false_eq_true, not_true_eq_false, decide_true, decide_false, Bool.and_true, Bool.true_and, Bool.and_false, Bool.false_and, Bool.or_true, Bool.true_or, Bool.or_false, Bool.false_or, and_self, and_true, true_and, and_false, false_and, or_true, true_or, or_false, false_or, ne_eq]; done) | (simp only [pBrkT, pBrkNo, c30, c37, Int32.not_le.mp c37, c51, Int32.not_le.mpr c51, c117, if_true, if_false, Bool.false_eq_true, not_false_eq_true, not_true_eq_false, decide_true, decide_false, Bool.and_true, Bool.true_and, Bool.and_false, Bool.false_and, Bool.or_true, Bool.true_or, Bool.or_false, Bool.false_or, and_self, and_true, true_and, and_false, false_and, or_true, true_or, or_false, false_or, ne_eq]; rfl) | (simp only [pBrkT, pBrkNo, if_pos c30, decide_eq_true c30, c37, Int32.not_le.mp c37, c51, Int32.not_le.mpr c51, c117, if_true, if_false, Bool.false_eq_true, not_false_eq_true, not_true_eq_false, decide_true, decide_false, Bool.and_true, Bool.true_and, Bool.and_false, Bool.false_and, Bool.or_true, Bool.true_or, Bool.or_false, Bool.false_or, and_self, and_true, true_and, and_false, false_and, or_true, true_or, or_false, false_or, ne_eq]; done) | (simp only [pBrkT, pBrkNo, if_pos c30, decide_eq_true c30, c37, Int32.not_le.mp c37, c51, Int32.not_le.mpr c51, c117, if_true, if_false, Bool.false_eq_true, not_false_eq_true, not_true_eq_false, decide_true, decide_false, Bool.and_true, Bool.true_and, Bool.and_false, Bool.false_and, Bool.or_true, Bool.true_or, Bool.or_false, Bool.false_or, and_self, and_true, true_and, and_false, false_and, or_true, true_or, or_false, false_or, ne_eq]; rfl)]
  exact congrArg (fun r => md_H h m (md_sa (mAs μ (s 0, s 3, s (29 + pQ (μ.2 2) s v))) j r)) (pBack rfl (pQ_l hp hs (by omega))))
        · replace c117 : (pReason (μ.2 2) (pAdd (pAdd (upd s 0 (pFrom (μ.2 2) s k)) 3 (pGrows (μ.2 2) (upd s 0 (pFrom (μ.2 2) s k)) v ((pFrom (μ.2 2) s k) - (s 0)))) (29 + (pQ (μ.2 2) s v)) ((pFrom (μ.2 2) s k) - (s 0))) k) = 0 := c117
          refine ax_iconst (pc := 120) (v := nI 1) G dX10_breaks_120 ic_1 ?_
          refine ax_goto (pc := 121) (tgt := 125) G dX10_breaks_121 rfl ?_
          refine ax_istore (pc := 125) G dX10_breaks_125 (Nat.le_of_ble_eq_true rfl) rfl ?_
          refine ax_aload_n (pc := 127) G dX10_breaks_127 rfl rfl ?_
          refine ax_iconst (pc := 128) (v := nI 0) G dX10_breaks_128 ic_0 ?_
          refine ax_aload_n (pc := 129) G dX10_breaks_129 rfl rfl ?_
          refine md_get (pc := 130) (v := .int (s 0)) G flX10_290_8 dX10_breaks_130 rfl ?_
          refine md_sts (pc := 133) (i := 0) G hj hm dX10_breaks_133 rfl (by omega) ?_
          refine ax_aload_n (pc := 134) G dX10_breaks_134 rfl rfl ?_
          refine ax_iconst (pc := 135) (v := nI 3) G dX10_breaks_135 ic_3 ?_
          refine ax_aload_n (pc := 136) G dX10_breaks_136 rfl rfl ?_
          refine md_get (pc := 137) (v := .int (s 3)) G flX10_293_8 dX10_breaks_137 rfl ?_
          refine md_sts (pc := 140) (i := 3) G hj hm dX10_breaks_140 rfl (by omega) ?_
          refine ax_aload_n (pc := 141) G dX10_breaks_141 rfl rfl ?_
          refine ax_iload (pc := 142) G dX10_breaks_142 rfl ?_
          refine ax_aload_n (pc := 144) G dX10_breaks_144 rfl rfl ?_
          refine md_get (pc := 145) (v := .int (s (29 + (pQ (μ.2 2) s v)))) G flX10_296_8 dX10_breaks_145 rfl ?_
          refine md_sts (pc := 148) (i := 29 + (pQ (μ.2 2) s v)) G hj hm dX10_breaks_148 rfl (by omega) ?_
          refine ax_iload (pc := 149) G dX10_breaks_149 rfl ?_
          exact ax_iretE (pc := 151) G E rfl (rfl) dX10_breaks_151 (by first | (simp only [pBreaks, pBrkNo, pAside, bI, c30, c37, Int32.not_le.mp c37, c51, Int32.not_le.mpr c51, c117, if_true, if_false, Bool.false_eq_true, not_false_eq_true, not_true_eq_false, decide_true, decide_false, Bool.and_true, Bool.true_and, Bool.and_false, Bool.false_and, Bool.or_true, Bool.true_or, Bool.or_false, Bool.false_or, and_self, and_true, true_and, and_false, false_and, or_true, true_or, or_false, false_or, ne_eq]; done) | (simp only [pBreaks, pBrkNo, pAside, bI, c30, c37, Int32.not_le.mp c37, c51, Int32.not_le.mpr c51, c117, if_true, if_false, Bool.false_eq_true, not_false_eq_true, not_true_eq_false, decide_true, decide_false, Bool.and_true, Bool.true_and, Bool.and_false, Bool.false_and, Bool.or_true, Bool.true_or, Bool.or_false, Bool.false_or, and_self, and_true, true_and, and_false, false_and, or_true, true_or, or_false, false_or, ne_eq]; rfl) | (simp only [pBreaks, pBrkNo, pAside, bI, if_pos c30, decide_eq_true c30, c37, Int32.not_le.mp c37, c51, Int32.not_le.mpr c51, if_pos c117, decide_eq_true c117, if_true, if_false, Bool.false_eq_true, not_false_eq_true, not_true_eq_false, decide_true, decide_false, Bool.and_true, Bool.true_and, Bool.and_false, Bool.false_and, Bool.or_true, Bool.true_or, Bool.or_false, Bool.false_or, and_self, and_true, true_and, and_false, false_and, or_true, true_or, or_false, false_or, ne_eq]; done) | (simp only [pBreaks, pBrkNo, pAside, bI, if_pos c30, decide_eq_true c30, c37, Int32.not_le.mp c37, c51, Int32.not_le.mpr c51, if_pos c117, decide_eq_true c117, if_true, if_false, Bool.false_eq_true, not_false_eq_true, not_true_eq_false, decide_true, decide_false, Bool.and_true, Bool.true_and, Bool.and_false, Bool.false_and, Bool.or_true, Bool.true_or, Bool.or_false, Bool.false_or, and_self, and_true, true_and, and_false, false_and, or_true, true_or, or_false, false_or, ne_eq]; rfl)) (by
  rw [show pBrkT (μ.2 2) s v k t = (s 0, s 3, s (29 + pQ (μ.2 2) s v)) from by first | (simp only [pBrkT, pBrkNo, c30, c37, Int32.not_le.mp c37, c51, Int32.not_le.mpr c51, c117, if_true, if_false, Bool.false_eq_true, not_false_eq_true, not_true_eq_false, decide_true, decide_false, Bool.and_true, Bool.true_and, Bool.and_false, Bool.false_and, Bool.or_true, Bool.true_or, Bool.or_false, Bool.false_or, and_self, and_true, true_and, and_false, false_and, or_true, true_or, or_false, false_or, ne_eq]; done) | (simp only [pBrkT, pBrkNo, c30, c37, Int32.not_le.mp c37, c51, Int32.not_le.mpr c51, c117, if_true, if_false, Bool.false_eq_true, not_false_eq_true, not_true_eq_false, decide_true, decide_false, Bool.and_true, Bool.true_and, Bool.and_false, Bool.false_and, Bool.or_true, Bool.true_or, Bool.or_false, Bool.false_or, and_self, and_true, true_and, and_false, false_and, or_true, true_or, or_false, false_or, ne_eq]; rfl) | (simp only [pBrkT, pBrkNo, if_pos c30, decide_eq_true c30, c37, Int32.not_le.mp c37, c51, Int32.not_le.mpr c51, if_pos c117, decide_eq_true c117, if_true, if_false, Bool.false_eq_true, not_false_eq_true, not_true_eq_false, decide_true, decide_false, Bool.and_true, Bool.true_and, Bool.and_false, Bool.false_and, Bool.or_true, Bool.true_or, Bool.or_false, Bool.false_or, and_self, and_true, true_and, and_false, false_and, or_true, true_or, or_false, false_or, ne_eq]; done) | (simp only [pBrkT, pBrkNo, if_pos c30, decide_eq_true c30, c37, Int32.not_le.mp c37, c51, Int32.not_le.mpr c51, if_pos c117, decide_eq_true c117, if_true, if_false, Bool.false_eq_true, not_false_eq_true, not_true_eq_false, decide_true, decide_false, Bool.and_true, Bool.true_and, Bool.and_false, Bool.false_and, Bool.or_true, Bool.true_or, Bool.or_false, Bool.false_or, and_self, and_true, true_and, and_false, false_and, or_true, true_or, or_false, false_or, ne_eq]; rfl)]
  exact congrArg (fun r => md_H h m (md_sa (mAs μ (s 0, s 3, s (29 + pQ (μ.2 2) s v))) j r)) (pBack rfl (pQ_l hp hs (by omega))))
      · replace c51 : ¬ (pFrom (μ.2 2) s k) < ((s 0) + (pDur (μ.2 2) s v)) := c51
        refine ax_iconst (pc := 54) (v := nI 0) G dX10_breaks_54 ic_0 ?_
        exact ax_iretE (pc := 55) G E rfl (rfl) dX10_breaks_55 (by first | (simp only [pBreaks, pBrkNo, c30, c37, Int32.not_le.mp c37, c51, Int32.not_lt.mp c51, if_true, if_false, Bool.false_eq_true, not_false_eq_true, not_true_eq_false, decide_true, decide_false, Bool.and_true, Bool.true_and, Bool.and_false, Bool.false_and, Bool.or_true, Bool.true_or, Bool.or_false, Bool.false_or, and_self, and_true, true_and, and_false, false_and, or_true, true_or, or_false, false_or, ne_eq]; done) | (simp only [pBreaks, pBrkNo, c30, c37, Int32.not_le.mp c37, c51, Int32.not_lt.mp c51, if_true, if_false, Bool.false_eq_true, not_false_eq_true, not_true_eq_false, decide_true, decide_false, Bool.and_true, Bool.true_and, Bool.and_false, Bool.false_and, Bool.or_true, Bool.true_or, Bool.or_false, Bool.false_or, and_self, and_true, true_and, and_false, false_and, or_true, true_or, or_false, false_or, ne_eq]; rfl) | (simp only [pBreaks, pBrkNo, if_pos c30, decide_eq_true c30, c37, Int32.not_le.mp c37, c51, Int32.not_lt.mp c51, if_true, if_false, Bool.false_eq_true, not_false_eq_true, not_true_eq_false, decide_true, decide_false, Bool.and_true, Bool.true_and, Bool.and_false, Bool.false_and, Bool.or_true, Bool.true_or, Bool.or_false, Bool.false_or, and_self, and_true, true_and, and_false, false_and, or_true, true_or, or_false, false_or, ne_eq]; done) | (simp only [pBreaks, pBrkNo, if_pos c30, decide_eq_true c30, c37, Int32.not_le.mp c37, c51, Int32.not_lt.mp c51, if_true, if_false, Bool.false_eq_true, not_false_eq_true, not_true_eq_false, decide_true, decide_false, Bool.and_true, Bool.true_and, Bool.and_false, Bool.false_and, Bool.or_true, Bool.true_or, Bool.or_false, Bool.false_or, and_self, and_true, true_and, and_false, false_and, or_true, true_or, or_false, false_or, ne_eq]; rfl)) (by first | (simp only [pBrkT, pBrkNo, c30, c37, Int32.not_le.mp c37, c51, Int32.not_lt.mp c51, if_true, if_false, Bool.false_eq_true, not_false_eq_true, not_true_eq_false, decide_true, decide_false, Bool.and_true, Bool.true_and, Bool.and_false, Bool.false_and, Bool.or_true, Bool.true_or, Bool.or_false, Bool.false_or, and_self, and_true, true_and, and_false, false_and, or_true, true_or, or_false, false_or, ne_eq]; done) | (simp only [pBrkT, pBrkNo, c30, c37, Int32.not_le.mp c37, c51, Int32.not_lt.mp c51, if_true, if_false, Bool.false_eq_true, not_false_eq_true, not_true_eq_false, decide_true, decide_false, Bool.and_true, Bool.true_and, Bool.and_false, Bool.false_and, Bool.or_true, Bool.true_or, Bool.or_false, Bool.false_or, and_self, and_true, true_and, and_false, false_and, or_true, true_or, or_false, false_or, ne_eq]; rfl) | (simp only [pBrkT, pBrkNo, if_pos c30, decide_eq_true c30, c37, Int32.not_le.mp c37, c51, Int32.not_lt.mp c51, if_true, if_false, Bool.false_eq_true, not_false_eq_true, not_true_eq_false, decide_true, decide_false, Bool.and_true, Bool.true_and, Bool.and_false, Bool.false_and, Bool.or_true, Bool.true_or, Bool.or_false, Bool.false_or, and_self, and_true, true_and, and_false, false_and, or_true, true_or, or_false, false_or, ne_eq]; done) | (simp only [pBrkT, pBrkNo, if_pos c30, decide_eq_true c30, c37, Int32.not_le.mp c37, c51, Int32.not_lt.mp c51, if_true, if_false, Bool.false_eq_true, not_false_eq_true, not_true_eq_false, decide_true, decide_false, Bool.and_true, Bool.true_and, Bool.and_false, Bool.false_and, Bool.or_true, Bool.true_or, Bool.or_false, Bool.false_or, and_self, and_true, true_and, and_false, false_and, or_true, true_or, or_false, false_or, ne_eq]; rfl))

theorem mt_breaking {Ω : ax_O} (hA : ax_Amb Ω) {h : ax_H} {m : Nat} {μ : md_S} {t : pT} {s : pR} {j : Nat} (hm : Ω.2.1.heap.size ≤ m) (hj : j = 4 ∨ j = 6) {P V O : Nat} (hp : pWP (μ.2 2) P V O) {A : Nat} (hs : pWS s A) (v : Nat) (hv : v < 20) : ax_Met Ω yX10_breaking 8 0 0 [.ref m, .ref (m + j), .int (nI v)] (md_H h m (md_sa (mAs μ t) j s)) (.inl (some (.int (oI (pBr (μ.2 2) s v A))))) (md_H h m (md_sa (mAs μ (pBrT (μ.2 2) s v t A)) j s)) := by
  refine ax_met q3064 q142 (by decide +kernel) (by decide) hA (Nat.le_of_ble_eq_true rfl) (fun Γ G E => ?_)
  have hA9 := hs.lA
  have L0 : ∀ (n i : Nat), i + n = A → ax_W Ω Γ 0 0 (md_H h m (md_sa (mAs μ (pBrT (μ.2 2) s v t i)) j s)) 6 [some (.ref m), some (.ref (m + j)), some (.int (nI v)), some (.int (oI (pBr (μ.2 2) s v i))), some (.int (nI (20 + i)))] [] := by
    intro n
    induction n with
    | zero =>
      intro i hi
      have hi9 : A = i := by omega
      subst hi9
      refine ax_iload (pc := 6) G dX10_breaking_6 rfl ?_
      refine ax_bipush (pc := 8) (v := nI 20) G dX10_breaking_8 ib_20 ?_
      refine ax_aload_n (pc := 10) G dX10_breaking_10 rfl rfl ?_
      refine ax_bipush (pc := 11) (v := nI 14) G dX10_breaking_11 ib_14 ?_
      refine md_lds (pc := 13) (i := 14) G hj dX10_breaking_13 rfl (by omega) ?_
      refine ax_top (show Value.int (s 14) = .int (nI A) from congrArg Value.int ((hs).hA)) ?_
      refine ax_iaddN (pc := 14) G dX10_breaking_14 ?_
      refine ax_icmp_geN (pc := 15) (tgt := 59) G dX10_breaking_15 rfl (by omega) (by omega) (fun c15 => ?_) (fun c15 => ?_)
      · refine ax_iload_n (pc := 59) G dX10_breaking_59 rfl rfl ?_
        exact ax_iretE (pc := 60) G E rfl (rfl) dX10_breaking_60 (rfl) (rfl)
      · omega
    | succ n ih =>
      intro i hi
      rcases e : pBr (μ.2 2) s v i with _ | o
      · show ax_W Ω Γ _ _ _ _ [some (.ref m), some (.ref (m + j)), some (.int (nI v)), some (.int (-1)), some (.int (nI (20 + i)))] _
        refine ax_iload (pc := 6) G dX10_breaking_6 rfl ?_
        refine ax_bipush (pc := 8) (v := nI 20) G dX10_breaking_8 ib_20 ?_
        refine ax_aload_n (pc := 10) G dX10_breaking_10 rfl rfl ?_
        refine ax_bipush (pc := 11) (v := nI 14) G dX10_breaking_11 ib_14 ?_
        refine md_lds (pc := 13) (i := 14) G hj dX10_breaking_13 rfl (by omega) ?_
        refine ax_top (show Value.int (s 14) = .int (nI A) from congrArg Value.int ((hs).hA)) ?_
        refine ax_iaddN (pc := 14) G dX10_breaking_14 ?_
        refine ax_icmp_geN (pc := 15) (tgt := 59) G dX10_breaking_15 rfl (by omega) (by omega) (fun c15 => ?_) (fun c15 => ?_)
        · omega
        · refine ax_aload_n (pc := 18) G dX10_breaking_18 rfl rfl ?_
          refine ax_aload_n (pc := 19) G dX10_breaking_19 rfl rfl ?_
          refine ax_iload_n (pc := 20) G dX10_breaking_20 rfl rfl ?_
          refine ax_iload (pc := 21) G dX10_breaking_21 rfl ?_
          refine ax_cV1 (pc := 23) (kb := 0) (nb := 0) G (mt_breaks hA (μ := μ) (t := (pBrT (μ.2 2) s v t i)) hm hj hp hs v (20 + i) (by omega) (by omega)) lVX10_299_8 dX10_breaking_23 md_obj rfl (by decide) (Nat.le_of_ble_eq_true rfl) rfl ?_
          show ax_W Ω Γ _ _ (md_H h m (md_sa (mAs μ (pBrkT (μ.2 2) s v (20 + i) (pBrT (μ.2 2) s v t i))) j s)) _ _ _
          refine ax_if_eq (pc := 26) (tgt := 53) G dX10_breaking_26 rfl (fun c26 => ?_) (fun c26 => ?_)
          · replace c26 : (bI (pBreaks (μ.2 2) s v (20 + i))) = 0 := c26
            have c26b := bI_f c26
            refine ax_iincN (pc := 53) (n := 1) G dX10_breaking_53 rfl rfl ic_1 ?_
            refine ax_goto (pc := 56) (tgt := 6) G dX10_breaking_56 rfl ?_
            have q := ih (i + 1) (by omega)
            rw [show pBr (μ.2 2) s v (i + 1) = none from by first | (simp only [pBr, pBrS, e, c15, c26b, if_true, if_false, Bool.false_eq_true, not_false_eq_true, not_true_eq_false, decide_true, decide_false, Bool.and_true, Bool.true_and, Bool.and_false, Bool.false_and, Bool.or_true, Bool.true_or, Bool.or_false, Bool.false_or, and_self, and_true, true_and, and_false, false_and, or_true, true_or, or_false, false_or, ne_eq]; done) | (simp only [pBr, pBrS, e, c15, c26b, if_true, if_false, Bool.false_eq_true, not_false_eq_true, not_true_eq_false, decide_true, decide_false, Bool.and_true, Bool.true_and, Bool.and_false, Bool.false_and, Bool.or_true, Bool.true_or, Bool.or_false, Bool.false_or, and_self, and_true, true_and, and_false, false_and, or_true, true_or, or_false, false_or, ne_eq]; rfl)] at q
            exact q
          · replace c26 : ¬ (bI (pBreaks (μ.2 2) s v (20 + i))) = 0 := c26
            have c26b := bI_t c26
            refine ax_iload_n (pc := 29) G dX10_breaking_29 rfl rfl ?_
            refine ax_iconst (pc := 30) (v := (-1)) G dX10_breaking_30 (by decide) ?_
            refine ax_icmp_eq (pc := 31) (tgt := 50) G dX10_breaking_31 rfl (fun _ => ?_) (fun c9 => absurd rfl c9)
            refine ax_iload (pc := 50) G dX10_breaking_50 rfl ?_
            refine ax_istore_n (pc := 52) G dX10_breaking_52 rfl (Nat.le_of_ble_eq_true rfl) rfl ?_
            refine ax_iincN (pc := 53) (n := 1) G dX10_breaking_53 rfl rfl ic_1 ?_
            refine ax_goto (pc := 56) (tgt := 6) G dX10_breaking_56 rfl ?_
            have q := ih (i + 1) (by omega)
            rw [show pBr (μ.2 2) s v (i + 1) = some (20 + i) from by first | (simp only [pBr, pBrS, e, c15, c26b, if_true, if_false, Bool.false_eq_true, not_false_eq_true, not_true_eq_false, decide_true, decide_false, Bool.and_true, Bool.true_and, Bool.and_false, Bool.false_and, Bool.or_true, Bool.true_or, Bool.or_false, Bool.false_or, and_self, and_true, true_and, and_false, false_and, or_true, true_or, or_false, false_or, ne_eq]; done) | (simp only [pBr, pBrS, e, c15, c26b, if_true, if_false, Bool.false_eq_true, not_false_eq_true, not_true_eq_false, decide_true, decide_false, Bool.and_true, Bool.true_and, Bool.and_false, Bool.false_and, Bool.or_true, Bool.true_or, Bool.or_false, Bool.false_or, and_self, and_true, true_and, and_false, false_and, or_true, true_or, or_false, false_or, ne_eq]; rfl)] at q
            exact q
      · have ho := pBr_l e
        show ax_W Ω Γ _ _ _ _ [some (.ref m), some (.ref (m + j)), some (.int (nI v)), some (.int (nI o)), some (.int (nI (20 + i)))] _
        refine ax_iload (pc := 6) G dX10_breaking_6 rfl ?_
        refine ax_bipush (pc := 8) (v := nI 20) G dX10_breaking_8 ib_20 ?_
        refine ax_aload_n (pc := 10) G dX10_breaking_10 rfl rfl ?_
        refine ax_bipush (pc := 11) (v := nI 14) G dX10_breaking_11 ib_14 ?_
        refine md_lds (pc := 13) (i := 14) G hj dX10_breaking_13 rfl (by omega) ?_
        refine ax_top (show Value.int (s 14) = .int (nI A) from congrArg Value.int ((hs).hA)) ?_
        refine ax_iaddN (pc := 14) G dX10_breaking_14 ?_
        refine ax_icmp_geN (pc := 15) (tgt := 59) G dX10_breaking_15 rfl (by omega) (by omega) (fun c15 => ?_) (fun c15 => ?_)
        · omega
        · refine ax_aload_n (pc := 18) G dX10_breaking_18 rfl rfl ?_
          refine ax_aload_n (pc := 19) G dX10_breaking_19 rfl rfl ?_
          refine ax_iload_n (pc := 20) G dX10_breaking_20 rfl rfl ?_
          refine ax_iload (pc := 21) G dX10_breaking_21 rfl ?_
          refine ax_cV1 (pc := 23) (kb := 0) (nb := 0) G (mt_breaks hA (μ := μ) (t := (pBrT (μ.2 2) s v t i)) hm hj hp hs v (20 + i) (by omega) (by omega)) lVX10_299_8 dX10_breaking_23 md_obj rfl (by decide) (Nat.le_of_ble_eq_true rfl) rfl ?_
          show ax_W Ω Γ _ _ (md_H h m (md_sa (mAs μ (pBrkT (μ.2 2) s v (20 + i) (pBrT (μ.2 2) s v t i))) j s)) _ _ _
          refine ax_if_eq (pc := 26) (tgt := 53) G dX10_breaking_26 rfl (fun c26 => ?_) (fun c26 => ?_)
          · replace c26 : (bI (pBreaks (μ.2 2) s v (20 + i))) = 0 := c26
            have c26b := bI_f c26
            refine ax_iincN (pc := 53) (n := 1) G dX10_breaking_53 rfl rfl ic_1 ?_
            refine ax_goto (pc := 56) (tgt := 6) G dX10_breaking_56 rfl ?_
            have q := ih (i + 1) (by omega)
            rw [show pBr (μ.2 2) s v (i + 1) = some (o) from by first | (simp only [pBr, pBrS, e, c15, c26b, if_true, if_false, Bool.false_eq_true, not_false_eq_true, not_true_eq_false, decide_true, decide_false, Bool.and_true, Bool.true_and, Bool.and_false, Bool.false_and, Bool.or_true, Bool.true_or, Bool.or_false, Bool.false_or, and_self, and_true, true_and, and_false, false_and, or_true, true_or, or_false, false_or, ne_eq]; done) | (simp only [pBr, pBrS, e, c15, c26b, if_true, if_false, Bool.false_eq_true, not_false_eq_true, not_true_eq_false, decide_true, decide_false, Bool.and_true, Bool.true_and, Bool.and_false, Bool.false_and, Bool.or_true, Bool.true_or, Bool.or_false, Bool.false_or, and_self, and_true, true_and, and_false, false_and, or_true, true_or, or_false, false_or, ne_eq]; rfl)] at q
            exact q
          · replace c26 : ¬ (bI (pBreaks (μ.2 2) s v (20 + i))) = 0 := c26
            have c26b := bI_t c26
            refine ax_iload_n (pc := 29) G dX10_breaking_29 rfl rfl ?_
            refine ax_iconst (pc := 30) (v := (-1)) G dX10_breaking_30 (by decide) ?_
            refine ax_icmp_eq (pc := 31) (tgt := 50) G dX10_breaking_31 rfl (fun c9 => absurd c9 (nI_nm (by omega))) (fun _ => ?_)
            refine ax_aload_n (pc := 34) G dX10_breaking_34 rfl rfl ?_
            refine ax_aload_n (pc := 35) G dX10_breaking_35 rfl rfl ?_
            refine ax_iload (pc := 36) G dX10_breaking_36 rfl ?_
            refine ax_cV1 (pc := 38) (kb := 0) (nb := 0) G (mt_itsFrom hA hj (20 + i) (by omega)) lVX10_227_8 dX10_breaking_38 md_obj rfl (by decide) (Nat.le_of_ble_eq_true rfl) rfl ?_
            refine ax_aload_n (pc := 41) G dX10_breaking_41 rfl rfl ?_
            refine ax_aload_n (pc := 42) G dX10_breaking_42 rfl rfl ?_
            refine ax_iload_n (pc := 43) G dX10_breaking_43 rfl rfl ?_
            refine ax_cV1 (pc := 44) (kb := 0) (nb := 0) G (mt_itsFrom hA hj o (by omega)) lVX10_227_8 dX10_breaking_44 md_obj rfl (by decide) (Nat.le_of_ble_eq_true rfl) rfl ?_
            refine ax_icmp_ge (pc := 47) (tgt := 53) G dX10_breaking_47 rfl (fun c47 => ?_) (fun c47 => ?_)
            · replace c47 : (pFrom (μ.2 2) s o) ≤ (pFrom (μ.2 2) s (20 + i)) := c47
              refine ax_iincN (pc := 53) (n := 1) G dX10_breaking_53 rfl rfl ic_1 ?_
              refine ax_goto (pc := 56) (tgt := 6) G dX10_breaking_56 rfl ?_
              have q := ih (i + 1) (by omega)
              rw [show pBr (μ.2 2) s v (i + 1) = some (o) from by first | (simp only [pBr, pBrS, e, c15, c26b, c47, Int32.not_lt.mpr c47, if_true, if_false, Bool.false_eq_true, not_false_eq_true, not_true_eq_false, decide_true, decide_false, Bool.and_true, Bool.true_and, Bool.and_false, Bool.false_and, Bool.or_true, Bool.true_or, Bool.or_false, Bool.false_or, and_self, and_true, true_and, and_false, false_and, or_true, true_or, or_false, false_or, ne_eq]; done) | (simp only [pBr, pBrS, e, c15, c26b, c47, Int32.not_lt.mpr c47, if_true, if_false, Bool.false_eq_true, not_false_eq_true, not_true_eq_false, decide_true, decide_false, Bool.and_true, Bool.true_and, Bool.and_false, Bool.false_and, Bool.or_true, Bool.true_or, Bool.or_false, Bool.false_or, and_self, and_true, true_and, and_false, false_and, or_true, true_or, or_false, false_or, ne_eq]; rfl)] at q
              exact q
            · replace c47 : ¬ (pFrom (μ.2 2) s o) ≤ (pFrom (μ.2 2) s (20 + i)) := c47
              refine ax_iload (pc := 50) G dX10_breaking_50 rfl ?_
              refine ax_istore_n (pc := 52) G dX10_breaking_52 rfl (Nat.le_of_ble_eq_true rfl) rfl ?_
              refine ax_iincN (pc := 53) (n := 1) G dX10_breaking_53 rfl rfl ic_1 ?_
              refine ax_goto (pc := 56) (tgt := 6) G dX10_breaking_56 rfl ?_
              have q := ih (i + 1) (by omega)
              rw [show pBr (μ.2 2) s v (i + 1) = some (20 + i) from by first | (simp only [pBr, pBrS, e, c15, c26b, c47, Int32.not_le.mp c47, if_true, if_false, Bool.false_eq_true, not_false_eq_true, not_true_eq_false, decide_true, decide_false, Bool.and_true, Bool.true_and, Bool.and_false, Bool.false_and, Bool.or_true, Bool.true_or, Bool.or_false, Bool.false_or, and_self, and_true, true_and, and_false, false_and, or_true, true_or, or_false, false_or, ne_eq]; done) | (simp only [pBr, pBrS, e, c15, c26b, c47, Int32.not_le.mp c47, if_true, if_false, Bool.false_eq_true, not_false_eq_true, not_true_eq_false, decide_true, decide_false, Bool.and_true, Bool.true_and, Bool.and_false, Bool.false_and, Bool.or_true, Bool.true_or, Bool.or_false, Bool.false_or, and_self, and_true, true_and, and_false, false_and, or_true, true_or, or_false, false_or, ne_eq]; rfl)] at q
              exact q
  show ax_W Ω Γ 0 0 (md_H h m (md_sa (mAs μ t) j s)) 0 [some (.ref m), some (.ref (m + j)), some (.int (nI v)), none, none] []
  refine ax_iconst (pc := 0) (v := (-1)) G dX10_breaking_0 (by decide) ?_
  refine ax_istore_n (pc := 1) G dX10_breaking_1 rfl (Nat.le_of_ble_eq_true rfl) rfl ?_
  refine ax_bipush (pc := 2) (v := nI 20) G dX10_breaking_2 ib_20 ?_
  refine ax_istore (pc := 4) G dX10_breaking_4 (Nat.le_of_ble_eq_true rfl) rfl ?_
  exact L0 A 0 (by omega)

theorem mt_makesVisit {Ω : ax_O} (hA : ax_Amb Ω) {h : ax_H} {m : Nat} {μ : md_S} {t : pT} {s : pR} {j : Nat} (hm : Ω.2.1.heap.size ≤ m) (hj : j = 4 ∨ j = 6) {P V O : Nat} (hp : pWP (μ.2 2) P V O) {A : Nat} (hs : pWS s A) (v : Nat) (hv : v < 20) : ax_Met Ω yX10_makesVisit 9 0 0 [.ref m, .ref (m + j), .int (nI v)] (md_H h m (md_sa (mAs μ t) j s)) (.inl (some (.int ((pMV (μ.2 2) s v A).2)))) (md_H h m (md_sa (mAs μ (pBrT (μ.2 2) (pComes (μ.2 2) s v) v t A)) j ((pMV (μ.2 2) s v A).1))) := by
  refine ax_met q3060 q142 (by decide +kernel) (by decide) hA (Nat.le_of_ble_eq_true rfl) (fun Γ G E => ?_)
  have hA9 := hs.lA
  show ax_W Ω Γ 0 0 (md_H h m (md_sa (mAs μ t) j s)) 0 [some (.ref m), some (.ref (m + j)), some (.int (nI v)), none] []
  refine ax_aload_n (pc := 0) G dX10_makesVisit_0 rfl rfl ?_
  refine ax_aload_n (pc := 1) G dX10_makesVisit_1 rfl rfl ?_
  refine ax_iload_n (pc := 2) G dX10_makesVisit_2 rfl rfl ?_
  refine ax_cV0 (pc := 3) (kb := 0) (nb := 0) G (mt_comesTo hA (μ := (mAs μ t)) hm hj hp hs v (by omega)) lVX10_309_8 dX10_makesVisit_3 md_obj rfl (by decide) (Nat.le_of_ble_eq_true rfl) rfl ?_
  show ax_W Ω Γ _ _ (md_H h m (md_sa (mAs μ t) j (pComes (μ.2 2) s v))) _ _ _
  refine ax_aload_n (pc := 6) G dX10_makesVisit_6 rfl rfl ?_
  refine ax_aload_n (pc := 7) G dX10_makesVisit_7 rfl rfl ?_
  refine ax_iload_n (pc := 8) G dX10_makesVisit_8 rfl rfl ?_
  refine ax_cV1 (pc := 9) (kb := 0) (nb := 0) G (mt_breaking hA (μ := μ) (t := t) hm hj hp (pWS.comes hp (hs) (by omega)) v (by omega)) lVX10_313_8 dX10_makesVisit_9 md_obj rfl (by decide) (Nat.le_of_ble_eq_true rfl) rfl ?_
  show ax_W Ω Γ _ _ (md_H h m (md_sa (mAs μ (pBrT (μ.2 2) (pComes (μ.2 2) s v) v t A)) j (pComes (μ.2 2) s v))) _ _ _
  refine ax_istore_n (pc := 12) G dX10_makesVisit_12 rfl (Nat.le_of_ble_eq_true rfl) rfl ?_
  show ax_W Ω Γ _ _ _ _ [some (.ref m), some (.ref (m + j)), some (.int (nI v)), some (.int (oI (pBr (μ.2 2) (pComes (μ.2 2) s v) v A)))] _
  rcases e : pBr (μ.2 2) (pComes (μ.2 2) s v) v A with _ | o
  · show ax_W Ω Γ _ _ _ _ [some (.ref m), some (.ref (m + j)), some (.int (nI v)), some (.int (-1))] _
    refine ax_iload_n (pc := 13) G dX10_makesVisit_13 rfl rfl ?_
    refine ax_iconst (pc := 14) (v := (-1)) G dX10_makesVisit_14 (by decide) ?_
    refine ax_icmp_eq (pc := 15) (tgt := 47) G dX10_makesVisit_15 rfl (fun _ => ?_) (fun c9 => absurd rfl c9)
    refine ax_aload_n (pc := 47) G dX10_makesVisit_47 rfl rfl ?_
    refine ax_aload_n (pc := 48) G dX10_makesVisit_48 rfl rfl ?_
    refine ax_iload_n (pc := 49) G dX10_makesVisit_49 rfl rfl ?_
    refine ax_cV0 (pc := 50) (kb := 0) (nb := 0) G (mt_finishes hA (μ := (mAs μ (pBrT (μ.2 2) (pComes (μ.2 2) s v) v t A))) hm hj hp (pWS.comes hp (hs) (by omega)) v (by omega)) lVX10_316_8 dX10_makesVisit_50 md_obj rfl (by decide) (Nat.le_of_ble_eq_true rfl) rfl ?_
    show ax_W Ω Γ _ _ (md_H h m (md_sa (mAs μ (pBrT (μ.2 2) (pComes (μ.2 2) s v) v t A)) j (pFinishes (μ.2 2) (pComes (μ.2 2) s v) v))) _ _ _
    refine ax_aload_n (pc := 53) G dX10_makesVisit_53 rfl rfl ?_
    refine ax_bipush (pc := 54) (v := nI 35) G dX10_makesVisit_54 ib_35 ?_
    refine ax_aload_n (pc := 56) G dX10_makesVisit_56 rfl rfl ?_
    refine ax_aload_n (pc := 57) G dX10_makesVisit_57 rfl rfl ?_
    refine ax_iload_n (pc := 58) G dX10_makesVisit_58 rfl rfl ?_
    refine ax_cV1 (pc := 59) (kb := 0) (nb := 0) G (mt_itsProposal hA hj v (by omega)) lVX10_256_8 dX10_makesVisit_59 md_obj rfl (by decide) (Nat.le_of_ble_eq_true rfl) rfl ?_
    have := pQ_l (pl := μ.2 2) (s := (pFinishes (μ.2 2) (pComes (μ.2 2) s v) v)) (k := v) hp (pWS.finishes hp (pWS.comes hp (hs) (by omega)) (by omega)) (by omega)
    refine ax_top (show Value.int (pProp (μ.2 2) (pFinishes (μ.2 2) (pComes (μ.2 2) s v) v) v) = .int (nI (pQ (μ.2 2) (pFinishes (μ.2 2) (pComes (μ.2 2) s v) v) v)) from congrArg Value.int (pQ_e (s := (pFinishes (μ.2 2) (pComes (μ.2 2) s v) v)) hp (pWS.finishes hp (pWS.comes hp (hs) (by omega)) (by omega)) (by omega))) ?_
    refine ax_iaddN (pc := 62) G dX10_makesVisit_62 ?_
    refine ax_dup2_11 (pc := 63) G dX10_makesVisit_63 rfl rfl ?_
    refine md_lds (pc := 64) (i := 35 + (pQ (μ.2 2) (pFinishes (μ.2 2) (pComes (μ.2 2) s v) v) v)) G hj dX10_makesVisit_64 rfl (by omega) ?_
    refine ax_iconst (pc := 65) (v := nI 1) G dX10_makesVisit_65 ic_1 ?_
    refine ax_iadd (pc := 66) G dX10_makesVisit_66 ?_
    refine md_sts (pc := 67) (i := 35 + (pQ (μ.2 2) (pFinishes (μ.2 2) (pComes (μ.2 2) s v) v) v)) G hj hm dX10_makesVisit_67 rfl (by omega) ?_
    show ax_W Ω Γ _ _ (md_H h m (md_sa (mAs μ (pBrT (μ.2 2) (pComes (μ.2 2) s v) v t A)) j (pAdd (pFinishes (μ.2 2) (pComes (μ.2 2) s v) v) (35 + (pQ (μ.2 2) (pFinishes (μ.2 2) (pComes (μ.2 2) s v) v) v)) (nI 1)))) _ _ _
    refine ax_iconst (pc := 68) (v := nI 0) G dX10_makesVisit_68 ic_0 ?_
    exact ax_iretE (pc := 69) G E rfl (rfl) dX10_makesVisit_69 (by first | (simp only [pMV, e, if_true, if_false, Bool.false_eq_true, not_false_eq_true, not_true_eq_false, decide_true, decide_false, Bool.and_true, Bool.true_and, Bool.and_false, Bool.false_and, Bool.or_true, Bool.true_or, Bool.or_false, Bool.false_or, and_self, and_true, true_and, and_false, false_and, or_true, true_or, or_false, false_or, ne_eq]; done) | (simp only [pMV, e, if_true, if_false, Bool.false_eq_true, not_false_eq_true, not_true_eq_false, decide_true, decide_false, Bool.and_true, Bool.true_and, Bool.and_false, Bool.false_and, Bool.or_true, Bool.true_or, Bool.or_false, Bool.false_or, and_self, and_true, true_and, and_false, false_and, or_true, true_or, or_false, false_or, ne_eq]; rfl)) (by first | (simp only [pMV, e, if_true, if_false, Bool.false_eq_true, not_false_eq_true, not_true_eq_false, decide_true, decide_false, Bool.and_true, Bool.true_and, Bool.and_false, Bool.false_and, Bool.or_true, Bool.true_or, Bool.or_false, Bool.false_or, and_self, and_true, true_and, and_false, false_and, or_true, true_or, or_false, false_or, ne_eq]; done) | (simp only [pMV, e, if_true, if_false, Bool.false_eq_true, not_false_eq_true, not_true_eq_false, decide_true, decide_false, Bool.and_true, Bool.true_and, Bool.and_false, Bool.false_and, Bool.or_true, Bool.true_or, Bool.or_false, Bool.false_or, and_self, and_true, true_and, and_false, false_and, or_true, true_or, or_false, false_or, ne_eq]; rfl))
  · have ho_o := pBr_l e
    show ax_W Ω Γ _ _ _ _ [some (.ref m), some (.ref (m + j)), some (.int (nI v)), some (.int (nI o))] _
    refine ax_iload_n (pc := 13) G dX10_makesVisit_13 rfl rfl ?_
    refine ax_iconst (pc := 14) (v := (-1)) G dX10_makesVisit_14 (by decide) ?_
    refine ax_icmp_eq (pc := 15) (tgt := 47) G dX10_makesVisit_15 rfl (fun c9 => absurd c9 (nI_nm (by omega))) (fun _ => ?_)
    refine ax_aload_n (pc := 18) G dX10_makesVisit_18 rfl rfl ?_
    refine ax_aload_n (pc := 19) G dX10_makesVisit_19 rfl rfl ?_
    refine ax_iload_n (pc := 20) G dX10_makesVisit_20 rfl rfl ?_
    refine ax_aload_n (pc := 21) G dX10_makesVisit_21 rfl rfl ?_
    refine ax_aload_n (pc := 22) G dX10_makesVisit_22 rfl rfl ?_
    refine ax_iload_n (pc := 23) G dX10_makesVisit_23 rfl rfl ?_
    refine ax_cV1 (pc := 24) (kb := 0) (nb := 0) G (mt_itsFrom hA hj o (by omega)) lVX10_227_8 dX10_makesVisit_24 md_obj rfl (by decide) (Nat.le_of_ble_eq_true rfl) rfl ?_
    refine ax_aload_n (pc := 27) G dX10_makesVisit_27 rfl rfl ?_
    refine ax_iconst (pc := 28) (v := nI 0) G dX10_makesVisit_28 ic_0 ?_
    refine md_lds (pc := 29) (i := 0) G hj dX10_makesVisit_29 rfl (by omega) ?_
    refine ax_isub (pc := 30) G dX10_makesVisit_30 ?_
    refine ax_iconst (pc := 31) (v := nI 1) G dX10_makesVisit_31 ic_1 ?_
    refine ax_cV0 (pc := 32) (kb := 0) (nb := 0) G (mt_passesT hA (μ := (mAs μ (pBrT (μ.2 2) (pComes (μ.2 2) s v) v t A))) hm hj hp (pWS.comes hp (hs) (by omega)) v (by omega) ((pFrom (μ.2 2) (pComes (μ.2 2) s v) o) - ((pComes (μ.2 2) s v) 0))) lVX10_305_8 dX10_makesVisit_32 md_obj rfl (by decide) (Nat.le_of_ble_eq_true rfl) rfl ?_
    show ax_W Ω Γ _ _ (md_H h m (md_sa (mAs μ (pBrT (μ.2 2) (pComes (μ.2 2) s v) v t A)) j (pPasses (μ.2 2) (pComes (μ.2 2) s v) v ((pFrom (μ.2 2) (pComes (μ.2 2) s v) o) - ((pComes (μ.2 2) s v) 0)) true))) _ _ _
    refine ax_aload_n (pc := 35) G dX10_makesVisit_35 rfl rfl ?_
    refine ax_bipush (pc := 36) (v := nI 67) G dX10_makesVisit_36 ib_67 ?_
    refine ax_iload_n (pc := 38) G dX10_makesVisit_38 rfl rfl ?_
    refine ax_iaddN (pc := 39) G dX10_makesVisit_39 ?_
    refine ax_dup2_11 (pc := 40) G dX10_makesVisit_40 rfl rfl ?_
    refine md_lds (pc := 41) (i := 67 + v) G hj dX10_makesVisit_41 rfl (by omega) ?_
    refine ax_iconst (pc := 42) (v := nI 1) G dX10_makesVisit_42 ic_1 ?_
    refine ax_iadd (pc := 43) G dX10_makesVisit_43 ?_
    refine md_sts (pc := 44) (i := 67 + v) G hj hm dX10_makesVisit_44 rfl (by omega) ?_
    show ax_W Ω Γ _ _ (md_H h m (md_sa (mAs μ (pBrT (μ.2 2) (pComes (μ.2 2) s v) v t A)) j (pAdd (pPasses (μ.2 2) (pComes (μ.2 2) s v) v ((pFrom (μ.2 2) (pComes (μ.2 2) s v) o) - ((pComes (μ.2 2) s v) 0)) true) (67 + v) (nI 1)))) _ _ _
    refine ax_iconst (pc := 45) (v := nI 1) G dX10_makesVisit_45 ic_1 ?_
    exact ax_iretE (pc := 46) G E rfl (rfl) dX10_makesVisit_46 (by first | (simp only [pMV, e, if_true, if_false, Bool.false_eq_true, not_false_eq_true, not_true_eq_false, decide_true, decide_false, Bool.and_true, Bool.true_and, Bool.and_false, Bool.false_and, Bool.or_true, Bool.true_or, Bool.or_false, Bool.false_or, and_self, and_true, true_and, and_false, false_and, or_true, true_or, or_false, false_or, ne_eq]; done) | (simp only [pMV, e, if_true, if_false, Bool.false_eq_true, not_false_eq_true, not_true_eq_false, decide_true, decide_false, Bool.and_true, Bool.true_and, Bool.and_false, Bool.false_and, Bool.or_true, Bool.true_or, Bool.or_false, Bool.false_or, and_self, and_true, true_and, and_false, false_and, or_true, true_or, or_false, false_or, ne_eq]; rfl)) (by first | (simp only [pMV, e, if_true, if_false, Bool.false_eq_true, not_false_eq_true, not_true_eq_false, decide_true, decide_false, Bool.and_true, Bool.true_and, Bool.and_false, Bool.false_and, Bool.or_true, Bool.true_or, Bool.or_false, Bool.false_or, and_self, and_true, true_and, and_false, false_and, or_true, true_or, or_false, false_or, ne_eq]; done) | (simp only [pMV, e, if_true, if_false, Bool.false_eq_true, not_false_eq_true, not_true_eq_false, decide_true, decide_false, Bool.and_true, Bool.true_and, Bool.and_false, Bool.false_and, Bool.or_true, Bool.true_or, Bool.or_false, Bool.false_or, and_self, and_true, true_and, and_false, false_and, or_true, true_or, or_false, false_or, ne_eq]; rfl))

theorem mt_idles {Ω : ax_O} (hA : ax_Amb Ω) {h : ax_H} {m : Nat} {μ : md_S} {s : pR} {j : Nat} (hm : Ω.2.1.heap.size ≤ m) (hj : j = 4 ∨ j = 6) {P V O : Nat} (hp : pWP (μ.2 2) P V O) {A : Nat} (hs : pWS s A)  : ax_Met Ω yX10_idles 3 0 0 [.ref m, .ref (m + j)] (md_H h m (md_sa μ j s)) (.inl (some (.int (nI 4)))) (md_H h m (md_sa μ j (pIdles (μ.2 2) s A))) := by
  refine ax_met q3072 q142 (by decide +kernel) (by decide) hA (Nat.le_of_ble_eq_true rfl) (fun Γ G E => ?_)
  have hA9 := hs.lA
  have L0 : ∀ (n i : Nat), i + n = A → ax_W Ω Γ 0 0 (md_H h m (md_sa μ j s)) 19 [some (.ref m), some (.ref (m + j)), some (.int (pIdleTo (μ.2 2) s i)), some (.int (nI (20 + i)))] [] := by
    intro n
    induction n with
    | zero =>
      intro i hi
      have hi9 : A = i := by omega
      subst hi9
      refine ax_iload_n (pc := 19) G dX10_idles_19 rfl rfl ?_
      refine ax_bipush (pc := 20) (v := nI 20) G dX10_idles_20 ib_20 ?_
      refine ax_aload_n (pc := 22) G dX10_idles_22 rfl rfl ?_
      refine ax_bipush (pc := 23) (v := nI 14) G dX10_idles_23 ib_14 ?_
      refine md_lds (pc := 25) (i := 14) G hj dX10_idles_25 rfl (by omega) ?_
      refine ax_top (show Value.int (s 14) = .int (nI A) from congrArg Value.int ((hs).hA)) ?_
      refine ax_iaddN (pc := 26) G dX10_idles_26 ?_
      refine ax_icmp_geN (pc := 27) (tgt := 68) G dX10_idles_27 rfl (by omega) (by omega) (fun c27 => ?_) (fun c27 => ?_)
      · refine ax_aload_n (pc := 68) G dX10_idles_68 rfl rfl ?_
        refine ax_iconst (pc := 69) (v := nI 5) G dX10_idles_69 ic_5 ?_
        refine ax_iload_n (pc := 70) G dX10_idles_70 rfl rfl ?_
        refine ax_aload_n (pc := 71) G dX10_idles_71 rfl rfl ?_
        refine ax_iconst (pc := 72) (v := nI 0) G dX10_idles_72 ic_0 ?_
        refine md_lds (pc := 73) (i := 0) G hj dX10_idles_73 rfl (by omega) ?_
        refine ax_isub (pc := 74) G dX10_idles_74 ?_
        refine ax_cS0 (pc := 75) (kb := 0) (nb := 0) G (mt_adds hA (μ := μ) hm hj 5 (by omega) ((pIdleTo (μ.2 2) s A) - (s 0))) lSX10_282 dX10_idles_75 rfl (by decide) (Nat.le_of_ble_eq_true rfl) rfl ?_
        show ax_W Ω Γ _ _ (md_H h m (md_sa μ j (pAdds s 5 ((pIdleTo (μ.2 2) s A) - (s 0))))) _ _ _
        refine ax_aload_n (pc := 78) G dX10_idles_78 rfl rfl ?_
        refine ax_iconst (pc := 79) (v := nI 0) G dX10_idles_79 ic_0 ?_
        refine ax_iload_n (pc := 80) G dX10_idles_80 rfl rfl ?_
        refine md_sts (pc := 81) (i := 0) G hj hm dX10_idles_81 rfl (by omega) ?_
        refine ax_iconst (pc := 82) (v := nI 4) G dX10_idles_82 ic_4 ?_
        exact ax_iretE (pc := 83) G E rfl (rfl) dX10_idles_83 (rfl) (rfl)
      · omega
    | succ n ih =>
      intro i hi
      refine ax_iload_n (pc := 19) G dX10_idles_19 rfl rfl ?_
      refine ax_bipush (pc := 20) (v := nI 20) G dX10_idles_20 ib_20 ?_
      refine ax_aload_n (pc := 22) G dX10_idles_22 rfl rfl ?_
      refine ax_bipush (pc := 23) (v := nI 14) G dX10_idles_23 ib_14 ?_
      refine md_lds (pc := 25) (i := 14) G hj dX10_idles_25 rfl (by omega) ?_
      refine ax_top (show Value.int (s 14) = .int (nI A) from congrArg Value.int ((hs).hA)) ?_
      refine ax_iaddN (pc := 26) G dX10_idles_26 ?_
      refine ax_icmp_geN (pc := 27) (tgt := 68) G dX10_idles_27 rfl (by omega) (by omega) (fun c27 => ?_) (fun c27 => ?_)
      · omega
      · have hS : pStateAt (20 + i) < 627 := by unfold pStateAt; split <;> omega
        refine ax_aload_n (pc := 30) G dX10_idles_30 rfl rfl ?_
        refine ax_iload_n (pc := 31) G dX10_idles_31 rfl rfl ?_
        refine ax_cS1 (pc := 32) (kb := 0) (nb := 0) G (mt_stateAt hA (20 + i) (by omega)) lSX10_253 dX10_idles_32 rfl (by decide) (Nat.le_of_ble_eq_true rfl) rfl ?_
        refine md_lds (pc := 35) (i := pStateAt (20 + i)) G hj dX10_idles_35 rfl (by omega) ?_
        refine ax_if_ne (pc := 36) (tgt := 62) G dX10_idles_36 rfl (fun c36 => ?_) (fun c36 => ?_)
        · refine ax_iincN (pc := 62) (n := 1) G dX10_idles_62 rfl rfl ic_1 ?_
          refine ax_goto (pc := 65) (tgt := 19) G dX10_idles_65 rfl ?_
          have q := ih (i + 1) (by omega)
          rw [show pIdleTo (μ.2 2) s (i + 1) = pIdleTo (μ.2 2) s i from by first | (simp only [pIdleTo, c27, c36, if_true, if_false, Bool.false_eq_true, not_false_eq_true, not_true_eq_false, decide_true, decide_false, Bool.and_true, Bool.true_and, Bool.and_false, Bool.false_and, Bool.or_true, Bool.true_or, Bool.or_false, Bool.false_or, and_self, and_true, true_and, and_false, false_and, or_true, true_or, or_false, false_or, ne_eq]; done) | (simp only [pIdleTo, c27, c36, if_true, if_false, Bool.false_eq_true, not_false_eq_true, not_true_eq_false, decide_true, decide_false, Bool.and_true, Bool.true_and, Bool.and_false, Bool.false_and, Bool.or_true, Bool.true_or, Bool.or_false, Bool.false_or, and_self, and_true, true_and, and_false, false_and, or_true, true_or, or_false, false_or, ne_eq]; rfl)] at q
          exact q
        · refine ax_aload_n (pc := 39) G dX10_idles_39 rfl rfl ?_
          refine ax_aload_n (pc := 40) G dX10_idles_40 rfl rfl ?_
          refine ax_iload_n (pc := 41) G dX10_idles_41 rfl rfl ?_
          refine ax_cV1 (pc := 42) (kb := 0) (nb := 0) G (mt_itsFrom hA hj (20 + i) (by omega)) lVX10_227_8 dX10_idles_42 md_obj rfl (by decide) (Nat.le_of_ble_eq_true rfl) rfl ?_
          refine ax_aload_n (pc := 45) G dX10_idles_45 rfl rfl ?_
          refine ax_iconst (pc := 46) (v := nI 0) G dX10_idles_46 ic_0 ?_
          refine md_lds (pc := 47) (i := 0) G hj dX10_idles_47 rfl (by omega) ?_
          refine ax_icmp_le (pc := 48) (tgt := 62) G dX10_idles_48 rfl (fun c48 => ?_) (fun c48 => ?_)
          · refine ax_iincN (pc := 62) (n := 1) G dX10_idles_62 rfl rfl ic_1 ?_
            refine ax_goto (pc := 65) (tgt := 19) G dX10_idles_65 rfl ?_
            have q := ih (i + 1) (by omega)
            rw [show pIdleTo (μ.2 2) s (i + 1) = pIdleTo (μ.2 2) s i from by first | (simp only [pIdleTo, c27, c36, c48, Int32.not_lt.mpr c48, if_true, if_false, Bool.false_eq_true, not_false_eq_true, not_true_eq_false, decide_true, decide_false, Bool.and_true, Bool.true_and, Bool.and_false, Bool.false_and, Bool.or_true, Bool.true_or, Bool.or_false, Bool.false_or, and_self, and_true, true_and, and_false, false_and, or_true, true_or, or_false, false_or, ne_eq]; done) | (simp only [pIdleTo, c27, c36, c48, Int32.not_lt.mpr c48, if_true, if_false, Bool.false_eq_true, not_false_eq_true, not_true_eq_false, decide_true, decide_false, Bool.and_true, Bool.true_and, Bool.and_false, Bool.false_and, Bool.or_true, Bool.true_or, Bool.or_false, Bool.false_or, and_self, and_true, true_and, and_false, false_and, or_true, true_or, or_false, false_or, ne_eq]; rfl) | (simp only [pIdleTo, c27, if_pos c36, decide_eq_true c36, c48, Int32.not_lt.mpr c48, if_true, if_false, Bool.false_eq_true, not_false_eq_true, not_true_eq_false, decide_true, decide_false, Bool.and_true, Bool.true_and, Bool.and_false, Bool.false_and, Bool.or_true, Bool.true_or, Bool.or_false, Bool.false_or, and_self, and_true, true_and, and_false, false_and, or_true, true_or, or_false, false_or, ne_eq]; done) | (simp only [pIdleTo, c27, if_pos c36, decide_eq_true c36, c48, Int32.not_lt.mpr c48, if_true, if_false, Bool.false_eq_true, not_false_eq_true, not_true_eq_false, decide_true, decide_false, Bool.and_true, Bool.true_and, Bool.and_false, Bool.false_and, Bool.or_true, Bool.true_or, Bool.or_false, Bool.false_or, and_self, and_true, true_and, and_false, false_and, or_true, true_or, or_false, false_or, ne_eq]; rfl)] at q
            exact q
          · refine ax_iload_n (pc := 51) G dX10_idles_51 rfl rfl ?_
            refine ax_aload_n (pc := 52) G dX10_idles_52 rfl rfl ?_
            refine ax_aload_n (pc := 53) G dX10_idles_53 rfl rfl ?_
            refine ax_iload_n (pc := 54) G dX10_idles_54 rfl rfl ?_
            refine ax_cV1 (pc := 55) (kb := 0) (nb := 0) G (mt_itsFrom hA hj (20 + i) (by omega)) lVX10_227_8 dX10_idles_55 md_obj rfl (by decide) (Nat.le_of_ble_eq_true rfl) rfl ?_
            refine ax_min (pc := 58) G q2911 q340 q132 q341 (by decide) (Nat.le_of_ble_eq_true rfl) dX10_idles_58 ?_
            refine ax_istore_n (pc := 61) G dX10_idles_61 rfl (Nat.le_of_ble_eq_true rfl) rfl ?_
            refine ax_iincN (pc := 62) (n := 1) G dX10_idles_62 rfl rfl ic_1 ?_
            refine ax_goto (pc := 65) (tgt := 19) G dX10_idles_65 rfl ?_
            have q := ih (i + 1) (by omega)
            rw [show pIdleTo (μ.2 2) s (i + 1) = iMin (pIdleTo (μ.2 2) s i) (pFrom (μ.2 2) s (20 + i)) from by first | (simp only [pIdleTo, c27, c36, c48, Int32.not_le.mp c48, if_true, if_false, Bool.false_eq_true, not_false_eq_true, not_true_eq_false, decide_true, decide_false, Bool.and_true, Bool.true_and, Bool.and_false, Bool.false_and, Bool.or_true, Bool.true_or, Bool.or_false, Bool.false_or, and_self, and_true, true_and, and_false, false_and, or_true, true_or, or_false, false_or, ne_eq]; done) | (simp only [pIdleTo, c27, c36, c48, Int32.not_le.mp c48, if_true, if_false, Bool.false_eq_true, not_false_eq_true, not_true_eq_false, decide_true, decide_false, Bool.and_true, Bool.true_and, Bool.and_false, Bool.false_and, Bool.or_true, Bool.true_or, Bool.or_false, Bool.false_or, and_self, and_true, true_and, and_false, false_and, or_true, true_or, or_false, false_or, ne_eq]; rfl) | (simp only [pIdleTo, c27, if_pos c36, decide_eq_true c36, c48, Int32.not_le.mp c48, if_true, if_false, Bool.false_eq_true, not_false_eq_true, not_true_eq_false, decide_true, decide_false, Bool.and_true, Bool.true_and, Bool.and_false, Bool.false_and, Bool.or_true, Bool.true_or, Bool.or_false, Bool.false_or, and_self, and_true, true_and, and_false, false_and, or_true, true_or, or_false, false_or, ne_eq]; done) | (simp only [pIdleTo, c27, if_pos c36, decide_eq_true c36, c48, Int32.not_le.mp c48, if_true, if_false, Bool.false_eq_true, not_false_eq_true, not_true_eq_false, decide_true, decide_false, Bool.and_true, Bool.true_and, Bool.and_false, Bool.false_and, Bool.or_true, Bool.true_or, Bool.or_false, Bool.false_or, and_self, and_true, true_and, and_false, false_and, or_true, true_or, or_false, false_or, ne_eq]; rfl)] at q
            exact q
  show ax_W Ω Γ 0 0 (md_H h m (md_sa μ j s)) 0 [some (.ref m), some (.ref (m + j)), none, none] []
  refine ax_aload_n (pc := 0) G dX10_idles_0 rfl rfl ?_
  refine ax_iconst (pc := 1) (v := nI 0) G dX10_idles_1 ic_0 ?_
  refine md_lds (pc := 2) (i := 0) G hj dX10_idles_2 rfl (by omega) ?_
  refine ax_bipush (pc := 3) (v := nI 10) G dX10_idles_3 ib_10 ?_
  refine ax_iadd (pc := 5) G dX10_idles_5 ?_
  refine ax_aload_n (pc := 6) G dX10_idles_6 rfl rfl ?_
  refine md_get (pc := 7) (v := .ref (m + 2)) G flX10_17_8 dX10_idles_7 rfl ?_
  refine ax_iconst (pc := 10) (v := nI 0) G dX10_idles_10 ic_0 ?_
  refine md_ldp (pc := 11) (i := 0) (j2 := 2) G 235 dX10_idles_11 (by omega) (by decide) (by decide) rfl rfl rfl (by omega) (by decide) ?_
  refine ax_min (pc := 12) G q2911 q340 q132 q341 (by decide) (Nat.le_of_ble_eq_true rfl) dX10_idles_12 ?_
  refine ax_istore_n (pc := 15) G dX10_idles_15 rfl (Nat.le_of_ble_eq_true rfl) rfl ?_
  refine ax_bipush (pc := 16) (v := nI 20) G dX10_idles_16 ib_20 ?_
  refine ax_istore_n (pc := 18) G dX10_idles_18 rfl (Nat.le_of_ble_eq_true rfl) rfl ?_
  exact L0 A 0 (by omega)

theorem mt_expires {Ω : ax_O} (hA : ax_Amb Ω) {h : ax_H} {m : Nat} {μ : md_S} {s : pR} {j : Nat} (hm : Ω.2.1.heap.size ≤ m) (hj : j = 4 ∨ j = 6) {P V O : Nat} (hp : pWP (μ.2 2) P V O) {A : Nat} (hs : pWS s A)  : ax_Met Ω yX10_expires 4 0 0 [.ref m, .ref (m + j)] (md_H h m (md_sa μ j s)) (.inl none) (md_H h m (md_sa μ j (pExp (μ.2 2) s A))) := by
  refine ax_met q3018 q142 (by decide +kernel) (by decide) hA (Nat.le_of_ble_eq_true rfl) (fun Γ G E => ?_)
  have hA9 := hs.lA
  have L0 : ∀ (n i : Nat), i + n = A → ax_W Ω Γ 0 0 (md_H h m (md_sa μ j (pExp (μ.2 2) s i))) 3 [some (.ref m), some (.ref (m + j)), some (.int (nI (20 + i)))] [] := by
    intro n
    induction n with
    | zero =>
      intro i hi
      have hi9 : A = i := by omega
      subst hi9
      refine ax_iload_n (pc := 3) G dX10_expires_3 rfl rfl ?_
      refine ax_bipush (pc := 4) (v := nI 20) G dX10_expires_4 ib_20 ?_
      refine ax_aload_n (pc := 6) G dX10_expires_6 rfl rfl ?_
      refine ax_bipush (pc := 7) (v := nI 14) G dX10_expires_7 ib_14 ?_
      refine md_lds (pc := 9) (i := 14) G hj dX10_expires_9 rfl (by omega) ?_
      refine ax_top (show Value.int ((pExp (μ.2 2) s A) 14) = .int (nI A) from congrArg Value.int ((pWS.exp (hs) (by omega)).hA)) ?_
      refine ax_iaddN (pc := 10) G dX10_expires_10 ?_
      refine ax_icmp_geN (pc := 11) (tgt := 48) G dX10_expires_11 rfl (by omega) (by omega) (fun c11 => ?_) (fun c11 => ?_)
      · exact ax_vretE (pc := 48) G E rfl dX10_expires_48 (rfl)
      · omega
    | succ n ih =>
      intro i hi
      refine ax_iload_n (pc := 3) G dX10_expires_3 rfl rfl ?_
      refine ax_bipush (pc := 4) (v := nI 20) G dX10_expires_4 ib_20 ?_
      refine ax_aload_n (pc := 6) G dX10_expires_6 rfl rfl ?_
      refine ax_bipush (pc := 7) (v := nI 14) G dX10_expires_7 ib_14 ?_
      refine md_lds (pc := 9) (i := 14) G hj dX10_expires_9 rfl (by omega) ?_
      refine ax_top (show Value.int ((pExp (μ.2 2) s i) 14) = .int (nI A) from congrArg Value.int ((pWS.exp (hs) (by omega)).hA)) ?_
      refine ax_iaddN (pc := 10) G dX10_expires_10 ?_
      refine ax_icmp_geN (pc := 11) (tgt := 48) G dX10_expires_11 rfl (by omega) (by omega) (fun c11 => ?_) (fun c11 => ?_)
      · omega
      · have hS : pStateAt (20 + i) < 627 := by unfold pStateAt; split <;> omega
        refine ax_aload_n (pc := 14) G dX10_expires_14 rfl rfl ?_
        refine ax_iload_n (pc := 15) G dX10_expires_15 rfl rfl ?_
        refine ax_cS1 (pc := 16) (kb := 0) (nb := 0) G (mt_stateAt hA (20 + i) (by omega)) lSX10_253 dX10_expires_16 rfl (by decide) (Nat.le_of_ble_eq_true rfl) rfl ?_
        refine md_lds (pc := 19) (i := pStateAt (20 + i)) G hj dX10_expires_19 rfl (by omega) ?_
        refine ax_if_ne (pc := 20) (tgt := 42) G dX10_expires_20 rfl (fun c20 => ?_) (fun c20 => ?_)
        · refine ax_iincN (pc := 42) (n := 1) G dX10_expires_42 rfl rfl ic_1 ?_
          refine ax_goto (pc := 45) (tgt := 3) G dX10_expires_45 rfl ?_
          have q := ih (i + 1) (by omega)
          rw [show pExp (μ.2 2) s (i + 1) = pExp (μ.2 2) s i from by first | (simp only [pExp, pExpS, c11, c20, if_true, if_false, Bool.false_eq_true, not_false_eq_true, not_true_eq_false, decide_true, decide_false, Bool.and_true, Bool.true_and, Bool.and_false, Bool.false_and, Bool.or_true, Bool.true_or, Bool.or_false, Bool.false_or, and_self, and_true, true_and, and_false, false_and, or_true, true_or, or_false, false_or, ne_eq]; done) | (simp only [pExp, pExpS, c11, c20, if_true, if_false, Bool.false_eq_true, not_false_eq_true, not_true_eq_false, decide_true, decide_false, Bool.and_true, Bool.true_and, Bool.and_false, Bool.false_and, Bool.or_true, Bool.true_or, Bool.or_false, Bool.false_or, and_self, and_true, true_and, and_false, false_and, or_true, true_or, or_false, false_or, ne_eq]; rfl)] at q
          exact q
        · refine ax_aload_n (pc := 23) G dX10_expires_23 rfl rfl ?_
          refine ax_aload_n (pc := 24) G dX10_expires_24 rfl rfl ?_
          refine ax_iload_n (pc := 25) G dX10_expires_25 rfl rfl ?_
          refine ax_cV1 (pc := 26) (kb := 0) (nb := 0) G (mt_itsTo hA hj (20 + i) (by omega)) lVX10_262_8 dX10_expires_26 md_obj rfl (by decide) (Nat.le_of_ble_eq_true rfl) rfl ?_
          refine ax_aload_n (pc := 29) G dX10_expires_29 rfl rfl ?_
          refine ax_iconst (pc := 30) (v := nI 0) G dX10_expires_30 ic_0 ?_
          refine md_lds (pc := 31) (i := 0) G hj dX10_expires_31 rfl (by omega) ?_
          refine ax_icmp_ge (pc := 32) (tgt := 42) G dX10_expires_32 rfl (fun c32 => ?_) (fun c32 => ?_)
          · refine ax_iincN (pc := 42) (n := 1) G dX10_expires_42 rfl rfl ic_1 ?_
            refine ax_goto (pc := 45) (tgt := 3) G dX10_expires_45 rfl ?_
            have q := ih (i + 1) (by omega)
            rw [show pExp (μ.2 2) s (i + 1) = pExp (μ.2 2) s i from by first | (simp only [pExp, pExpS, c11, c20, c32, Int32.not_lt.mpr c32, if_true, if_false, Bool.false_eq_true, not_false_eq_true, not_true_eq_false, decide_true, decide_false, Bool.and_true, Bool.true_and, Bool.and_false, Bool.false_and, Bool.or_true, Bool.true_or, Bool.or_false, Bool.false_or, and_self, and_true, true_and, and_false, false_and, or_true, true_or, or_false, false_or, ne_eq]; done) | (simp only [pExp, pExpS, c11, c20, c32, Int32.not_lt.mpr c32, if_true, if_false, Bool.false_eq_true, not_false_eq_true, not_true_eq_false, decide_true, decide_false, Bool.and_true, Bool.true_and, Bool.and_false, Bool.false_and, Bool.or_true, Bool.true_or, Bool.or_false, Bool.false_or, and_self, and_true, true_and, and_false, false_and, or_true, true_or, or_false, false_or, ne_eq]; rfl) | (simp only [pExp, pExpS, c11, if_pos c20, decide_eq_true c20, c32, Int32.not_lt.mpr c32, if_true, if_false, Bool.false_eq_true, not_false_eq_true, not_true_eq_false, decide_true, decide_false, Bool.and_true, Bool.true_and, Bool.and_false, Bool.false_and, Bool.or_true, Bool.true_or, Bool.or_false, Bool.false_or, and_self, and_true, true_and, and_false, false_and, or_true, true_or, or_false, false_or, ne_eq]; done) | (simp only [pExp, pExpS, c11, if_pos c20, decide_eq_true c20, c32, Int32.not_lt.mpr c32, if_true, if_false, Bool.false_eq_true, not_false_eq_true, not_true_eq_false, decide_true, decide_false, Bool.and_true, Bool.true_and, Bool.and_false, Bool.false_and, Bool.or_true, Bool.true_or, Bool.or_false, Bool.false_or, and_self, and_true, true_and, and_false, false_and, or_true, true_or, or_false, false_or, ne_eq]; rfl)] at q
            exact q
          · refine ax_aload_n (pc := 35) G dX10_expires_35 rfl rfl ?_
            refine ax_iload_n (pc := 36) G dX10_expires_36 rfl rfl ?_
            refine ax_cS1 (pc := 37) (kb := 0) (nb := 0) G (mt_stateAt hA (20 + i) (by omega)) lSX10_253 dX10_expires_37 rfl (by decide) (Nat.le_of_ble_eq_true rfl) rfl ?_
            refine ax_iconst (pc := 40) (v := nI 2) G dX10_expires_40 ic_2 ?_
            refine md_sts (pc := 41) (i := pStateAt (20 + i)) G hj hm dX10_expires_41 rfl (by omega) ?_
            refine ax_iincN (pc := 42) (n := 1) G dX10_expires_42 rfl rfl ic_1 ?_
            refine ax_goto (pc := 45) (tgt := 3) G dX10_expires_45 rfl ?_
            have q := ih (i + 1) (by omega)
            rw [show pExp (μ.2 2) s (i + 1) = upd (pExp (μ.2 2) s i) (pStateAt (20 + i)) (nI 2) from by first | (simp only [pExp, pExpS, c11, c20, c32, Int32.not_le.mp c32, if_true, if_false, Bool.false_eq_true, not_false_eq_true, not_true_eq_false, decide_true, decide_false, Bool.and_true, Bool.true_and, Bool.and_false, Bool.false_and, Bool.or_true, Bool.true_or, Bool.or_false, Bool.false_or, and_self, and_true, true_and, and_false, false_and, or_true, true_or, or_false, false_or, ne_eq]; done) | (simp only [pExp, pExpS, c11, c20, c32, Int32.not_le.mp c32, if_true, if_false, Bool.false_eq_true, not_false_eq_true, not_true_eq_false, decide_true, decide_false, Bool.and_true, Bool.true_and, Bool.and_false, Bool.false_and, Bool.or_true, Bool.true_or, Bool.or_false, Bool.false_or, and_self, and_true, true_and, and_false, false_and, or_true, true_or, or_false, false_or, ne_eq]; rfl) | (simp only [pExp, pExpS, c11, if_pos c20, decide_eq_true c20, c32, Int32.not_le.mp c32, if_true, if_false, Bool.false_eq_true, not_false_eq_true, not_true_eq_false, decide_true, decide_false, Bool.and_true, Bool.true_and, Bool.and_false, Bool.false_and, Bool.or_true, Bool.true_or, Bool.or_false, Bool.false_or, and_self, and_true, true_and, and_false, false_and, or_true, true_or, or_false, false_or, ne_eq]; done) | (simp only [pExp, pExpS, c11, if_pos c20, decide_eq_true c20, c32, Int32.not_le.mp c32, if_true, if_false, Bool.false_eq_true, not_false_eq_true, not_true_eq_false, decide_true, decide_false, Bool.and_true, Bool.true_and, Bool.and_false, Bool.false_and, Bool.or_true, Bool.true_or, Bool.or_false, Bool.false_or, and_self, and_true, true_and, and_false, false_and, or_true, true_or, or_false, false_or, ne_eq]; rfl)] at q
            exact q
  show ax_W Ω Γ 0 0 (md_H h m (md_sa μ j s)) 0 [some (.ref m), some (.ref (m + j)), none] []
  refine ax_bipush (pc := 0) (v := nI 20) G dX10_expires_0 ib_20 ?_
  refine ax_istore_n (pc := 2) G dX10_expires_2 rfl (Nat.le_of_ble_eq_true rfl) rfl ?_
  exact L0 A 0 (by omega)

theorem mt_isCalibrationDue {Ω : ax_O} (hA : ax_Amb Ω) {h : ax_H} {m : Nat} {μ : md_S} {s : pR} {j : Nat} (hj : j = 4 ∨ j = 6) : ax_Met Ω yX10_isCalibrationDue 1 0 0 [.ref m, .ref (m + j)] (md_H h m (md_sa μ j s)) (.inl (some (.int (bI (pCalDue (μ.2 2) s))))) (md_H h m (md_sa μ j s)) := by
  refine ax_met q3052 q142 (by decide +kernel) (by decide) hA (Nat.le_of_ble_eq_true rfl) (fun Γ G E => ?_)
  show ax_W Ω Γ 0 0 (md_H h m (md_sa μ j s)) 0 [some (.ref m), some (.ref (m + j)), none] []
  refine ax_aload_n (pc := 0) G dX10_isCalibrationDue_0 rfl rfl ?_
  refine ax_iconst (pc := 1) (v := nI 0) G dX10_isCalibrationDue_1 ic_0 ?_
  refine md_lds (pc := 2) (i := 0) G hj dX10_isCalibrationDue_2 rfl (by omega) ?_
  refine ax_aload_n (pc := 3) G dX10_isCalibrationDue_3 rfl rfl ?_
  refine ax_iconst (pc := 4) (v := nI 4) G dX10_isCalibrationDue_4 ic_4 ?_
  refine md_lds (pc := 5) (i := 4) G hj dX10_isCalibrationDue_5 rfl (by omega) ?_
  refine ax_isub (pc := 6) G dX10_isCalibrationDue_6 ?_
  refine ax_istore_n (pc := 7) G dX10_isCalibrationDue_7 rfl (Nat.le_of_ble_eq_true rfl) rfl ?_
  refine ax_iload_n (pc := 8) G dX10_isCalibrationDue_8 rfl rfl ?_
  refine ax_aload_n (pc := 9) G dX10_isCalibrationDue_9 rfl rfl ?_
  refine ax_bipush (pc := 10) (v := nI 15) G dX10_isCalibrationDue_10 ib_15 ?_
  refine md_lds (pc := 12) (i := 15) G hj dX10_isCalibrationDue_12 rfl (by omega) ?_
  refine ax_icmp_lt (pc := 13) (tgt := 40) G dX10_isCalibrationDue_13 rfl (fun c13 => ?_) (fun c13 => ?_)
  · refine ax_iconst (pc := 40) (v := nI 0) G dX10_isCalibrationDue_40 ic_0 ?_
    exact ax_iretE (pc := 41) G E rfl (rfl) dX10_isCalibrationDue_41 (by first | (simp only [pCalDue, bI, c13, Int32.not_le.mpr c13, if_true, if_false, Bool.false_eq_true, not_false_eq_true, not_true_eq_false, decide_true, decide_false, Bool.and_true, Bool.true_and, Bool.and_false, Bool.false_and, Bool.or_true, Bool.true_or, Bool.or_false, Bool.false_or, and_self, and_true, true_and, and_false, false_and, or_true, true_or, or_false, false_or, ne_eq]; done) | (simp only [pCalDue, bI, c13, Int32.not_le.mpr c13, if_true, if_false, Bool.false_eq_true, not_false_eq_true, not_true_eq_false, decide_true, decide_false, Bool.and_true, Bool.true_and, Bool.and_false, Bool.false_and, Bool.or_true, Bool.true_or, Bool.or_false, Bool.false_or, and_self, and_true, true_and, and_false, false_and, or_true, true_or, or_false, false_or, ne_eq]; rfl)) (by first | (simp only [pCalDue, bI, c13, Int32.not_le.mpr c13, if_true, if_false, Bool.false_eq_true, not_false_eq_true, not_true_eq_false, decide_true, decide_false, Bool.and_true, Bool.true_and, Bool.and_false, Bool.false_and, Bool.or_true, Bool.true_or, Bool.or_false, Bool.false_or, and_self, and_true, true_and, and_false, false_and, or_true, true_or, or_false, false_or, ne_eq]; done) | (simp only [pCalDue, bI, c13, Int32.not_le.mpr c13, if_true, if_false, Bool.false_eq_true, not_false_eq_true, not_true_eq_false, decide_true, decide_false, Bool.and_true, Bool.true_and, Bool.and_false, Bool.false_and, Bool.or_true, Bool.true_or, Bool.or_false, Bool.false_or, and_self, and_true, true_and, and_false, false_and, or_true, true_or, or_false, false_or, ne_eq]; rfl))
  · refine ax_aload_n (pc := 16) G dX10_isCalibrationDue_16 rfl rfl ?_
    refine ax_iconst (pc := 17) (v := nI 0) G dX10_isCalibrationDue_17 ic_0 ?_
    refine md_lds (pc := 18) (i := 0) G hj dX10_isCalibrationDue_18 rfl (by omega) ?_
    refine ax_aload_n (pc := 19) G dX10_isCalibrationDue_19 rfl rfl ?_
    refine md_get (pc := 20) (v := .ref (m + 2)) G flX10_17_8 dX10_isCalibrationDue_20 rfl ?_
    refine ax_bipush (pc := 23) (v := nI 6) G dX10_isCalibrationDue_23 ib_6 ?_
    refine md_ldp (pc := 25) (i := 6) (j2 := 2) G 235 dX10_isCalibrationDue_25 (by omega) (by decide) (by decide) rfl rfl rfl (by omega) (by decide) ?_
    refine ax_iadd (pc := 26) G dX10_isCalibrationDue_26 ?_
    refine ax_aload_n (pc := 27) G dX10_isCalibrationDue_27 rfl rfl ?_
    refine md_get (pc := 28) (v := .ref (m + 2)) G flX10_17_8 dX10_isCalibrationDue_28 rfl ?_
    refine ax_iconst (pc := 31) (v := nI 0) G dX10_isCalibrationDue_31 ic_0 ?_
    refine md_ldp (pc := 32) (i := 0) (j2 := 2) G 235 dX10_isCalibrationDue_32 (by omega) (by decide) (by decide) rfl rfl rfl (by omega) (by decide) ?_
    refine ax_icmp_gt (pc := 33) (tgt := 40) G dX10_isCalibrationDue_33 rfl (fun c33 => ?_) (fun c33 => ?_)
    · refine ax_iconst (pc := 40) (v := nI 0) G dX10_isCalibrationDue_40 ic_0 ?_
      exact ax_iretE (pc := 41) G E rfl (rfl) dX10_isCalibrationDue_41 (by first | (simp only [pCalDue, bI, c13, Int32.not_lt.mp c13, c33, Int32.not_le.mpr c33, if_true, if_false, Bool.false_eq_true, not_false_eq_true, not_true_eq_false, decide_true, decide_false, Bool.and_true, Bool.true_and, Bool.and_false, Bool.false_and, Bool.or_true, Bool.true_or, Bool.or_false, Bool.false_or, and_self, and_true, true_and, and_false, false_and, or_true, true_or, or_false, false_or, ne_eq]; done) | (simp only [pCalDue, bI, c13, Int32.not_lt.mp c13, c33, Int32.not_le.mpr c33, if_true, if_false, Bool.false_eq_true, not_false_eq_true, not_true_eq_false, decide_true, decide_false, Bool.and_true, Bool.true_and, Bool.and_false, Bool.false_and, Bool.or_true, Bool.true_or, Bool.or_false, Bool.false_or, and_self, and_true, true_and, and_false, false_and, or_true, true_or, or_false, false_or, ne_eq]; rfl)) (by first | (simp only [pCalDue, bI, c13, Int32.not_lt.mp c13, c33, Int32.not_le.mpr c33, if_true, if_false, Bool.false_eq_true, not_false_eq_true, not_true_eq_false, decide_true, decide_false, Bool.and_true, Bool.true_and, Bool.and_false, Bool.false_and, Bool.or_true, Bool.true_or, Bool.or_false, Bool.false_or, and_self, and_true, true_and, and_false, false_and, or_true, true_or, or_false, false_or, ne_eq]; done) | (simp only [pCalDue, bI, c13, Int32.not_lt.mp c13, c33, Int32.not_le.mpr c33, if_true, if_false, Bool.false_eq_true, not_false_eq_true, not_true_eq_false, decide_true, decide_false, Bool.and_true, Bool.true_and, Bool.and_false, Bool.false_and, Bool.or_true, Bool.true_or, Bool.or_false, Bool.false_or, and_self, and_true, true_and, and_false, false_and, or_true, true_or, or_false, false_or, ne_eq]; rfl))
    · refine ax_iconst (pc := 36) (v := nI 1) G dX10_isCalibrationDue_36 ic_1 ?_
      refine ax_goto (pc := 37) (tgt := 41) G dX10_isCalibrationDue_37 rfl ?_
      exact ax_iretE (pc := 41) G E rfl (rfl) dX10_isCalibrationDue_41 (by first | (simp only [pCalDue, bI, c13, Int32.not_lt.mp c13, c33, Int32.not_lt.mp c33, if_true, if_false, Bool.false_eq_true, not_false_eq_true, not_true_eq_false, decide_true, decide_false, Bool.and_true, Bool.true_and, Bool.and_false, Bool.false_and, Bool.or_true, Bool.true_or, Bool.or_false, Bool.false_or, and_self, and_true, true_and, and_false, false_and, or_true, true_or, or_false, false_or, ne_eq]; done) | (simp only [pCalDue, bI, c13, Int32.not_lt.mp c13, c33, Int32.not_lt.mp c33, if_true, if_false, Bool.false_eq_true, not_false_eq_true, not_true_eq_false, decide_true, decide_false, Bool.and_true, Bool.true_and, Bool.and_false, Bool.false_and, Bool.or_true, Bool.true_or, Bool.or_false, Bool.false_or, and_self, and_true, true_and, and_false, false_and, or_true, true_or, or_false, false_or, ne_eq]; rfl)) (by first | (simp only [pCalDue, bI, c13, Int32.not_lt.mp c13, c33, Int32.not_lt.mp c33, if_true, if_false, Bool.false_eq_true, not_false_eq_true, not_true_eq_false, decide_true, decide_false, Bool.and_true, Bool.true_and, Bool.and_false, Bool.false_and, Bool.or_true, Bool.true_or, Bool.or_false, Bool.false_or, and_self, and_true, true_and, and_false, false_and, or_true, true_or, or_false, false_or, ne_eq]; done) | (simp only [pCalDue, bI, c13, Int32.not_lt.mp c13, c33, Int32.not_lt.mp c33, if_true, if_false, Bool.false_eq_true, not_false_eq_true, not_true_eq_false, decide_true, decide_false, Bool.and_true, Bool.true_and, Bool.and_false, Bool.false_and, Bool.or_true, Bool.true_or, Bool.or_false, Bool.false_or, and_self, and_true, true_and, and_false, false_and, or_true, true_or, or_false, false_or, ne_eq]; rfl))

