/-! THE MODEL: input buffer -/
theorem mq_latestBegin_Y {Ω : ax_O} (hA : ax_Amb Ω) {h : ax_H} {m : Nat} {μ : md_S} (hm : Ω.2.1.heap.size ≤ m) (h19 : μ.1 19 = nI 1) {P V O A : Nat} (hp : pWP (μ.2 2) P V O) (hs : pWS (μ.2 4) A) {H T : Nat} (hH : μ.2 2 0 = nI H) (hH2 : H ≤ 2000) (hT : μ.2 4 0 = nI T) (hTH : T ≤ H) (k : Nat) (hk : k < V) : ax_Met Ω yX10_latestBegin 14 0 0 [.ref m, .int (nI k)] (md_H h m μ) (.inl (some (.int (pLate (μ.2 2) (μ.2 4) k T (H - T + 1))))) (md_H h m (md_si (md_sa μ 6 (upd (μ.2 4) 0 (pLateB (μ.2 2) (μ.2 4) k T (H - T + 1)))) 0 (nI 0))) := by
  refine ax_met q3087 q142 (by decide +kernel) (by decide) hA (Nat.le_of_ble_eq_true rfl) (fun Γ G E => ?_)
  have hV9 := hp.lV
  have hT31 : T < 2 ^ 31 := by omega
  have LL : ∀ (n : Nat), T + n ≤ H → pLate (μ.2 2) (μ.2 4) k T (n + 1) = pLate (μ.2 2) (μ.2 4) k T (H - T + 1) → pLateB (μ.2 2) (μ.2 4) k T (n + 1) = pLateB (μ.2 2) (μ.2 4) k T (H - T + 1) → ax_W Ω Γ 0 0 (md_H h m (md_si (md_sa μ 6 (upd (μ.2 4) 0 (nI (T + n)))) 0 (nI 0))) 39 [some (.ref m), some (.int (nI k))] [] := by
    intro n
    induction n with
    | zero =>
      intro hi hv hb
      refine ax_aload_n (pc := 39) G dX10_latestBegin_39 rfl rfl ?_
      refine md_get (pc := 40) (v := .ref (m + 6)) G flX10_29_8 dX10_latestBegin_40 rfl ?_
      refine ax_iconst (pc := 43) (v := nI 0) G dX10_latestBegin_43 ic_0 ?_
      refine md_ld (pc := 44) (i := 0) (j := 6) G 627 dX10_latestBegin_44 (by decide) (by decide) rfl rfl rfl (by omega) (by decide) ?_
      refine ax_top (show Value.int ((upd (μ.2 4) 0 (nI (T + 0))) 0) = .int (nI (T + 0)) from congrArg Value.int (pu_eq)) ?_
      refine ax_aload_n (pc := 45) G dX10_latestBegin_45 rfl rfl ?_
      refine md_get (pc := 46) (v := .ref (m + 4)) G flX10_23_8 dX10_latestBegin_46 rfl ?_
      refine ax_iconst (pc := 49) (v := nI 0) G dX10_latestBegin_49 ic_0 ?_
      refine md_ld (pc := 50) (i := 0) (j := 4) G 627 dX10_latestBegin_50 (by decide) (by decide) rfl rfl rfl (by omega) (by decide) ?_
      refine ax_top (show Value.int ((μ.2 4) 0) = .int (nI T) from congrArg Value.int (hT)) ?_
      refine ax_icmp_ltN (pc := 51) (tgt := 86) G dX10_latestBegin_51 rfl (by omega) (by omega) (fun c51 => ?_) (fun c51 => ?_)
      · omega
      · refine ax_aload_n (pc := 54) G dX10_latestBegin_54 rfl rfl ?_
        refine ax_aload_n (pc := 55) G dX10_latestBegin_55 rfl rfl ?_
        refine md_get (pc := 56) (v := .ref (m + 6)) G flX10_29_8 dX10_latestBegin_56 rfl ?_
        refine ax_iload_n (pc := 59) G dX10_latestBegin_59 rfl rfl ?_
        refine ax_cV1 (pc := 60) (kb := 0) (nb := 0) G (md_ro (mt_reasonFor hA (μ := (md_si (md_sa μ 6 (upd (μ.2 4) 0 (nI (T + 0)))) 0 (nI 0))) (s := upd (μ.2 4) 0 (nI (T + 0))) (j := 6) (Or.inr rfl) hp (hs.up _ (by omega) (by omega) (fun _ _ => by omega)) k (by omega))) lVX10_275_8 dX10_latestBegin_60 md_obj rfl (by decide) (Nat.le_of_ble_eq_true rfl) rfl ?_
        refine ax_if_ne (pc := 63) (tgt := 73) G dX10_latestBegin_63 rfl (fun c63 => ?_) (fun c63 => ?_)
        · replace c63 : ¬ (pReason (μ.2 2) (upd (μ.2 4) 0 (nI (T + 0))) k) = 0 := c63
          refine ax_aload_n (pc := 73) G dX10_latestBegin_73 rfl rfl ?_
          refine md_get (pc := 74) (v := .ref (m + 6)) G flX10_29_8 dX10_latestBegin_74 rfl ?_
          refine ax_iconst (pc := 77) (v := nI 0) G dX10_latestBegin_77 ic_0 ?_
          refine ax_dup2_11 (pc := 78) G dX10_latestBegin_78 rfl rfl ?_
          refine md_ld (pc := 79) (i := 0) (j := 6) G 627 dX10_latestBegin_79 (by decide) (by decide) rfl rfl rfl (by omega) (by decide) ?_
          refine ax_top (show Value.int ((upd (μ.2 4) 0 (nI (T + 0))) 0) = .int (nI (T + 0)) from congrArg Value.int (pu_eq)) ?_
          refine ax_iconst (pc := 80) (v := nI 1) G dX10_latestBegin_80 ic_1 ?_
          refine ax_isub (pc := 81) G dX10_latestBegin_81 ?_
          refine md_st (pc := 82) (i := 0) (j := 6) G 627 dX10_latestBegin_82 hm (by decide) (by decide) rfl rfl rfl (by omega) (by decide) ?_
          show ax_W Ω Γ _ _ (md_H h m (md_si (md_sa (md_sa μ 6 (upd (μ.2 4) 0 (nI (T + 0)))) 6 (upd (upd (μ.2 4) 0 (nI (T + 0))) 0 ((nI (T + 0)) - (nI 1)))) 0 (nI 0))) _ _ _
          rw [md_saa]
          show ax_W Ω Γ _ _ (md_H h m (md_si (md_sa μ 6 (upd (upd (μ.2 4) 0 (nI (T + 0))) 0 ((nI (T + 0)) - (nI 1)))) 0 (nI 0))) _ _ _
          rw [pu_uu]
          refine ax_goto (pc := 83) (tgt := 39) G dX10_latestBegin_83 rfl ?_
          show ax_W Ω Γ _ _ (md_H h m (md_si (md_sa μ 6 (upd (μ.2 4) 0 (nI T - nI 1))) 0 (nI 0))) _ _ _
          refine ax_aload_n (pc := 39) G dX10_latestBegin_39 rfl rfl ?_
          refine md_get (pc := 40) (v := .ref (m + 6)) G flX10_29_8 dX10_latestBegin_40 rfl ?_
          refine ax_iconst (pc := 43) (v := nI 0) G dX10_latestBegin_43 ic_0 ?_
          refine md_ld (pc := 44) (i := 0) (j := 6) G 627 dX10_latestBegin_44 (by decide) (by decide) rfl rfl rfl (by omega) (by decide) ?_
          refine ax_top (show Value.int _ = Value.int (nI T - nI 1) from congrArg Value.int (show upd (μ.2 4) 0 (nI T - nI 1) 0 = _ from pu_eq)) ?_
          refine ax_aload_n (pc := 45) G dX10_latestBegin_45 rfl rfl ?_
          refine md_get (pc := 46) (v := .ref (m + 4)) G flX10_23_8 dX10_latestBegin_46 rfl ?_
          refine ax_iconst (pc := 49) (v := nI 0) G dX10_latestBegin_49 ic_0 ?_
          refine md_ld (pc := 50) (i := 0) (j := 4) G 627 dX10_latestBegin_50 (by decide) (by decide) rfl rfl rfl (by omega) (by decide) ?_
          refine ax_top (show Value.int ((μ.2 4) 0) = .int (nI T) from congrArg Value.int (hT)) ?_
          refine ax_icmp_lt (pc := 51) (tgt := 86) G dX10_latestBegin_51 rfl (fun _ => ?_) (fun c9 => absurd (lt_pred hT31) c9)
          refine ax_iconst (pc := 86) (v := (-1)) G dX10_latestBegin_86 (by decide) ?_
          exact ax_iretE (pc := 87) G E rfl (rfl) dX10_latestBegin_87 (by rw [← hv, pLate, if_neg c63]; rfl) (by rw [← hb, pLateB, if_neg c63]; rfl)
        · replace c63 : (pReason (μ.2 2) (upd (μ.2 4) 0 (nI (T + 0))) k) = 0 := c63
          refine ax_aload_n (pc := 66) G dX10_latestBegin_66 rfl rfl ?_
          refine md_get (pc := 67) (v := .ref (m + 6)) G flX10_29_8 dX10_latestBegin_67 rfl ?_
          refine ax_iconst (pc := 70) (v := nI 0) G dX10_latestBegin_70 ic_0 ?_
          refine md_ld (pc := 71) (i := 0) (j := 6) G 627 dX10_latestBegin_71 (by decide) (by decide) rfl rfl rfl (by omega) (by decide) ?_
          refine ax_top (show Value.int ((upd (μ.2 4) 0 (nI (T + 0))) 0) = .int (nI (T + 0)) from congrArg Value.int (pu_eq)) ?_
          exact ax_iretE (pc := 72) G E rfl (rfl) dX10_latestBegin_72 (by rw [← hv, pLate, if_pos c63]) (by rw [← hb, pLateB, if_pos c63])
    | succ n ih =>
      intro hi hv hb
      refine ax_aload_n (pc := 39) G dX10_latestBegin_39 rfl rfl ?_
      refine md_get (pc := 40) (v := .ref (m + 6)) G flX10_29_8 dX10_latestBegin_40 rfl ?_
      refine ax_iconst (pc := 43) (v := nI 0) G dX10_latestBegin_43 ic_0 ?_
      refine md_ld (pc := 44) (i := 0) (j := 6) G 627 dX10_latestBegin_44 (by decide) (by decide) rfl rfl rfl (by omega) (by decide) ?_
      refine ax_top (show Value.int ((upd (μ.2 4) 0 (nI (T + (n + 1)))) 0) = .int (nI (T + (n + 1))) from congrArg Value.int (pu_eq)) ?_
      refine ax_aload_n (pc := 45) G dX10_latestBegin_45 rfl rfl ?_
      refine md_get (pc := 46) (v := .ref (m + 4)) G flX10_23_8 dX10_latestBegin_46 rfl ?_
      refine ax_iconst (pc := 49) (v := nI 0) G dX10_latestBegin_49 ic_0 ?_
      refine md_ld (pc := 50) (i := 0) (j := 4) G 627 dX10_latestBegin_50 (by decide) (by decide) rfl rfl rfl (by omega) (by decide) ?_
      refine ax_top (show Value.int ((μ.2 4) 0) = .int (nI T) from congrArg Value.int (hT)) ?_
      refine ax_icmp_ltN (pc := 51) (tgt := 86) G dX10_latestBegin_51 rfl (by omega) (by omega) (fun c51 => ?_) (fun c51 => ?_)
      · omega
      · refine ax_aload_n (pc := 54) G dX10_latestBegin_54 rfl rfl ?_
        refine ax_aload_n (pc := 55) G dX10_latestBegin_55 rfl rfl ?_
        refine md_get (pc := 56) (v := .ref (m + 6)) G flX10_29_8 dX10_latestBegin_56 rfl ?_
        refine ax_iload_n (pc := 59) G dX10_latestBegin_59 rfl rfl ?_
        refine ax_cV1 (pc := 60) (kb := 0) (nb := 0) G (md_ro (mt_reasonFor hA (μ := (md_si (md_sa μ 6 (upd (μ.2 4) 0 (nI (T + (n + 1))))) 0 (nI 0))) (s := upd (μ.2 4) 0 (nI (T + (n + 1)))) (j := 6) (Or.inr rfl) hp (hs.up _ (by omega) (by omega) (fun _ _ => by omega)) k (by omega))) lVX10_275_8 dX10_latestBegin_60 md_obj rfl (by decide) (Nat.le_of_ble_eq_true rfl) rfl ?_
        refine ax_if_ne (pc := 63) (tgt := 73) G dX10_latestBegin_63 rfl (fun c63 => ?_) (fun c63 => ?_)
        · replace c63 : ¬ (pReason (μ.2 2) (upd (μ.2 4) 0 (nI (T + (n + 1)))) k) = 0 := c63
          refine ax_aload_n (pc := 73) G dX10_latestBegin_73 rfl rfl ?_
          refine md_get (pc := 74) (v := .ref (m + 6)) G flX10_29_8 dX10_latestBegin_74 rfl ?_
          refine ax_iconst (pc := 77) (v := nI 0) G dX10_latestBegin_77 ic_0 ?_
          refine ax_dup2_11 (pc := 78) G dX10_latestBegin_78 rfl rfl ?_
          refine md_ld (pc := 79) (i := 0) (j := 6) G 627 dX10_latestBegin_79 (by decide) (by decide) rfl rfl rfl (by omega) (by decide) ?_
          refine ax_top (show Value.int ((upd (μ.2 4) 0 (nI (T + (n + 1)))) 0) = .int (nI (T + (n + 1))) from congrArg Value.int (pu_eq)) ?_
          refine ax_iconst (pc := 80) (v := nI 1) G dX10_latestBegin_80 ic_1 ?_
          refine ax_isubN (pc := 81) G dX10_latestBegin_81 (by omega) ?_
          refine md_st (pc := 82) (i := 0) (j := 6) G 627 dX10_latestBegin_82 hm (by decide) (by decide) rfl rfl rfl (by omega) (by decide) ?_
          show ax_W Ω Γ _ _ (md_H h m (md_si (md_sa (md_sa μ 6 (upd (μ.2 4) 0 (nI (T + (n + 1))))) 6 (upd (upd (μ.2 4) 0 (nI (T + (n + 1)))) 0 (nI ((T + (n + 1)) - 1)))) 0 (nI 0))) _ _ _
          rw [md_saa]
          show ax_W Ω Γ _ _ (md_H h m (md_si (md_sa μ 6 (upd (upd (μ.2 4) 0 (nI (T + (n + 1)))) 0 (nI ((T + (n + 1)) - 1)))) 0 (nI 0))) _ _ _
          rw [pu_uu, show T + (n + 1) - 1 = T + n from by omega]
          refine ax_goto (pc := 83) (tgt := 39) G dX10_latestBegin_83 rfl ?_
          exact ih (by omega) (by rw [← hv]; exact (if_neg c63).symm) (by rw [← hb]; exact (if_neg c63).symm)
        · replace c63 : (pReason (μ.2 2) (upd (μ.2 4) 0 (nI (T + (n + 1)))) k) = 0 := c63
          refine ax_aload_n (pc := 66) G dX10_latestBegin_66 rfl rfl ?_
          refine md_get (pc := 67) (v := .ref (m + 6)) G flX10_29_8 dX10_latestBegin_67 rfl ?_
          refine ax_iconst (pc := 70) (v := nI 0) G dX10_latestBegin_70 ic_0 ?_
          refine md_ld (pc := 71) (i := 0) (j := 6) G 627 dX10_latestBegin_71 (by decide) (by decide) rfl rfl rfl (by omega) (by decide) ?_
          refine ax_top (show Value.int ((upd (μ.2 4) 0 (nI (T + (n + 1)))) 0) = .int (nI (T + (n + 1))) from congrArg Value.int (pu_eq)) ?_
          exact ax_iretE (pc := 72) G E rfl (rfl) dX10_latestBegin_72 (by rw [← hv, pLate, if_pos c63]) (by rw [← hb, pLateB, if_pos c63])
  show ax_W Ω Γ 0 0 (md_H h m μ) 0 [some (.ref m), some (.int (nI k))] []
  refine ax_aload_n (pc := 0) G dX10_latestBegin_0 rfl rfl ?_
  refine ax_aload_n (pc := 1) G dX10_latestBegin_1 rfl rfl ?_
  refine ax_iload_n (pc := 2) G dX10_latestBegin_2 rfl rfl ?_
  refine ax_cV1 (pc := 3) (kb := 0) (nb := 0) G (mt_isVisit hA (μ := μ) (nI k)) lVX10_372_8 dX10_latestBegin_3 md_obj rfl (by decide) (Nat.le_of_ble_eq_true rfl) rfl ?_
  refine ax_top (show Value.int (bI (pIn (nI k) (nI 0) ((μ.2 2) 65 - nI 1))) = .int (nI 1) from congrArg Value.int (by rw [pIn_k hp.hV hk (by have := hp.lV; omega)]; rfl)) ?_
  refine ax_cV1 (pc := 6) (kb := 0) (nb := 0) G (mt_mayAskY hA (μ := μ) hm h19) lVX10_368_8 dX10_latestBegin_6 md_obj rfl (by decide) (Nat.le_of_ble_eq_true rfl) rfl ?_
  show ax_W Ω Γ _ _ (md_H h m (md_si μ 0 (nI 0))) _ _ _
  refine ax_if_ne (pc := 9) (tgt := 14) G dX10_latestBegin_9 rfl (fun _ => ?_) (fun c9 => absurd c9 (by decide))
  refine ax_aload_n (pc := 14) G dX10_latestBegin_14 rfl rfl ?_
  refine md_get (pc := 15) (v := .ref (m + 4)) G flX10_23_8 dX10_latestBegin_15 rfl ?_
  refine ax_iconst (pc := 18) (v := nI 0) G dX10_latestBegin_18 ic_0 ?_
  refine ax_aload_n (pc := 19) G dX10_latestBegin_19 rfl rfl ?_
  refine md_get (pc := 20) (v := .ref (m + 6)) G flX10_29_8 dX10_latestBegin_20 rfl ?_
  refine ax_iconst (pc := 23) (v := nI 0) G dX10_latestBegin_23 ic_0 ?_
  refine ax_cS0 (pc := 24) (kb := 0) (nb := 0) G (mt_copy_4_6 hA (h := h) (m := m) (μ := (md_si μ 0 (nI 0))) hm 0 0 (by omega) (by omega)) lSX10_189 dX10_latestBegin_24 rfl (by decide) (Nat.le_of_ble_eq_true rfl) rfl ?_
  show ax_W Ω Γ _ _ (md_H h m (md_sa (md_si μ 0 (nI 0)) 6 (pPut (μ.2 6) (fun z9 => (μ.2 4) (0 + z9)) 0 627))) _ _ _
  refine ax_W_le (md_le (μ := (md_si μ 0 (nI 0))) (j := 6) (f := (pPut (μ.2 6) (fun z9 => (μ.2 4) (0 + z9)) 0 627)) (g := μ.2 4) (by decide) (by decide) (fun i hi => pPut_all (by simpa [md_len] using hi))) ?_
  refine ax_aload_n (pc := 27) G dX10_latestBegin_27 rfl rfl ?_
  refine md_get (pc := 28) (v := .ref (m + 6)) G flX10_29_8 dX10_latestBegin_28 rfl ?_
  refine ax_iconst (pc := 31) (v := nI 0) G dX10_latestBegin_31 ic_0 ?_
  refine ax_aload_n (pc := 32) G dX10_latestBegin_32 rfl rfl ?_
  refine md_get (pc := 33) (v := .ref (m + 2)) G flX10_17_8 dX10_latestBegin_33 rfl ?_
  refine ax_iconst (pc := 36) (v := nI 0) G dX10_latestBegin_36 ic_0 ?_
  refine md_ld (pc := 37) (i := 0) (j := 2) G 235 dX10_latestBegin_37 (by decide) (by decide) rfl rfl rfl (by omega) (by decide) ?_
  refine ax_top (show Value.int ((μ.2 2) 0) = .int (nI H) from congrArg Value.int (hH)) ?_
  refine md_st (pc := 38) (i := 0) (j := 6) G 627 dX10_latestBegin_38 hm (by decide) (by decide) rfl rfl rfl (by omega) (by decide) ?_
  show ax_W Ω Γ _ _ (md_H h m (md_si (md_sa (md_sa μ 6 (μ.2 4)) 6 (upd (μ.2 4) 0 (nI H))) 0 (nI 0))) _ _ _
  rw [md_saa]
  show ax_W Ω Γ _ _ (md_H h m (md_si (md_sa μ 6 (upd (μ.2 4) 0 (nI H))) 0 (nI 0))) _ _ _
  have q9 := LL (H - T) (by omega) rfl rfl
  rw [show T + (H - T) = H from by omega] at q9
  exact q9

theorem mq_latestBegin_N {Ω : ax_O} (hA : ax_Amb Ω) {h : ax_H} {m : Nat} {μ : md_S} (hm : Ω.2.1.heap.size ≤ m) (h19 : μ.1 19 = nI 0) (k : Int32)  : ax_Met Ω yX10_latestBegin 14 0 0 [.ref m, .int k] (md_H h m μ) (.inl (some (.int (nI 0)))) (md_H h m (md_si μ 0 (nI 1))) := by
  refine ax_met q3087 q142 (by decide +kernel) (by decide) hA (Nat.le_of_ble_eq_true rfl) (fun Γ G E => ?_)
  show ax_W Ω Γ 0 0 (md_H h m μ) 0 [some (.ref m), some (.int k)] []
  refine ax_aload_n (pc := 0) G dX10_latestBegin_0 rfl rfl ?_
  refine ax_aload_n (pc := 1) G dX10_latestBegin_1 rfl rfl ?_
  refine ax_iload_n (pc := 2) G dX10_latestBegin_2 rfl rfl ?_
  refine ax_cV1 (pc := 3) (kb := 0) (nb := 0) G (mt_isVisit hA (μ := μ) k) lVX10_372_8 dX10_latestBegin_3 md_obj rfl (by decide) (Nat.le_of_ble_eq_true rfl) rfl ?_
  refine ax_cV1 (pc := 6) (kb := 0) (nb := 0) G (mt_mayAskN hA (μ := μ) hm h19 (pIn k (nI 0) ((μ.2 2) 65 - nI 1))) lVX10_368_8 dX10_latestBegin_6 md_obj rfl (by decide) (Nat.le_of_ble_eq_true rfl) rfl ?_
  show ax_W Ω Γ _ _ (md_H h m (md_si μ 0 (nI 1))) _ _ _
  refine ax_if_ne (pc := 9) (tgt := 14) G dX10_latestBegin_9 rfl (fun c9 => absurd rfl c9) (fun _ => ?_)
  refine ax_iconst (pc := 12) (v := nI 0) G dX10_latestBegin_12 ic_0 ?_
  exact ax_iretE (pc := 13) G E rfl (rfl) dX10_latestBegin_13 (rfl) (rfl)

theorem mq_latestBegin_B {Ω : ax_O} (hA : ax_Amb Ω) {h : ax_H} {m : Nat} {μ : md_S} (hm : Ω.2.1.heap.size ≤ m) (h19 : μ.1 19 = nI 1) (k : Int32) (hb : pIn k (nI 0) ((μ.2 2) 65 - nI 1) = false) : ax_Met Ω yX10_latestBegin 14 0 0 [.ref m, .int k] (md_H h m μ) (.inl (some (.int (nI 0)))) (md_H h m (md_si μ 0 (nI 2))) := by
  refine ax_met q3087 q142 (by decide +kernel) (by decide) hA (Nat.le_of_ble_eq_true rfl) (fun Γ G E => ?_)
  show ax_W Ω Γ 0 0 (md_H h m μ) 0 [some (.ref m), some (.int k)] []
  refine ax_aload_n (pc := 0) G dX10_latestBegin_0 rfl rfl ?_
  refine ax_aload_n (pc := 1) G dX10_latestBegin_1 rfl rfl ?_
  refine ax_iload_n (pc := 2) G dX10_latestBegin_2 rfl rfl ?_
  refine ax_cV1 (pc := 3) (kb := 0) (nb := 0) G (mt_isVisit hA (μ := μ) k) lVX10_372_8 dX10_latestBegin_3 md_obj rfl (by decide) (Nat.le_of_ble_eq_true rfl) rfl ?_
  refine ax_top (show Value.int (bI (pIn k (nI 0) ((μ.2 2) 65 - nI 1))) = .int (nI 0) from congrArg Value.int (by rw [hb]; rfl)) ?_
  refine ax_cV1 (pc := 6) (kb := 0) (nb := 0) G (mt_mayAskB hA (μ := μ) hm h19) lVX10_368_8 dX10_latestBegin_6 md_obj rfl (by decide) (Nat.le_of_ble_eq_true rfl) rfl ?_
  show ax_W Ω Γ _ _ (md_H h m (md_si μ 0 (nI 2))) _ _ _
  refine ax_if_ne (pc := 9) (tgt := 14) G dX10_latestBegin_9 rfl (fun c9 => absurd rfl c9) (fun _ => ?_)
  refine ax_iconst (pc := 12) (v := nI 0) G dX10_latestBegin_12 ic_0 ?_
  exact ax_iretE (pc := 13) G E rfl (rfl) dX10_latestBegin_13 (rfl) (rfl)

theorem mt_four {Ω : ax_O} (hA : ax_Amb Ω) {h : ax_H} {m : Nat} {μ : md_S} (hm : Ω.2.1.heap.size ≤ m) {B : Nat} (hB : μ.1 2 = nI B) (hB4 : B + 4 ≤ 1000) (v : Int32) : ax_Met Ω yX10_four 1 0 0 [.ref m, .int v] (md_H h m μ) (.inl none) (md_H h m (md_si (md_sa μ 1 (pFour (μ.2 1) B v)) 2 (nI (B + 1 + 1 + 1 + 1)))) := by
  refine ax_met q2643 q142 (by decide +kernel) (by decide) hA (Nat.le_of_ble_eq_true rfl) (fun Γ G E => ?_)
  show ax_W Ω Γ 0 0 (md_H h m μ) 0 [some (.ref m), some (.int v), none] []
  refine ax_bipush (pc := 0) (v := nI 24) G dX10_four_0 ib_24 ?_
  refine ax_istore_n (pc := 2) G dX10_four_2 rfl (Nat.le_of_ble_eq_true rfl) rfl ?_
  refine ax_iload_n (pc := 3) G dX10_four_3 rfl rfl ?_
  refine ax_if_lt (pc := 4) (tgt := 39) G dX10_four_4 rfl (fun c9 => absurd c9 (by decide)) (fun _ => ?_)
  refine ax_aload_n (pc := 7) G dX10_four_7 rfl rfl ?_
  refine md_get (pc := 8) (v := .ref (m + 1)) G flX10_9_8 dX10_four_8 rfl ?_
  refine ax_aload_n (pc := 11) G dX10_four_11 rfl rfl ?_
  refine md_get (pc := 12) (v := .int (μ.1 2)) G flX10_48_8 dX10_four_12 rfl ?_
  refine ax_top (show Value.int (μ.1 2) = .int (nI B) from congrArg Value.int (hB)) ?_
  refine ax_iload_n (pc := 15) G dX10_four_15 rfl rfl ?_
  refine ax_iload_n (pc := 16) G dX10_four_16 rfl rfl ?_
  refine ax_ishr (pc := 17) G dX10_four_17 ?_
  refine ax_sipush (pc := 18) (v := nI 255) G dX10_four_18 is_255 ?_
  refine ax_iand (pc := 21) G dX10_four_21 ?_
  refine md_st (pc := 22) (i := B) (j := 1) G 1000 dX10_four_22 hm (by decide) (by decide) rfl rfl rfl (by omega) (by decide) ?_
  show ax_W Ω Γ _ _ (md_H h m (md_sa μ 1 (upd (μ.2 1) B ((v >>> ((nI 24) &&& 31)) &&& (nI 255))))) _ _ _
  refine ax_aload_n (pc := 23) G dX10_four_23 rfl rfl ?_
  refine ax_dup (pc := 24) G dX10_four_24 rfl ?_
  refine md_get (pc := 25) (v := .int (μ.1 2)) G flX10_48_8 dX10_four_25 rfl ?_
  refine ax_top (show Value.int (μ.1 2) = .int (nI B) from congrArg Value.int (hB)) ?_
  refine ax_iconst (pc := 28) (v := nI 1) G dX10_four_28 ic_1 ?_
  refine ax_iaddN (pc := 29) G dX10_four_29 ?_
  refine md_put (pc := 30) G flX10_48_8 dX10_four_30 hm (by decide) (rfl) rfl rfl ?_
  refine ax_iinc (pc := 33) (v := nI 16) G dX10_four_33 rfl (by decide) rfl ?_
  refine ax_goto (pc := 36) (tgt := 3) G dX10_four_36 rfl ?_
  refine ax_iload_n (pc := 3) G dX10_four_3 rfl rfl ?_
  refine ax_if_lt (pc := 4) (tgt := 39) G dX10_four_4 rfl (fun c9 => absurd c9 (by decide)) (fun _ => ?_)
  refine ax_aload_n (pc := 7) G dX10_four_7 rfl rfl ?_
  refine md_get (pc := 8) (v := .ref (m + 1)) G flX10_9_8 dX10_four_8 rfl ?_
  refine ax_aload_n (pc := 11) G dX10_four_11 rfl rfl ?_
  refine md_get (pc := 12) (v := .int (nI (B + 1))) G flX10_48_8 dX10_four_12 rfl ?_
  refine ax_iload_n (pc := 15) G dX10_four_15 rfl rfl ?_
  refine ax_iload_n (pc := 16) G dX10_four_16 rfl rfl ?_
  refine ax_ishr (pc := 17) G dX10_four_17 ?_
  refine ax_sipush (pc := 18) (v := nI 255) G dX10_four_18 is_255 ?_
  refine ax_iand (pc := 21) G dX10_four_21 ?_
  refine md_st (pc := 22) (i := B + 1) (j := 1) G 1000 dX10_four_22 hm (by decide) (by decide) rfl rfl rfl (by omega) (by decide) ?_
  show ax_W Ω Γ _ _ (md_H h m (md_si (md_sa (md_sa μ 1 (upd (μ.2 1) B ((v >>> ((nI 24) &&& 31)) &&& (nI 255)))) 1 (upd (upd (μ.2 1) B ((v >>> ((nI 24) &&& 31)) &&& (nI 255))) (B + 1) ((v >>> ((nI 16) &&& 31)) &&& (nI 255)))) 2 (nI (B + 1)))) _ _ _
  rw [md_saa]
  show ax_W Ω Γ _ _ (md_H h m (md_si (md_sa μ 1 (upd (upd (μ.2 1) B ((v >>> ((nI 24) &&& 31)) &&& (nI 255))) (B + 1) ((v >>> ((nI 16) &&& 31)) &&& (nI 255)))) 2 (nI (B + 1)))) _ _ _
  refine ax_aload_n (pc := 23) G dX10_four_23 rfl rfl ?_
  refine ax_dup (pc := 24) G dX10_four_24 rfl ?_
  refine md_get (pc := 25) (v := .int (nI (B + 1))) G flX10_48_8 dX10_four_25 rfl ?_
  refine ax_iconst (pc := 28) (v := nI 1) G dX10_four_28 ic_1 ?_
  refine ax_iaddN (pc := 29) G dX10_four_29 ?_
  refine md_put (pc := 30) G flX10_48_8 dX10_four_30 hm (by decide) (rfl) rfl rfl ?_
  rw [md_sii]
  refine ax_iinc (pc := 33) (v := nI 8) G dX10_four_33 rfl (by decide) rfl ?_
  refine ax_goto (pc := 36) (tgt := 3) G dX10_four_36 rfl ?_
  refine ax_iload_n (pc := 3) G dX10_four_3 rfl rfl ?_
  refine ax_if_lt (pc := 4) (tgt := 39) G dX10_four_4 rfl (fun c9 => absurd c9 (by decide)) (fun _ => ?_)
  refine ax_aload_n (pc := 7) G dX10_four_7 rfl rfl ?_
  refine md_get (pc := 8) (v := .ref (m + 1)) G flX10_9_8 dX10_four_8 rfl ?_
  refine ax_aload_n (pc := 11) G dX10_four_11 rfl rfl ?_
  refine md_get (pc := 12) (v := .int (nI (B + 1 + 1))) G flX10_48_8 dX10_four_12 rfl ?_
  refine ax_iload_n (pc := 15) G dX10_four_15 rfl rfl ?_
  refine ax_iload_n (pc := 16) G dX10_four_16 rfl rfl ?_
  refine ax_ishr (pc := 17) G dX10_four_17 ?_
  refine ax_sipush (pc := 18) (v := nI 255) G dX10_four_18 is_255 ?_
  refine ax_iand (pc := 21) G dX10_four_21 ?_
  refine md_st (pc := 22) (i := B + 1 + 1) (j := 1) G 1000 dX10_four_22 hm (by decide) (by decide) rfl rfl rfl (by omega) (by decide) ?_
  show ax_W Ω Γ _ _ (md_H h m (md_si (md_sa (md_sa μ 1 (upd (upd (μ.2 1) B ((v >>> ((nI 24) &&& 31)) &&& (nI 255))) (B + 1) ((v >>> ((nI 16) &&& 31)) &&& (nI 255)))) 1 (upd (upd (upd (μ.2 1) B ((v >>> ((nI 24) &&& 31)) &&& (nI 255))) (B + 1) ((v >>> ((nI 16) &&& 31)) &&& (nI 255))) (B + 1 + 1) ((v >>> ((nI 8) &&& 31)) &&& (nI 255)))) 2 (nI (B + 1 + 1)))) _ _ _
  rw [md_saa]
  show ax_W Ω Γ _ _ (md_H h m (md_si (md_sa μ 1 (upd (upd (upd (μ.2 1) B ((v >>> ((nI 24) &&& 31)) &&& (nI 255))) (B + 1) ((v >>> ((nI 16) &&& 31)) &&& (nI 255))) (B + 1 + 1) ((v >>> ((nI 8) &&& 31)) &&& (nI 255)))) 2 (nI (B + 1 + 1)))) _ _ _
  refine ax_aload_n (pc := 23) G dX10_four_23 rfl rfl ?_
  refine ax_dup (pc := 24) G dX10_four_24 rfl ?_
  refine md_get (pc := 25) (v := .int (nI (B + 1 + 1))) G flX10_48_8 dX10_four_25 rfl ?_
  refine ax_iconst (pc := 28) (v := nI 1) G dX10_four_28 ic_1 ?_
  refine ax_iaddN (pc := 29) G dX10_four_29 ?_
  refine md_put (pc := 30) G flX10_48_8 dX10_four_30 hm (by decide) (rfl) rfl rfl ?_
  rw [md_sii]
  refine ax_iinc (pc := 33) (v := nI 0) G dX10_four_33 rfl (by decide) rfl ?_
  refine ax_goto (pc := 36) (tgt := 3) G dX10_four_36 rfl ?_
  refine ax_iload_n (pc := 3) G dX10_four_3 rfl rfl ?_
  refine ax_if_lt (pc := 4) (tgt := 39) G dX10_four_4 rfl (fun c9 => absurd c9 (by decide)) (fun _ => ?_)
  refine ax_aload_n (pc := 7) G dX10_four_7 rfl rfl ?_
  refine md_get (pc := 8) (v := .ref (m + 1)) G flX10_9_8 dX10_four_8 rfl ?_
  refine ax_aload_n (pc := 11) G dX10_four_11 rfl rfl ?_
  refine md_get (pc := 12) (v := .int (nI (B + 1 + 1 + 1))) G flX10_48_8 dX10_four_12 rfl ?_
  refine ax_iload_n (pc := 15) G dX10_four_15 rfl rfl ?_
  refine ax_iload_n (pc := 16) G dX10_four_16 rfl rfl ?_
  refine ax_ishr (pc := 17) G dX10_four_17 ?_
  refine ax_sipush (pc := 18) (v := nI 255) G dX10_four_18 is_255 ?_
  refine ax_iand (pc := 21) G dX10_four_21 ?_
  refine md_st (pc := 22) (i := B + 1 + 1 + 1) (j := 1) G 1000 dX10_four_22 hm (by decide) (by decide) rfl rfl rfl (by omega) (by decide) ?_
  show ax_W Ω Γ _ _ (md_H h m (md_si (md_sa (md_sa μ 1 (upd (upd (upd (μ.2 1) B ((v >>> ((nI 24) &&& 31)) &&& (nI 255))) (B + 1) ((v >>> ((nI 16) &&& 31)) &&& (nI 255))) (B + 1 + 1) ((v >>> ((nI 8) &&& 31)) &&& (nI 255)))) 1 (upd (upd (upd (upd (μ.2 1) B ((v >>> ((nI 24) &&& 31)) &&& (nI 255))) (B + 1) ((v >>> ((nI 16) &&& 31)) &&& (nI 255))) (B + 1 + 1) ((v >>> ((nI 8) &&& 31)) &&& (nI 255))) (B + 1 + 1 + 1) ((v >>> ((nI 0) &&& 31)) &&& (nI 255)))) 2 (nI (B + 1 + 1 + 1)))) _ _ _
  rw [md_saa]
  show ax_W Ω Γ _ _ (md_H h m (md_si (md_sa μ 1 (upd (upd (upd (upd (μ.2 1) B ((v >>> ((nI 24) &&& 31)) &&& (nI 255))) (B + 1) ((v >>> ((nI 16) &&& 31)) &&& (nI 255))) (B + 1 + 1) ((v >>> ((nI 8) &&& 31)) &&& (nI 255))) (B + 1 + 1 + 1) ((v >>> ((nI 0) &&& 31)) &&& (nI 255)))) 2 (nI (B + 1 + 1 + 1)))) _ _ _
  refine ax_aload_n (pc := 23) G dX10_four_23 rfl rfl ?_
  refine ax_dup (pc := 24) G dX10_four_24 rfl ?_
  refine md_get (pc := 25) (v := .int (nI (B + 1 + 1 + 1))) G flX10_48_8 dX10_four_25 rfl ?_
  refine ax_iconst (pc := 28) (v := nI 1) G dX10_four_28 ic_1 ?_
  refine ax_iaddN (pc := 29) G dX10_four_29 ?_
  refine md_put (pc := 30) G flX10_48_8 dX10_four_30 hm (by decide) (rfl) rfl rfl ?_
  rw [md_sii]
  refine ax_iinc (pc := 33) (v := (-8)) G dX10_four_33 rfl (by decide) rfl ?_
  refine ax_goto (pc := 36) (tgt := 3) G dX10_four_36 rfl ?_
  refine ax_iload_n (pc := 3) G dX10_four_3 rfl rfl ?_
  refine ax_if_lt (pc := 4) (tgt := 39) G dX10_four_4 rfl (fun _ => ?_) (fun c9 => absurd (by decide) c9)
  exact ax_vretE (pc := 39) G E rfl dX10_four_39 (rfl)

theorem mq_append_Y {Ω : ax_O} (hA : ax_Amb Ω) {h : ax_H} {m : Nat} {μ : md_S} (hm : Ω.2.1.heap.size ≤ m) {B : Nat} (hB : μ.1 2 = nI B) (hB4 : B + 20 ≤ 1000) (a b c d e : Int32) : ax_Met Ω yX10_append 3 0 0 [.ref m, .int a, .int b, .int c, .int d, .int e] (md_H h m μ) (.inl (some (.int (nI (B + 20))))) (md_H h m (md_si (md_sa (md_si (md_sa (md_si (md_sa (md_si (md_sa (md_si (md_sa (md_si μ 0 (nI 0)) 1 (pFour (μ.2 1) B a)) 2 (nI (B + 1 + 1 + 1 + 1))) 1 (pFour (pFour (μ.2 1) B a) (B + 1 + 1 + 1 + 1) b)) 2 (nI (B + 1 + 1 + 1 + 1 + 1 + 1 + 1 + 1))) 1 (pFour (pFour (pFour (μ.2 1) B a) (B + 1 + 1 + 1 + 1) b) (B + 1 + 1 + 1 + 1 + 1 + 1 + 1 + 1) c)) 2 (nI (B + 1 + 1 + 1 + 1 + 1 + 1 + 1 + 1 + 1 + 1 + 1 + 1))) 1 (pFour (pFour (pFour (pFour (μ.2 1) B a) (B + 1 + 1 + 1 + 1) b) (B + 1 + 1 + 1 + 1 + 1 + 1 + 1 + 1) c) (B + 1 + 1 + 1 + 1 + 1 + 1 + 1 + 1 + 1 + 1 + 1 + 1) d)) 2 (nI (B + 1 + 1 + 1 + 1 + 1 + 1 + 1 + 1 + 1 + 1 + 1 + 1 + 1 + 1 + 1 + 1))) 1 (pFour (pFour (pFour (pFour (pFour (μ.2 1) B a) (B + 1 + 1 + 1 + 1) b) (B + 1 + 1 + 1 + 1 + 1 + 1 + 1 + 1) c) (B + 1 + 1 + 1 + 1 + 1 + 1 + 1 + 1 + 1 + 1 + 1 + 1) d) (B + 1 + 1 + 1 + 1 + 1 + 1 + 1 + 1 + 1 + 1 + 1 + 1 + 1 + 1 + 1 + 1) e)) 2 (nI (B + 1 + 1 + 1 + 1 + 1 + 1 + 1 + 1 + 1 + 1 + 1 + 1 + 1 + 1 + 1 + 1 + 1 + 1 + 1 + 1)))) := by
  refine ax_met q2639 q142 (by decide +kernel) (by decide) hA (Nat.le_of_ble_eq_true rfl) (fun Γ G E => ?_)
  show ax_W Ω Γ 0 0 (md_H h m μ) 0 [some (.ref m), some (.int a), some (.int b), some (.int c), some (.int d), some (.int e)] []
  refine ax_aload_n (pc := 0) G dX10_append_0 rfl rfl ?_
  refine ax_iconst (pc := 1) (v := nI 0) G dX10_append_1 ic_0 ?_
  refine md_put (pc := 2) G flX10_45_8 dX10_append_2 hm (by decide) (rfl) rfl rfl ?_
  refine ax_aload_n (pc := 5) G dX10_append_5 rfl rfl ?_
  refine md_get (pc := 6) (v := .int (μ.1 2)) G flX10_48_8 dX10_append_6 rfl ?_
  refine ax_top (show Value.int (μ.1 2) = .int (nI B) from congrArg Value.int (hB)) ?_
  refine ax_bipush (pc := 9) (v := nI 20) G dX10_append_9 ib_20 ?_
  refine ax_iaddN (pc := 11) G dX10_append_11 ?_
  refine ax_sipush (pc := 12) (v := nI 1000) G dX10_append_12 is_1000 ?_
  refine ax_icmp_leN (pc := 15) (tgt := 20) G dX10_append_15 rfl (by omega) (by omega) (fun c15 => ?_) (fun c15 => ?_)
  · refine ax_aload_n (pc := 20) G dX10_append_20 rfl rfl ?_
    refine ax_iload_n (pc := 21) G dX10_append_21 rfl rfl ?_
    refine ax_cV0 (pc := 22) (kb := 0) (nb := 0) G (mt_four hA (h := h) (m := m) (μ := (md_si μ 0 (nI 0))) (B := B) hm hB (by omega) a) lVX10_51_8 dX10_append_22 md_obj rfl (by decide) (Nat.le_of_ble_eq_true rfl) rfl ?_
    show ax_W Ω Γ _ _ (md_H h m (md_si (md_sa (md_si μ 0 (nI 0)) 1 (pFour (μ.2 1) B a)) 2 (nI (B + 1 + 1 + 1 + 1)))) _ _ _
    refine ax_aload_n (pc := 25) G dX10_append_25 rfl rfl ?_
    refine ax_iload_n (pc := 26) G dX10_append_26 rfl rfl ?_
    refine ax_cV0 (pc := 27) (kb := 0) (nb := 0) G (mt_four hA (h := h) (m := m) (μ := (md_si (md_sa (md_si μ 0 (nI 0)) 1 (pFour (μ.2 1) B a)) 2 (nI (B + 1 + 1 + 1 + 1)))) (B := B + 1 + 1 + 1 + 1) hm rfl (by omega) b) lVX10_51_8 dX10_append_27 md_obj rfl (by decide) (Nat.le_of_ble_eq_true rfl) rfl ?_
    show ax_W Ω Γ _ _ (md_H h m (md_si (md_sa (md_si (md_sa (md_si μ 0 (nI 0)) 1 (pFour (μ.2 1) B a)) 2 (nI (B + 1 + 1 + 1 + 1))) 1 (pFour (pFour (μ.2 1) B a) (B + 1 + 1 + 1 + 1) b)) 2 (nI (B + 1 + 1 + 1 + 1 + 1 + 1 + 1 + 1)))) _ _ _
    refine ax_aload_n (pc := 30) G dX10_append_30 rfl rfl ?_
    refine ax_iload_n (pc := 31) G dX10_append_31 rfl rfl ?_
    refine ax_cV0 (pc := 32) (kb := 0) (nb := 0) G (mt_four hA (h := h) (m := m) (μ := (md_si (md_sa (md_si (md_sa (md_si μ 0 (nI 0)) 1 (pFour (μ.2 1) B a)) 2 (nI (B + 1 + 1 + 1 + 1))) 1 (pFour (pFour (μ.2 1) B a) (B + 1 + 1 + 1 + 1) b)) 2 (nI (B + 1 + 1 + 1 + 1 + 1 + 1 + 1 + 1)))) (B := B + 1 + 1 + 1 + 1 + 1 + 1 + 1 + 1) hm rfl (by omega) c) lVX10_51_8 dX10_append_32 md_obj rfl (by decide) (Nat.le_of_ble_eq_true rfl) rfl ?_
    show ax_W Ω Γ _ _ (md_H h m (md_si (md_sa (md_si (md_sa (md_si (md_sa (md_si μ 0 (nI 0)) 1 (pFour (μ.2 1) B a)) 2 (nI (B + 1 + 1 + 1 + 1))) 1 (pFour (pFour (μ.2 1) B a) (B + 1 + 1 + 1 + 1) b)) 2 (nI (B + 1 + 1 + 1 + 1 + 1 + 1 + 1 + 1))) 1 (pFour (pFour (pFour (μ.2 1) B a) (B + 1 + 1 + 1 + 1) b) (B + 1 + 1 + 1 + 1 + 1 + 1 + 1 + 1) c)) 2 (nI (B + 1 + 1 + 1 + 1 + 1 + 1 + 1 + 1 + 1 + 1 + 1 + 1)))) _ _ _
    refine ax_aload_n (pc := 35) G dX10_append_35 rfl rfl ?_
    refine ax_iload (pc := 36) G dX10_append_36 rfl ?_
    refine ax_cV0 (pc := 38) (kb := 0) (nb := 0) G (mt_four hA (h := h) (m := m) (μ := (md_si (md_sa (md_si (md_sa (md_si (md_sa (md_si μ 0 (nI 0)) 1 (pFour (μ.2 1) B a)) 2 (nI (B + 1 + 1 + 1 + 1))) 1 (pFour (pFour (μ.2 1) B a) (B + 1 + 1 + 1 + 1) b)) 2 (nI (B + 1 + 1 + 1 + 1 + 1 + 1 + 1 + 1))) 1 (pFour (pFour (pFour (μ.2 1) B a) (B + 1 + 1 + 1 + 1) b) (B + 1 + 1 + 1 + 1 + 1 + 1 + 1 + 1) c)) 2 (nI (B + 1 + 1 + 1 + 1 + 1 + 1 + 1 + 1 + 1 + 1 + 1 + 1)))) (B := B + 1 + 1 + 1 + 1 + 1 + 1 + 1 + 1 + 1 + 1 + 1 + 1) hm rfl (by omega) d) lVX10_51_8 dX10_append_38 md_obj rfl (by decide) (Nat.le_of_ble_eq_true rfl) rfl ?_
    show ax_W Ω Γ _ _ (md_H h m (md_si (md_sa (md_si (md_sa (md_si (md_sa (md_si (md_sa (md_si μ 0 (nI 0)) 1 (pFour (μ.2 1) B a)) 2 (nI (B + 1 + 1 + 1 + 1))) 1 (pFour (pFour (μ.2 1) B a) (B + 1 + 1 + 1 + 1) b)) 2 (nI (B + 1 + 1 + 1 + 1 + 1 + 1 + 1 + 1))) 1 (pFour (pFour (pFour (μ.2 1) B a) (B + 1 + 1 + 1 + 1) b) (B + 1 + 1 + 1 + 1 + 1 + 1 + 1 + 1) c)) 2 (nI (B + 1 + 1 + 1 + 1 + 1 + 1 + 1 + 1 + 1 + 1 + 1 + 1))) 1 (pFour (pFour (pFour (pFour (μ.2 1) B a) (B + 1 + 1 + 1 + 1) b) (B + 1 + 1 + 1 + 1 + 1 + 1 + 1 + 1) c) (B + 1 + 1 + 1 + 1 + 1 + 1 + 1 + 1 + 1 + 1 + 1 + 1) d)) 2 (nI (B + 1 + 1 + 1 + 1 + 1 + 1 + 1 + 1 + 1 + 1 + 1 + 1 + 1 + 1 + 1 + 1)))) _ _ _
    refine ax_aload_n (pc := 41) G dX10_append_41 rfl rfl ?_
    refine ax_iload (pc := 42) G dX10_append_42 rfl ?_
    refine ax_cV0 (pc := 44) (kb := 0) (nb := 0) G (mt_four hA (h := h) (m := m) (μ := (md_si (md_sa (md_si (md_sa (md_si (md_sa (md_si (md_sa (md_si μ 0 (nI 0)) 1 (pFour (μ.2 1) B a)) 2 (nI (B + 1 + 1 + 1 + 1))) 1 (pFour (pFour (μ.2 1) B a) (B + 1 + 1 + 1 + 1) b)) 2 (nI (B + 1 + 1 + 1 + 1 + 1 + 1 + 1 + 1))) 1 (pFour (pFour (pFour (μ.2 1) B a) (B + 1 + 1 + 1 + 1) b) (B + 1 + 1 + 1 + 1 + 1 + 1 + 1 + 1) c)) 2 (nI (B + 1 + 1 + 1 + 1 + 1 + 1 + 1 + 1 + 1 + 1 + 1 + 1))) 1 (pFour (pFour (pFour (pFour (μ.2 1) B a) (B + 1 + 1 + 1 + 1) b) (B + 1 + 1 + 1 + 1 + 1 + 1 + 1 + 1) c) (B + 1 + 1 + 1 + 1 + 1 + 1 + 1 + 1 + 1 + 1 + 1 + 1) d)) 2 (nI (B + 1 + 1 + 1 + 1 + 1 + 1 + 1 + 1 + 1 + 1 + 1 + 1 + 1 + 1 + 1 + 1)))) (B := B + 1 + 1 + 1 + 1 + 1 + 1 + 1 + 1 + 1 + 1 + 1 + 1 + 1 + 1 + 1 + 1) hm rfl (by omega) e) lVX10_51_8 dX10_append_44 md_obj rfl (by decide) (Nat.le_of_ble_eq_true rfl) rfl ?_
    show ax_W Ω Γ _ _ (md_H h m (md_si (md_sa (md_si (md_sa (md_si (md_sa (md_si (md_sa (md_si (md_sa (md_si μ 0 (nI 0)) 1 (pFour (μ.2 1) B a)) 2 (nI (B + 1 + 1 + 1 + 1))) 1 (pFour (pFour (μ.2 1) B a) (B + 1 + 1 + 1 + 1) b)) 2 (nI (B + 1 + 1 + 1 + 1 + 1 + 1 + 1 + 1))) 1 (pFour (pFour (pFour (μ.2 1) B a) (B + 1 + 1 + 1 + 1) b) (B + 1 + 1 + 1 + 1 + 1 + 1 + 1 + 1) c)) 2 (nI (B + 1 + 1 + 1 + 1 + 1 + 1 + 1 + 1 + 1 + 1 + 1 + 1))) 1 (pFour (pFour (pFour (pFour (μ.2 1) B a) (B + 1 + 1 + 1 + 1) b) (B + 1 + 1 + 1 + 1 + 1 + 1 + 1 + 1) c) (B + 1 + 1 + 1 + 1 + 1 + 1 + 1 + 1 + 1 + 1 + 1 + 1) d)) 2 (nI (B + 1 + 1 + 1 + 1 + 1 + 1 + 1 + 1 + 1 + 1 + 1 + 1 + 1 + 1 + 1 + 1))) 1 (pFour (pFour (pFour (pFour (pFour (μ.2 1) B a) (B + 1 + 1 + 1 + 1) b) (B + 1 + 1 + 1 + 1 + 1 + 1 + 1 + 1) c) (B + 1 + 1 + 1 + 1 + 1 + 1 + 1 + 1 + 1 + 1 + 1 + 1) d) (B + 1 + 1 + 1 + 1 + 1 + 1 + 1 + 1 + 1 + 1 + 1 + 1 + 1 + 1 + 1 + 1) e)) 2 (nI (B + 1 + 1 + 1 + 1 + 1 + 1 + 1 + 1 + 1 + 1 + 1 + 1 + 1 + 1 + 1 + 1 + 1 + 1 + 1 + 1)))) _ _ _
    refine ax_aload_n (pc := 47) G dX10_append_47 rfl rfl ?_
    refine md_get (pc := 48) (v := .int (nI (B + 1 + 1 + 1 + 1 + 1 + 1 + 1 + 1 + 1 + 1 + 1 + 1 + 1 + 1 + 1 + 1 + 1 + 1 + 1 + 1))) G flX10_48_8 dX10_append_48 rfl ?_
    exact ax_iretE (pc := 51) G E rfl (rfl) dX10_append_51 (rfl) (rfl)
  · omega

theorem mq_append_N {Ω : ax_O} (hA : ax_Amb Ω) {h : ax_H} {m : Nat} {μ : md_S} (hm : Ω.2.1.heap.size ≤ m) {B : Nat} (hB : μ.1 2 = nI B) (hB3 : B ≤ 1000) (hB4 : 1000 < B + 20) (a b c d e : Int32) : ax_Met Ω yX10_append 3 0 0 [.ref m, .int a, .int b, .int c, .int d, .int e] (md_H h m μ) (.inl (some (.int (-1)))) (md_H h m (md_si μ 0 (nI 0))) := by
  refine ax_met q2639 q142 (by decide +kernel) (by decide) hA (Nat.le_of_ble_eq_true rfl) (fun Γ G E => ?_)
  show ax_W Ω Γ 0 0 (md_H h m μ) 0 [some (.ref m), some (.int a), some (.int b), some (.int c), some (.int d), some (.int e)] []
  refine ax_aload_n (pc := 0) G dX10_append_0 rfl rfl ?_
  refine ax_iconst (pc := 1) (v := nI 0) G dX10_append_1 ic_0 ?_
  refine md_put (pc := 2) G flX10_45_8 dX10_append_2 hm (by decide) (rfl) rfl rfl ?_
  refine ax_aload_n (pc := 5) G dX10_append_5 rfl rfl ?_
  refine md_get (pc := 6) (v := .int (μ.1 2)) G flX10_48_8 dX10_append_6 rfl ?_
  refine ax_top (show Value.int (μ.1 2) = .int (nI B) from congrArg Value.int (hB)) ?_
  refine ax_bipush (pc := 9) (v := nI 20) G dX10_append_9 ib_20 ?_
  refine ax_iaddN (pc := 11) G dX10_append_11 ?_
  refine ax_sipush (pc := 12) (v := nI 1000) G dX10_append_12 is_1000 ?_
  refine ax_icmp_leN (pc := 15) (tgt := 20) G dX10_append_15 rfl (by omega) (by omega) (fun c15 => ?_) (fun c15 => ?_)
  · omega
  · refine ax_iconst (pc := 18) (v := (-1)) G dX10_append_18 (by decide) ?_
    exact ax_iretE (pc := 19) G E rfl (rfl) dX10_append_19 (rfl) (rfl)

