/-! THE MODEL: interrupting, best policy, longest entry -/
theorem mq_interrupting_Y {Ω : ax_O} (hA : ax_Amb Ω) {h : ax_H} {m : Nat} {μ : md_S} (hm : Ω.2.1.heap.size ≤ m) (h19 : μ.1 19 = nI 1) {P V O A : Nat} (hp : pWP (μ.2 2) P V O) (hs : pWS (μ.2 4) A) (k : Nat) (hk : k < V) (hr : pReason (μ.2 2) (μ.2 4) k = nI 0) : ax_Met Ω yX10_interrupting 14 0 0 [.ref m, .int (nI k)] (md_H h m μ) (.inl (some (.int (match pBr (μ.2 2) (pComes (μ.2 2) (μ.2 4) k) k A with | none => -1 | some a => nI (a - 20))))) (md_H h m (mAs (md_sa (md_sa (md_si μ 0 (nI 0)) 6 (μ.2 4)) 6 (pComes (μ.2 2) (μ.2 4) k)) (pBrT (μ.2 2) (pComes (μ.2 2) (μ.2 4) k) k (mOwn (md_sa (md_sa (md_si μ 0 (nI 0)) 6 (μ.2 4)) 6 (pComes (μ.2 2) (μ.2 4) k))) A))) := by
  refine ax_met q3079 q142 (by decide +kernel) (by decide) hA (Nat.le_of_ble_eq_true rfl) (fun Γ G E => ?_)
  have hV9 := hp.lV
  have hA9 := hs.lA
  show ax_W Ω Γ 0 0 (md_H h m μ) 0 [some (.ref m), some (.int (nI k)), none] []
  refine ax_aload_n (pc := 0) G dX10_interrupting_0 rfl rfl ?_
  refine ax_aload_n (pc := 1) G dX10_interrupting_1 rfl rfl ?_
  refine ax_iload_n (pc := 2) G dX10_interrupting_2 rfl rfl ?_
  refine ax_cV1 (pc := 3) (kb := 0) (nb := 0) G (mt_isVisit hA (μ := μ) (nI k)) lVX10_372_8 dX10_interrupting_3 md_obj rfl (by decide) (Nat.le_of_ble_eq_true rfl) rfl ?_
  refine ax_top (show Value.int (bI (pIn (nI k) (nI 0) ((μ.2 2) 65 - nI 1))) = .int (nI 1) from congrArg Value.int (by rw [pIn_k hp.hV hk (by have := hp.lV; omega)]; rfl)) ?_
  refine ax_aload_n (pc := 6) G dX10_interrupting_6 rfl rfl ?_
  refine md_get (pc := 7) (v := .int (μ.1 19)) G flX10_193_8 dX10_interrupting_7 rfl ?_
  refine ax_top (show Value.int (μ.1 19) = .int (nI 1) from congrArg Value.int (h19)) ?_
  refine ax_if_eq (pc := 10) (tgt := 37) G dX10_interrupting_10 rfl (fun c9 => absurd c9 (by decide)) (fun _ => ?_)
  refine ax_aload_n (pc := 13) G dX10_interrupting_13 rfl rfl ?_
  refine ax_iload_n (pc := 14) G dX10_interrupting_14 rfl rfl ?_
  refine ax_cV1 (pc := 15) (kb := 0) (nb := 0) G (mt_isVisit hA (μ := μ) (nI k)) lVX10_372_8 dX10_interrupting_15 md_obj rfl (by decide) (Nat.le_of_ble_eq_true rfl) rfl ?_
  refine ax_top (show Value.int (bI (pIn (nI k) (nI 0) ((μ.2 2) 65 - nI 1))) = .int (nI 1) from congrArg Value.int (by rw [pIn_k hp.hV hk (by have := hp.lV; omega)]; rfl)) ?_
  refine ax_if_eq (pc := 18) (tgt := 37) G dX10_interrupting_18 rfl (fun c9 => absurd c9 (by decide)) (fun _ => ?_)
  refine ax_aload_n (pc := 21) G dX10_interrupting_21 rfl rfl ?_
  refine ax_aload_n (pc := 22) G dX10_interrupting_22 rfl rfl ?_
  refine md_get (pc := 23) (v := .ref (m + 4)) G flX10_23_8 dX10_interrupting_23 rfl ?_
  refine ax_iload_n (pc := 26) G dX10_interrupting_26 rfl rfl ?_
  refine ax_cV1 (pc := 27) (kb := 0) (nb := 0) G (md_ro (mt_reasonFor hA (μ := μ) (s := μ.2 4) (j := 4) (Or.inl rfl) hp hs k (by omega))) lVX10_275_8 dX10_interrupting_27 md_obj rfl (by decide) (Nat.le_of_ble_eq_true rfl) rfl ?_
  refine ax_top (show Value.int (pReason (μ.2 2) (μ.2 4) k) = .int (nI 0) from congrArg Value.int (hr)) ?_
  refine ax_if_ne (pc := 30) (tgt := 37) G dX10_interrupting_30 rfl (fun c9 => absurd rfl c9) (fun _ => ?_)
  refine ax_iconst (pc := 33) (v := nI 1) G dX10_interrupting_33 ic_1 ?_
  refine ax_goto (pc := 34) (tgt := 38) G dX10_interrupting_34 rfl ?_
  refine ax_cV1 (pc := 38) (kb := 0) (nb := 0) G (mt_mayAskForY hA (μ := μ) hm h19) lVX10_361_8 dX10_interrupting_38 md_obj rfl (by decide) (Nat.le_of_ble_eq_true rfl) rfl ?_
  show ax_W Ω Γ _ _ (md_H h m (md_si μ 0 (nI 0))) _ _ _
  refine ax_if_ne (pc := 41) (tgt := 46) G dX10_interrupting_41 rfl (fun _ => ?_) (fun c9 => absurd c9 (by decide))
  refine ax_aload_n (pc := 46) G dX10_interrupting_46 rfl rfl ?_
  refine md_get (pc := 47) (v := .ref (m + 4)) G flX10_23_8 dX10_interrupting_47 rfl ?_
  refine ax_iconst (pc := 50) (v := nI 0) G dX10_interrupting_50 ic_0 ?_
  refine ax_aload_n (pc := 51) G dX10_interrupting_51 rfl rfl ?_
  refine md_get (pc := 52) (v := .ref (m + 6)) G flX10_29_8 dX10_interrupting_52 rfl ?_
  refine ax_iconst (pc := 55) (v := nI 0) G dX10_interrupting_55 ic_0 ?_
  refine ax_cS0 (pc := 56) (kb := 0) (nb := 0) G (mt_copy_4_6 hA (h := h) (m := m) (μ := (md_si μ 0 (nI 0))) hm 0 0 (by omega) (by omega)) lSX10_189 dX10_interrupting_56 rfl (by decide) (Nat.le_of_ble_eq_true rfl) rfl ?_
  show ax_W Ω Γ _ _ (md_H h m (md_sa (md_si μ 0 (nI 0)) 6 (pPut (μ.2 6) (fun z9 => (μ.2 4) (0 + z9)) 0 627))) _ _ _
  refine ax_W_le (md_le (μ := (md_si μ 0 (nI 0))) (j := 6) (f := (pPut (μ.2 6) (fun z9 => (μ.2 4) (0 + z9)) 0 627)) (g := μ.2 4) (by decide) (by decide) (fun i hi => pPut_all (by simpa [md_len] using hi))) ?_
  refine ax_aload_n (pc := 59) G dX10_interrupting_59 rfl rfl ?_
  refine ax_aload_n (pc := 60) G dX10_interrupting_60 rfl rfl ?_
  refine md_get (pc := 61) (v := .ref (m + 6)) G flX10_29_8 dX10_interrupting_61 rfl ?_
  refine ax_iload_n (pc := 64) G dX10_interrupting_64 rfl rfl ?_
  refine ax_cV0 (pc := 65) (kb := 0) (nb := 0) G (md_wr (mt_comesTo hA (μ := (md_sa (md_si μ 0 (nI 0)) 6 (μ.2 4))) (s := μ.2 4) hm (j := 6) (Or.inr rfl) hp hs k (by omega))) lVX10_309_8 dX10_interrupting_65 md_obj rfl (by decide) (Nat.le_of_ble_eq_true rfl) rfl ?_
  show ax_W Ω Γ _ _ (md_H h m (md_sa (md_sa (md_si μ 0 (nI 0)) 6 (μ.2 4)) 6 (pComes (μ.2 2) (μ.2 4) k))) _ _ _
  refine ax_aload_n (pc := 68) G dX10_interrupting_68 rfl rfl ?_
  refine ax_aload_n (pc := 69) G dX10_interrupting_69 rfl rfl ?_
  refine md_get (pc := 70) (v := .ref (m + 6)) G flX10_29_8 dX10_interrupting_70 rfl ?_
  refine ax_iload_n (pc := 73) G dX10_interrupting_73 rfl rfl ?_
  refine ax_cV1 (pc := 74) (kb := 0) (nb := 0) G (mt_breakingR hA (h := h) (m := m) (μ := (md_sa (md_sa (md_si μ 0 (nI 0)) 6 (μ.2 4)) 6 (pComes (μ.2 2) (μ.2 4) k))) hm (j := 6) (Or.inr rfl) hp (pWS.comes hp (hs) (by omega)) k (by omega)) lVX10_313_8 dX10_interrupting_74 md_obj rfl (by decide) (Nat.le_of_ble_eq_true rfl) rfl ?_
  show ax_W Ω Γ _ _ (md_H h m (mAs (md_sa (md_sa (md_si μ 0 (nI 0)) 6 (μ.2 4)) 6 (pComes (μ.2 2) (μ.2 4) k)) (pBrT (μ.2 2) (pComes (μ.2 2) (μ.2 4) k) k (mOwn (md_sa (md_sa (md_si μ 0 (nI 0)) 6 (μ.2 4)) 6 (pComes (μ.2 2) (μ.2 4) k))) A))) _ _ _
  refine ax_istore_n (pc := 77) G dX10_interrupting_77 rfl (Nat.le_of_ble_eq_true rfl) rfl ?_
  show ax_W Ω Γ _ _ _ _ [some (.ref m), some (.int (nI k)), some (.int (oI (pBr (μ.2 2) (pComes (μ.2 2) (μ.2 4) k) k A)))] _
  rcases e : pBr (μ.2 2) (pComes (μ.2 2) (μ.2 4) k) k A with _ | o
  · show ax_W Ω Γ _ _ _ _ [some (.ref m), some (.int (nI k)), some (.int (-1))] _
    refine ax_iload_n (pc := 78) G dX10_interrupting_78 rfl rfl ?_
    refine ax_iconst (pc := 79) (v := (-1)) G dX10_interrupting_79 (by decide) ?_
    refine ax_icmp_ne (pc := 80) (tgt := 87) G dX10_interrupting_80 rfl (fun c9 => absurd rfl c9) (fun _ => ?_)
    refine ax_iconst (pc := 83) (v := (-1)) G dX10_interrupting_83 (by decide) ?_
    refine ax_goto (pc := 84) (tgt := 91) G dX10_interrupting_84 rfl ?_
    exact ax_iretE (pc := 91) G E rfl (rfl) dX10_interrupting_91 (by rw [e]) (rfl)
  · have ho_o := pBr_l e
    show ax_W Ω Γ _ _ _ _ [some (.ref m), some (.int (nI k)), some (.int (nI o))] _
    refine ax_iload_n (pc := 78) G dX10_interrupting_78 rfl rfl ?_
    refine ax_iconst (pc := 79) (v := (-1)) G dX10_interrupting_79 (by decide) ?_
    refine ax_icmp_ne (pc := 80) (tgt := 87) G dX10_interrupting_80 rfl (fun _ => ?_) (fun c9 => absurd c9 (nI_nm (by omega)))
    refine ax_iload_n (pc := 87) G dX10_interrupting_87 rfl rfl ?_
    refine ax_bipush (pc := 88) (v := nI 20) G dX10_interrupting_88 ib_20 ?_
    refine ax_isubN (pc := 90) G dX10_interrupting_90 (by omega) ?_
    exact ax_iretE (pc := 91) G E rfl (rfl) dX10_interrupting_91 (by rw [e]) (rfl)

theorem mq_interrupting_N {Ω : ax_O} (hA : ax_Amb Ω) {h : ax_H} {m : Nat} {μ : md_S} (hm : Ω.2.1.heap.size ≤ m) (h19 : μ.1 19 = nI 0) (k : Int32) : ax_Met Ω yX10_interrupting 14 0 0 [.ref m, .int k] (md_H h m μ) (.inl (some (.int (nI 0)))) (md_H h m (md_si μ 0 (nI 1))) := by
  refine ax_met q3079 q142 (by decide +kernel) (by decide) hA (Nat.le_of_ble_eq_true rfl) (fun Γ G E => ?_)
  show ax_W Ω Γ 0 0 (md_H h m μ) 0 [some (.ref m), some (.int k), none] []
  refine ax_aload_n (pc := 0) G dX10_interrupting_0 rfl rfl ?_
  refine ax_aload_n (pc := 1) G dX10_interrupting_1 rfl rfl ?_
  refine ax_iload_n (pc := 2) G dX10_interrupting_2 rfl rfl ?_
  refine ax_cV1 (pc := 3) (kb := 0) (nb := 0) G (mt_isVisit hA (μ := μ) k) lVX10_372_8 dX10_interrupting_3 md_obj rfl (by decide) (Nat.le_of_ble_eq_true rfl) rfl ?_
  refine ax_aload_n (pc := 6) G dX10_interrupting_6 rfl rfl ?_
  refine md_get (pc := 7) (v := .int (μ.1 19)) G flX10_193_8 dX10_interrupting_7 rfl ?_
  refine ax_top (show Value.int (μ.1 19) = .int (nI 0) from congrArg Value.int (h19)) ?_
  refine ax_if_eq (pc := 10) (tgt := 37) G dX10_interrupting_10 rfl (fun _ => ?_) (fun c9 => absurd rfl c9)
  refine ax_iconst (pc := 37) (v := nI 0) G dX10_interrupting_37 ic_0 ?_
  refine ax_cV1 (pc := 38) (kb := 0) (nb := 0) G (mt_mayAskForN hA (μ := μ) hm h19 (pIn k (nI 0) ((μ.2 2) 65 - nI 1)) false) lVX10_361_8 dX10_interrupting_38 md_obj rfl (by decide) (Nat.le_of_ble_eq_true rfl) rfl ?_
  show ax_W Ω Γ _ _ (md_H h m (md_si μ 0 (nI 1))) _ _ _
  refine ax_if_ne (pc := 41) (tgt := 46) G dX10_interrupting_41 rfl (fun c9 => absurd rfl c9) (fun _ => ?_)
  refine ax_iconst (pc := 44) (v := nI 0) G dX10_interrupting_44 ic_0 ?_
  exact ax_iretE (pc := 45) G E rfl (rfl) dX10_interrupting_45 (rfl) (rfl)

theorem mq_interrupting_B {Ω : ax_O} (hA : ax_Amb Ω) {h : ax_H} {m : Nat} {μ : md_S} (hm : Ω.2.1.heap.size ≤ m) (h19 : μ.1 19 = nI 1) (k : Int32) (hb : pIn k (nI 0) ((μ.2 2) 65 - nI 1) = false) : ax_Met Ω yX10_interrupting 14 0 0 [.ref m, .int k] (md_H h m μ) (.inl (some (.int (nI 0)))) (md_H h m (md_si μ 0 (nI 2))) := by
  refine ax_met q3079 q142 (by decide +kernel) (by decide) hA (Nat.le_of_ble_eq_true rfl) (fun Γ G E => ?_)
  show ax_W Ω Γ 0 0 (md_H h m μ) 0 [some (.ref m), some (.int k), none] []
  refine ax_aload_n (pc := 0) G dX10_interrupting_0 rfl rfl ?_
  refine ax_aload_n (pc := 1) G dX10_interrupting_1 rfl rfl ?_
  refine ax_iload_n (pc := 2) G dX10_interrupting_2 rfl rfl ?_
  refine ax_cV1 (pc := 3) (kb := 0) (nb := 0) G (mt_isVisit hA (μ := μ) k) lVX10_372_8 dX10_interrupting_3 md_obj rfl (by decide) (Nat.le_of_ble_eq_true rfl) rfl ?_
  refine ax_top (show Value.int (bI (pIn k (nI 0) ((μ.2 2) 65 - nI 1))) = .int (nI 0) from congrArg Value.int (by rw [hb]; rfl)) ?_
  refine ax_aload_n (pc := 6) G dX10_interrupting_6 rfl rfl ?_
  refine md_get (pc := 7) (v := .int (μ.1 19)) G flX10_193_8 dX10_interrupting_7 rfl ?_
  refine ax_top (show Value.int (μ.1 19) = .int (nI 1) from congrArg Value.int (h19)) ?_
  refine ax_if_eq (pc := 10) (tgt := 37) G dX10_interrupting_10 rfl (fun c9 => absurd c9 (by decide)) (fun _ => ?_)
  refine ax_aload_n (pc := 13) G dX10_interrupting_13 rfl rfl ?_
  refine ax_iload_n (pc := 14) G dX10_interrupting_14 rfl rfl ?_
  refine ax_cV1 (pc := 15) (kb := 0) (nb := 0) G (mt_isVisit hA (μ := μ) k) lVX10_372_8 dX10_interrupting_15 md_obj rfl (by decide) (Nat.le_of_ble_eq_true rfl) rfl ?_
  refine ax_top (show Value.int (bI (pIn k (nI 0) ((μ.2 2) 65 - nI 1))) = .int (nI 0) from congrArg Value.int (by rw [hb]; rfl)) ?_
  refine ax_if_eq (pc := 18) (tgt := 37) G dX10_interrupting_18 rfl (fun _ => ?_) (fun c9 => absurd rfl c9)
  refine ax_iconst (pc := 37) (v := nI 0) G dX10_interrupting_37 ic_0 ?_
  refine ax_cV1 (pc := 38) (kb := 0) (nb := 0) G (mt_mayAskForB hA (μ := μ) hm h19 false) lVX10_361_8 dX10_interrupting_38 md_obj rfl (by decide) (Nat.le_of_ble_eq_true rfl) rfl ?_
  show ax_W Ω Γ _ _ (md_H h m (md_si μ 0 (nI 2))) _ _ _
  refine ax_if_ne (pc := 41) (tgt := 46) G dX10_interrupting_41 rfl (fun c9 => absurd rfl c9) (fun _ => ?_)
  refine ax_iconst (pc := 44) (v := nI 0) G dX10_interrupting_44 ic_0 ?_
  exact ax_iretE (pc := 45) G E rfl (rfl) dX10_interrupting_45 (rfl) (rfl)

theorem mq_interrupting_C {Ω : ax_O} (hA : ax_Amb Ω) {h : ax_H} {m : Nat} {μ : md_S} (hm : Ω.2.1.heap.size ≤ m) (h19 : μ.1 19 = nI 1) {P V O A : Nat} (hp : pWP (μ.2 2) P V O) (hs : pWS (μ.2 4) A) (k : Nat) (hk : k < V) (hr : ¬ pReason (μ.2 2) (μ.2 4) k = 0) : ax_Met Ω yX10_interrupting 14 0 0 [.ref m, .int (nI k)] (md_H h m μ) (.inl (some (.int (nI 0)))) (md_H h m (md_si μ 0 (nI 3))) := by
  refine ax_met q3079 q142 (by decide +kernel) (by decide) hA (Nat.le_of_ble_eq_true rfl) (fun Γ G E => ?_)
  have hV9 := hp.lV
  show ax_W Ω Γ 0 0 (md_H h m μ) 0 [some (.ref m), some (.int (nI k)), none] []
  refine ax_aload_n (pc := 0) G dX10_interrupting_0 rfl rfl ?_
  refine ax_aload_n (pc := 1) G dX10_interrupting_1 rfl rfl ?_
  refine ax_iload_n (pc := 2) G dX10_interrupting_2 rfl rfl ?_
  refine ax_cV1 (pc := 3) (kb := 0) (nb := 0) G (mt_isVisit hA (μ := μ) (nI k)) lVX10_372_8 dX10_interrupting_3 md_obj rfl (by decide) (Nat.le_of_ble_eq_true rfl) rfl ?_
  refine ax_top (show Value.int (bI (pIn (nI k) (nI 0) ((μ.2 2) 65 - nI 1))) = .int (nI 1) from congrArg Value.int (by rw [pIn_k hp.hV hk (by have := hp.lV; omega)]; rfl)) ?_
  refine ax_aload_n (pc := 6) G dX10_interrupting_6 rfl rfl ?_
  refine md_get (pc := 7) (v := .int (μ.1 19)) G flX10_193_8 dX10_interrupting_7 rfl ?_
  refine ax_top (show Value.int (μ.1 19) = .int (nI 1) from congrArg Value.int (h19)) ?_
  refine ax_if_eq (pc := 10) (tgt := 37) G dX10_interrupting_10 rfl (fun c9 => absurd c9 (by decide)) (fun _ => ?_)
  refine ax_aload_n (pc := 13) G dX10_interrupting_13 rfl rfl ?_
  refine ax_iload_n (pc := 14) G dX10_interrupting_14 rfl rfl ?_
  refine ax_cV1 (pc := 15) (kb := 0) (nb := 0) G (mt_isVisit hA (μ := μ) (nI k)) lVX10_372_8 dX10_interrupting_15 md_obj rfl (by decide) (Nat.le_of_ble_eq_true rfl) rfl ?_
  refine ax_top (show Value.int (bI (pIn (nI k) (nI 0) ((μ.2 2) 65 - nI 1))) = .int (nI 1) from congrArg Value.int (by rw [pIn_k hp.hV hk (by have := hp.lV; omega)]; rfl)) ?_
  refine ax_if_eq (pc := 18) (tgt := 37) G dX10_interrupting_18 rfl (fun c9 => absurd c9 (by decide)) (fun _ => ?_)
  refine ax_aload_n (pc := 21) G dX10_interrupting_21 rfl rfl ?_
  refine ax_aload_n (pc := 22) G dX10_interrupting_22 rfl rfl ?_
  refine md_get (pc := 23) (v := .ref (m + 4)) G flX10_23_8 dX10_interrupting_23 rfl ?_
  refine ax_iload_n (pc := 26) G dX10_interrupting_26 rfl rfl ?_
  refine ax_cV1 (pc := 27) (kb := 0) (nb := 0) G (md_ro (mt_reasonFor hA (μ := μ) (s := μ.2 4) (j := 4) (Or.inl rfl) hp hs k (by omega))) lVX10_275_8 dX10_interrupting_27 md_obj rfl (by decide) (Nat.le_of_ble_eq_true rfl) rfl ?_
  refine ax_if_ne (pc := 30) (tgt := 37) G dX10_interrupting_30 rfl (fun _ => ?_) (fun c9 => absurd c9 hr)
  refine ax_iconst (pc := 37) (v := nI 0) G dX10_interrupting_37 ic_0 ?_
  refine ax_cV1 (pc := 38) (kb := 0) (nb := 0) G (mt_mayAskForC hA (μ := μ) hm h19) lVX10_361_8 dX10_interrupting_38 md_obj rfl (by decide) (Nat.le_of_ble_eq_true rfl) rfl ?_
  show ax_W Ω Γ _ _ (md_H h m (md_si μ 0 (nI 3))) _ _ _
  refine ax_if_ne (pc := 41) (tgt := 46) G dX10_interrupting_41 rfl (fun c9 => absurd rfl c9) (fun _ => ?_)
  refine ax_iconst (pc := 44) (v := nI 0) G dX10_interrupting_44 ic_0 ?_
  exact ax_iretE (pc := 45) G E rfl (rfl) dX10_interrupting_45 (rfl) (rfl)

theorem mq_bestPolicy_Y {Ω : ax_O} (hA : ax_Amb Ω) {h : ax_H} {m : Nat} {μ : md_S} (hm : Ω.2.1.heap.size ≤ m) (h19 : μ.1 19 = nI 1) {P V O A : Nat} (hp : pWP (μ.2 2) P V O) (hs : pWS (μ.2 4) A)  : ax_Met Ω yX10_bestPolicy 14 0 0 [.ref m] (md_H h m μ) (.inl (some (.int ((pBest (fun n => pEnd (μ.2 2) (μ.2 4) V A (nI n) ((μ.2 4) 15) 6) 4).1)))) (md_H h m (mEnd (mEnd (mEnd (mEnd (md_si μ 0 (nI 0)) V A (nI 0) ((μ.2 4) 15)) V A (nI 1) ((μ.2 4) 15)) V A (nI 2) ((μ.2 4) 15)) V A (nI 3) ((μ.2 4) 15))) := by
  refine ax_met q3139 q142 (by decide +kernel) (by decide) hA (Nat.le_of_ble_eq_true rfl) (fun Γ G E => ?_)
  show ax_W Ω Γ 0 0 (md_H h m μ) 0 [some (.ref m), none, none, none] []
  refine ax_aload_n (pc := 0) G dX10_bestPolicy_0 rfl rfl ?_
  refine ax_iconst (pc := 1) (v := nI 1) G dX10_bestPolicy_1 ic_1 ?_
  refine ax_cV1 (pc := 2) (kb := 0) (nb := 0) G (mt_mayAskY hA (μ := μ) hm h19) lVX10_368_8 dX10_bestPolicy_2 md_obj rfl (by decide) (Nat.le_of_ble_eq_true rfl) rfl ?_
  show ax_W Ω Γ _ _ (md_H h m (md_si μ 0 (nI 0))) _ _ _
  refine ax_if_ne (pc := 5) (tgt := 10) G dX10_bestPolicy_5 rfl (fun _ => ?_) (fun c9 => absurd c9 (by decide))
  refine ax_iconst (pc := 10) (v := nI 0) G dX10_bestPolicy_10 ic_0 ?_
  refine ax_istore_n (pc := 11) G dX10_bestPolicy_11 rfl (Nat.le_of_ble_eq_true rfl) rfl ?_
  refine ax_iconst (pc := 12) (v := (-1)) G dX10_bestPolicy_12 (by decide) ?_
  refine ax_istore_n (pc := 13) G dX10_bestPolicy_13 rfl (Nat.le_of_ble_eq_true rfl) rfl ?_
  refine ax_iconst (pc := 14) (v := nI 0) G dX10_bestPolicy_14 ic_0 ?_
  refine ax_istore_n (pc := 15) G dX10_bestPolicy_15 rfl (Nat.le_of_ble_eq_true rfl) rfl ?_
  refine ax_iload_n (pc := 16) G dX10_bestPolicy_16 rfl rfl ?_
  refine ax_iconst (pc := 17) (v := nI 4) G dX10_bestPolicy_17 ic_4 ?_
  refine ax_icmp_ge (pc := 18) (tgt := 63) G dX10_bestPolicy_18 rfl (fun c9 => absurd c9 (by decide)) (fun _ => ?_)
  refine ax_aload_n (pc := 21) G dX10_bestPolicy_21 rfl rfl ?_
  refine ax_iload_n (pc := 22) G dX10_bestPolicy_22 rfl rfl ?_
  refine ax_aload_n (pc := 23) G dX10_bestPolicy_23 rfl rfl ?_
  refine md_get (pc := 24) (v := .ref (m + 4)) G flX10_23_8 dX10_bestPolicy_24 rfl ?_
  refine ax_bipush (pc := 27) (v := nI 15) G dX10_bestPolicy_27 ib_15 ?_
  refine md_ld (pc := 29) (i := 15) (j := 4) G 627 dX10_bestPolicy_29 (by decide) (by decide) rfl rfl rfl (by omega) (by decide) ?_
  refine ax_cV0 (pc := 30) (kb := 0) (nb := 0) G (mt_toEnd hA (h := h) (m := m) (μ := (md_si μ 0 (nI 0))) hm hp hs (nI 0) ((μ.2 4) 15)) lVX10_394_8 dX10_bestPolicy_30 md_obj rfl (by decide) (Nat.le_of_ble_eq_true rfl) rfl ?_
  show ax_W Ω Γ _ _ (md_H h m (mEnd (md_si μ 0 (nI 0)) V A (nI 0) ((μ.2 4) 15))) _ _ _
  refine ax_aload_n (pc := 33) G dX10_bestPolicy_33 rfl rfl ?_
  refine md_get (pc := 34) (v := .ref (m + 6)) G flX10_29_8 dX10_bestPolicy_34 rfl ?_
  refine ax_bipush (pc := 37) (v := nI 6) G dX10_bestPolicy_37 ib_6 ?_
  refine md_ld (pc := 39) (i := 6) (j := 6) G 627 dX10_bestPolicy_39 (by decide) (by decide) rfl rfl rfl (by omega) (by decide) ?_
  refine ax_iload_n (pc := 40) G dX10_bestPolicy_40 rfl rfl ?_
  refine ax_icmp_gt (pc := 41) (tgt := 47) G dX10_bestPolicy_41 rfl (fun c41 => ?_) (fun c41 => ?_)
  · replace c41 : (-1) < ((pEnd (μ.2 2) (μ.2 4) V A (nI 0) ((μ.2 4) 15)) 6) := c41
    refine ax_iload_n (pc := 47) G dX10_bestPolicy_47 rfl rfl ?_
    refine ax_istore_n (pc := 48) G dX10_bestPolicy_48 rfl (Nat.le_of_ble_eq_true rfl) rfl ?_
    refine ax_aload_n (pc := 49) G dX10_bestPolicy_49 rfl rfl ?_
    refine md_get (pc := 50) (v := .ref (m + 6)) G flX10_29_8 dX10_bestPolicy_50 rfl ?_
    refine ax_bipush (pc := 53) (v := nI 6) G dX10_bestPolicy_53 ib_6 ?_
    refine md_ld (pc := 55) (i := 6) (j := 6) G 627 dX10_bestPolicy_55 (by decide) (by decide) rfl rfl rfl (by omega) (by decide) ?_
    refine ax_istore_n (pc := 56) G dX10_bestPolicy_56 rfl (Nat.le_of_ble_eq_true rfl) rfl ?_
    refine ax_iincN (pc := 57) (n := 1) G dX10_bestPolicy_57 rfl rfl ic_1 ?_
    refine ax_goto (pc := 60) (tgt := 16) G dX10_bestPolicy_60 rfl ?_
    refine ax_iload_n (pc := 16) G dX10_bestPolicy_16 rfl rfl ?_
    refine ax_iconst (pc := 17) (v := nI 4) G dX10_bestPolicy_17 ic_4 ?_
    refine ax_icmp_ge (pc := 18) (tgt := 63) G dX10_bestPolicy_18 rfl (fun c9 => absurd c9 (by decide)) (fun _ => ?_)
    refine ax_aload_n (pc := 21) G dX10_bestPolicy_21 rfl rfl ?_
    refine ax_iload_n (pc := 22) G dX10_bestPolicy_22 rfl rfl ?_
    refine ax_aload_n (pc := 23) G dX10_bestPolicy_23 rfl rfl ?_
    refine md_get (pc := 24) (v := .ref (m + 4)) G flX10_23_8 dX10_bestPolicy_24 rfl ?_
    refine ax_bipush (pc := 27) (v := nI 15) G dX10_bestPolicy_27 ib_15 ?_
    refine md_ld (pc := 29) (i := 15) (j := 4) G 627 dX10_bestPolicy_29 (by decide) (by decide) rfl rfl rfl (by omega) (by decide) ?_
    refine ax_cV0 (pc := 30) (kb := 0) (nb := 0) G (mt_toEnd hA (h := h) (m := m) (μ := (mEnd (md_si μ 0 (nI 0)) V A (nI 0) ((μ.2 4) 15))) hm hp hs (nI 1) ((μ.2 4) 15)) lVX10_394_8 dX10_bestPolicy_30 md_obj rfl (by decide) (Nat.le_of_ble_eq_true rfl) rfl ?_
    show ax_W Ω Γ _ _ (md_H h m (mEnd (mEnd (md_si μ 0 (nI 0)) V A (nI 0) ((μ.2 4) 15)) V A (nI 1) ((μ.2 4) 15))) _ _ _
    refine ax_aload_n (pc := 33) G dX10_bestPolicy_33 rfl rfl ?_
    refine md_get (pc := 34) (v := .ref (m + 6)) G flX10_29_8 dX10_bestPolicy_34 rfl ?_
    refine ax_bipush (pc := 37) (v := nI 6) G dX10_bestPolicy_37 ib_6 ?_
    refine md_ld (pc := 39) (i := 6) (j := 6) G 627 dX10_bestPolicy_39 (by decide) (by decide) rfl rfl rfl (by omega) (by decide) ?_
    refine ax_iload_n (pc := 40) G dX10_bestPolicy_40 rfl rfl ?_
    refine ax_icmp_gt (pc := 41) (tgt := 47) G dX10_bestPolicy_41 rfl (fun c41x => ?_) (fun c41x => ?_)
    · replace c41x : ((pEnd (μ.2 2) (μ.2 4) V A (nI 0) ((μ.2 4) 15)) 6) < ((pEnd (μ.2 2) (μ.2 4) V A (nI 1) ((μ.2 4) 15)) 6) := c41x
      refine ax_iload_n (pc := 47) G dX10_bestPolicy_47 rfl rfl ?_
      refine ax_istore_n (pc := 48) G dX10_bestPolicy_48 rfl (Nat.le_of_ble_eq_true rfl) rfl ?_
      refine ax_aload_n (pc := 49) G dX10_bestPolicy_49 rfl rfl ?_
      refine md_get (pc := 50) (v := .ref (m + 6)) G flX10_29_8 dX10_bestPolicy_50 rfl ?_
      refine ax_bipush (pc := 53) (v := nI 6) G dX10_bestPolicy_53 ib_6 ?_
      refine md_ld (pc := 55) (i := 6) (j := 6) G 627 dX10_bestPolicy_55 (by decide) (by decide) rfl rfl rfl (by omega) (by decide) ?_
      refine ax_istore_n (pc := 56) G dX10_bestPolicy_56 rfl (Nat.le_of_ble_eq_true rfl) rfl ?_
      refine ax_iincN (pc := 57) (n := 1) G dX10_bestPolicy_57 rfl rfl ic_1 ?_
      refine ax_goto (pc := 60) (tgt := 16) G dX10_bestPolicy_60 rfl ?_
      refine ax_iload_n (pc := 16) G dX10_bestPolicy_16 rfl rfl ?_
      refine ax_iconst (pc := 17) (v := nI 4) G dX10_bestPolicy_17 ic_4 ?_
      refine ax_icmp_ge (pc := 18) (tgt := 63) G dX10_bestPolicy_18 rfl (fun c9 => absurd c9 (by decide)) (fun _ => ?_)
      refine ax_aload_n (pc := 21) G dX10_bestPolicy_21 rfl rfl ?_
      refine ax_iload_n (pc := 22) G dX10_bestPolicy_22 rfl rfl ?_
      refine ax_aload_n (pc := 23) G dX10_bestPolicy_23 rfl rfl ?_
      refine md_get (pc := 24) (v := .ref (m + 4)) G flX10_23_8 dX10_bestPolicy_24 rfl ?_
      refine ax_bipush (pc := 27) (v := nI 15) G dX10_bestPolicy_27 ib_15 ?_
      refine md_ld (pc := 29) (i := 15) (j := 4) G 627 dX10_bestPolicy_29 (by decide) (by decide) rfl rfl rfl (by omega) (by decide) ?_
      refine ax_cV0 (pc := 30) (kb := 0) (nb := 0) G (mt_toEnd hA (h := h) (m := m) (μ := (mEnd (mEnd (md_si μ 0 (nI 0)) V A (nI 0) ((μ.2 4) 15)) V A (nI 1) ((μ.2 4) 15))) hm hp hs (nI 2) ((μ.2 4) 15)) lVX10_394_8 dX10_bestPolicy_30 md_obj rfl (by decide) (Nat.le_of_ble_eq_true rfl) rfl ?_
      show ax_W Ω Γ _ _ (md_H h m (mEnd (mEnd (mEnd (md_si μ 0 (nI 0)) V A (nI 0) ((μ.2 4) 15)) V A (nI 1) ((μ.2 4) 15)) V A (nI 2) ((μ.2 4) 15))) _ _ _
      refine ax_aload_n (pc := 33) G dX10_bestPolicy_33 rfl rfl ?_
      refine md_get (pc := 34) (v := .ref (m + 6)) G flX10_29_8 dX10_bestPolicy_34 rfl ?_
      refine ax_bipush (pc := 37) (v := nI 6) G dX10_bestPolicy_37 ib_6 ?_
      refine md_ld (pc := 39) (i := 6) (j := 6) G 627 dX10_bestPolicy_39 (by decide) (by decide) rfl rfl rfl (by omega) (by decide) ?_
      refine ax_iload_n (pc := 40) G dX10_bestPolicy_40 rfl rfl ?_
      refine ax_icmp_gt (pc := 41) (tgt := 47) G dX10_bestPolicy_41 rfl (fun c41xx => ?_) (fun c41xx => ?_)
      · replace c41xx : ((pEnd (μ.2 2) (μ.2 4) V A (nI 1) ((μ.2 4) 15)) 6) < ((pEnd (μ.2 2) (μ.2 4) V A (nI 2) ((μ.2 4) 15)) 6) := c41xx
        refine ax_iload_n (pc := 47) G dX10_bestPolicy_47 rfl rfl ?_
        refine ax_istore_n (pc := 48) G dX10_bestPolicy_48 rfl (Nat.le_of_ble_eq_true rfl) rfl ?_
        refine ax_aload_n (pc := 49) G dX10_bestPolicy_49 rfl rfl ?_
        refine md_get (pc := 50) (v := .ref (m + 6)) G flX10_29_8 dX10_bestPolicy_50 rfl ?_
        refine ax_bipush (pc := 53) (v := nI 6) G dX10_bestPolicy_53 ib_6 ?_
        refine md_ld (pc := 55) (i := 6) (j := 6) G 627 dX10_bestPolicy_55 (by decide) (by decide) rfl rfl rfl (by omega) (by decide) ?_
        refine ax_istore_n (pc := 56) G dX10_bestPolicy_56 rfl (Nat.le_of_ble_eq_true rfl) rfl ?_
        refine ax_iincN (pc := 57) (n := 1) G dX10_bestPolicy_57 rfl rfl ic_1 ?_
        refine ax_goto (pc := 60) (tgt := 16) G dX10_bestPolicy_60 rfl ?_
        refine ax_iload_n (pc := 16) G dX10_bestPolicy_16 rfl rfl ?_
        refine ax_iconst (pc := 17) (v := nI 4) G dX10_bestPolicy_17 ic_4 ?_
        refine ax_icmp_ge (pc := 18) (tgt := 63) G dX10_bestPolicy_18 rfl (fun c9 => absurd c9 (by decide)) (fun _ => ?_)
        refine ax_aload_n (pc := 21) G dX10_bestPolicy_21 rfl rfl ?_
        refine ax_iload_n (pc := 22) G dX10_bestPolicy_22 rfl rfl ?_
        refine ax_aload_n (pc := 23) G dX10_bestPolicy_23 rfl rfl ?_
        refine md_get (pc := 24) (v := .ref (m + 4)) G flX10_23_8 dX10_bestPolicy_24 rfl ?_
        refine ax_bipush (pc := 27) (v := nI 15) G dX10_bestPolicy_27 ib_15 ?_
        refine md_ld (pc := 29) (i := 15) (j := 4) G 627 dX10_bestPolicy_29 (by decide) (by decide) rfl rfl rfl (by omega) (by decide) ?_
        refine ax_cV0 (pc := 30) (kb := 0) (nb := 0) G (mt_toEnd hA (h := h) (m := m) (μ := (mEnd (mEnd (mEnd (md_si μ 0 (nI 0)) V A (nI 0) ((μ.2 4) 15)) V A (nI 1) ((μ.2 4) 15)) V A (nI 2) ((μ.2 4) 15))) hm hp hs (nI 3) ((μ.2 4) 15)) lVX10_394_8 dX10_bestPolicy_30 md_obj rfl (by decide) (Nat.le_of_ble_eq_true rfl) rfl ?_
        show ax_W Ω Γ _ _ (md_H h m (mEnd (mEnd (mEnd (mEnd (md_si μ 0 (nI 0)) V A (nI 0) ((μ.2 4) 15)) V A (nI 1) ((μ.2 4) 15)) V A (nI 2) ((μ.2 4) 15)) V A (nI 3) ((μ.2 4) 15))) _ _ _
        refine ax_aload_n (pc := 33) G dX10_bestPolicy_33 rfl rfl ?_
        refine md_get (pc := 34) (v := .ref (m + 6)) G flX10_29_8 dX10_bestPolicy_34 rfl ?_
        refine ax_bipush (pc := 37) (v := nI 6) G dX10_bestPolicy_37 ib_6 ?_
        refine md_ld (pc := 39) (i := 6) (j := 6) G 627 dX10_bestPolicy_39 (by decide) (by decide) rfl rfl rfl (by omega) (by decide) ?_
        refine ax_iload_n (pc := 40) G dX10_bestPolicy_40 rfl rfl ?_
        refine ax_icmp_gt (pc := 41) (tgt := 47) G dX10_bestPolicy_41 rfl (fun c41xxx => ?_) (fun c41xxx => ?_)
        · replace c41xxx : ((pEnd (μ.2 2) (μ.2 4) V A (nI 2) ((μ.2 4) 15)) 6) < ((pEnd (μ.2 2) (μ.2 4) V A (nI 3) ((μ.2 4) 15)) 6) := c41xxx
          refine ax_iload_n (pc := 47) G dX10_bestPolicy_47 rfl rfl ?_
          refine ax_istore_n (pc := 48) G dX10_bestPolicy_48 rfl (Nat.le_of_ble_eq_true rfl) rfl ?_
          refine ax_aload_n (pc := 49) G dX10_bestPolicy_49 rfl rfl ?_
          refine md_get (pc := 50) (v := .ref (m + 6)) G flX10_29_8 dX10_bestPolicy_50 rfl ?_
          refine ax_bipush (pc := 53) (v := nI 6) G dX10_bestPolicy_53 ib_6 ?_
          refine md_ld (pc := 55) (i := 6) (j := 6) G 627 dX10_bestPolicy_55 (by decide) (by decide) rfl rfl rfl (by omega) (by decide) ?_
          refine ax_istore_n (pc := 56) G dX10_bestPolicy_56 rfl (Nat.le_of_ble_eq_true rfl) rfl ?_
          refine ax_iincN (pc := 57) (n := 1) G dX10_bestPolicy_57 rfl rfl ic_1 ?_
          refine ax_goto (pc := 60) (tgt := 16) G dX10_bestPolicy_60 rfl ?_
          refine ax_iload_n (pc := 16) G dX10_bestPolicy_16 rfl rfl ?_
          refine ax_iconst (pc := 17) (v := nI 4) G dX10_bestPolicy_17 ic_4 ?_
          refine ax_icmp_ge (pc := 18) (tgt := 63) G dX10_bestPolicy_18 rfl (fun _ => ?_) (fun c9 => absurd (by decide) c9)
          refine ax_iload_n (pc := 63) G dX10_bestPolicy_63 rfl rfl ?_
          exact ax_iretE (pc := 64) G E rfl (rfl) dX10_bestPolicy_64 (by
  have e : ∀ n, (fun n => pEnd (μ.2 2) (μ.2 4) V A (nI n) ((μ.2 4) 15) 6) n = pEnd (μ.2 2) (μ.2 4) V A (nI n) ((μ.2 4) 15) 6 := fun _ => rfl
  simp only [pBest, e, c41, Int32.not_le.mpr c41, c41x, Int32.not_le.mpr c41x, c41xx, Int32.not_le.mpr c41xx, c41xxx, Int32.not_le.mpr c41xxx, if_true, if_false]) (rfl)
        · replace c41xxx : ¬ ((pEnd (μ.2 2) (μ.2 4) V A (nI 2) ((μ.2 4) 15)) 6) < ((pEnd (μ.2 2) (μ.2 4) V A (nI 3) ((μ.2 4) 15)) 6) := c41xxx
          refine ax_goto (pc := 44) (tgt := 57) G dX10_bestPolicy_44 rfl ?_
          refine ax_iincN (pc := 57) (n := 1) G dX10_bestPolicy_57 rfl rfl ic_1 ?_
          refine ax_goto (pc := 60) (tgt := 16) G dX10_bestPolicy_60 rfl ?_
          refine ax_iload_n (pc := 16) G dX10_bestPolicy_16 rfl rfl ?_
          refine ax_iconst (pc := 17) (v := nI 4) G dX10_bestPolicy_17 ic_4 ?_
          refine ax_icmp_ge (pc := 18) (tgt := 63) G dX10_bestPolicy_18 rfl (fun _ => ?_) (fun c9 => absurd (by decide) c9)
          refine ax_iload_n (pc := 63) G dX10_bestPolicy_63 rfl rfl ?_
          exact ax_iretE (pc := 64) G E rfl (rfl) dX10_bestPolicy_64 (by
  have e : ∀ n, (fun n => pEnd (μ.2 2) (μ.2 4) V A (nI n) ((μ.2 4) 15) 6) n = pEnd (μ.2 2) (μ.2 4) V A (nI n) ((μ.2 4) 15) 6 := fun _ => rfl
  simp only [pBest, e, c41, Int32.not_le.mpr c41, c41x, Int32.not_le.mpr c41x, c41xx, Int32.not_le.mpr c41xx, c41xxx, Int32.not_lt.mp c41xxx, if_true, if_false]) (rfl)
      · replace c41xx : ¬ ((pEnd (μ.2 2) (μ.2 4) V A (nI 1) ((μ.2 4) 15)) 6) < ((pEnd (μ.2 2) (μ.2 4) V A (nI 2) ((μ.2 4) 15)) 6) := c41xx
        refine ax_goto (pc := 44) (tgt := 57) G dX10_bestPolicy_44 rfl ?_
        refine ax_iincN (pc := 57) (n := 1) G dX10_bestPolicy_57 rfl rfl ic_1 ?_
        refine ax_goto (pc := 60) (tgt := 16) G dX10_bestPolicy_60 rfl ?_
        refine ax_iload_n (pc := 16) G dX10_bestPolicy_16 rfl rfl ?_
        refine ax_iconst (pc := 17) (v := nI 4) G dX10_bestPolicy_17 ic_4 ?_
        refine ax_icmp_ge (pc := 18) (tgt := 63) G dX10_bestPolicy_18 rfl (fun c9 => absurd c9 (by decide)) (fun _ => ?_)
        refine ax_aload_n (pc := 21) G dX10_bestPolicy_21 rfl rfl ?_
        refine ax_iload_n (pc := 22) G dX10_bestPolicy_22 rfl rfl ?_
        refine ax_aload_n (pc := 23) G dX10_bestPolicy_23 rfl rfl ?_
        refine md_get (pc := 24) (v := .ref (m + 4)) G flX10_23_8 dX10_bestPolicy_24 rfl ?_
        refine ax_bipush (pc := 27) (v := nI 15) G dX10_bestPolicy_27 ib_15 ?_
        refine md_ld (pc := 29) (i := 15) (j := 4) G 627 dX10_bestPolicy_29 (by decide) (by decide) rfl rfl rfl (by omega) (by decide) ?_
        refine ax_cV0 (pc := 30) (kb := 0) (nb := 0) G (mt_toEnd hA (h := h) (m := m) (μ := (mEnd (mEnd (mEnd (md_si μ 0 (nI 0)) V A (nI 0) ((μ.2 4) 15)) V A (nI 1) ((μ.2 4) 15)) V A (nI 2) ((μ.2 4) 15))) hm hp hs (nI 3) ((μ.2 4) 15)) lVX10_394_8 dX10_bestPolicy_30 md_obj rfl (by decide) (Nat.le_of_ble_eq_true rfl) rfl ?_
        show ax_W Ω Γ _ _ (md_H h m (mEnd (mEnd (mEnd (mEnd (md_si μ 0 (nI 0)) V A (nI 0) ((μ.2 4) 15)) V A (nI 1) ((μ.2 4) 15)) V A (nI 2) ((μ.2 4) 15)) V A (nI 3) ((μ.2 4) 15))) _ _ _
        refine ax_aload_n (pc := 33) G dX10_bestPolicy_33 rfl rfl ?_
        refine md_get (pc := 34) (v := .ref (m + 6)) G flX10_29_8 dX10_bestPolicy_34 rfl ?_
        refine ax_bipush (pc := 37) (v := nI 6) G dX10_bestPolicy_37 ib_6 ?_
        refine md_ld (pc := 39) (i := 6) (j := 6) G 627 dX10_bestPolicy_39 (by decide) (by decide) rfl rfl rfl (by omega) (by decide) ?_
        refine ax_iload_n (pc := 40) G dX10_bestPolicy_40 rfl rfl ?_
        refine ax_icmp_gt (pc := 41) (tgt := 47) G dX10_bestPolicy_41 rfl (fun c41xxx => ?_) (fun c41xxx => ?_)
        · replace c41xxx : ((pEnd (μ.2 2) (μ.2 4) V A (nI 1) ((μ.2 4) 15)) 6) < ((pEnd (μ.2 2) (μ.2 4) V A (nI 3) ((μ.2 4) 15)) 6) := c41xxx
          refine ax_iload_n (pc := 47) G dX10_bestPolicy_47 rfl rfl ?_
          refine ax_istore_n (pc := 48) G dX10_bestPolicy_48 rfl (Nat.le_of_ble_eq_true rfl) rfl ?_
          refine ax_aload_n (pc := 49) G dX10_bestPolicy_49 rfl rfl ?_
          refine md_get (pc := 50) (v := .ref (m + 6)) G flX10_29_8 dX10_bestPolicy_50 rfl ?_
          refine ax_bipush (pc := 53) (v := nI 6) G dX10_bestPolicy_53 ib_6 ?_
          refine md_ld (pc := 55) (i := 6) (j := 6) G 627 dX10_bestPolicy_55 (by decide) (by decide) rfl rfl rfl (by omega) (by decide) ?_
          refine ax_istore_n (pc := 56) G dX10_bestPolicy_56 rfl (Nat.le_of_ble_eq_true rfl) rfl ?_
          refine ax_iincN (pc := 57) (n := 1) G dX10_bestPolicy_57 rfl rfl ic_1 ?_
          refine ax_goto (pc := 60) (tgt := 16) G dX10_bestPolicy_60 rfl ?_
          refine ax_iload_n (pc := 16) G dX10_bestPolicy_16 rfl rfl ?_
          refine ax_iconst (pc := 17) (v := nI 4) G dX10_bestPolicy_17 ic_4 ?_
          refine ax_icmp_ge (pc := 18) (tgt := 63) G dX10_bestPolicy_18 rfl (fun _ => ?_) (fun c9 => absurd (by decide) c9)
          refine ax_iload_n (pc := 63) G dX10_bestPolicy_63 rfl rfl ?_
          exact ax_iretE (pc := 64) G E rfl (rfl) dX10_bestPolicy_64 (by
  have e : ∀ n, (fun n => pEnd (μ.2 2) (μ.2 4) V A (nI n) ((μ.2 4) 15) 6) n = pEnd (μ.2 2) (μ.2 4) V A (nI n) ((μ.2 4) 15) 6 := fun _ => rfl
  simp only [pBest, e, c41, Int32.not_le.mpr c41, c41x, Int32.not_le.mpr c41x, c41xx, Int32.not_lt.mp c41xx, c41xxx, Int32.not_le.mpr c41xxx, if_true, if_false]) (rfl)
        · replace c41xxx : ¬ ((pEnd (μ.2 2) (μ.2 4) V A (nI 1) ((μ.2 4) 15)) 6) < ((pEnd (μ.2 2) (μ.2 4) V A (nI 3) ((μ.2 4) 15)) 6) := c41xxx
          refine ax_goto (pc := 44) (tgt := 57) G dX10_bestPolicy_44 rfl ?_
          refine ax_iincN (pc := 57) (n := 1) G dX10_bestPolicy_57 rfl rfl ic_1 ?_
          refine ax_goto (pc := 60) (tgt := 16) G dX10_bestPolicy_60 rfl ?_
          refine ax_iload_n (pc := 16) G dX10_bestPolicy_16 rfl rfl ?_
          refine ax_iconst (pc := 17) (v := nI 4) G dX10_bestPolicy_17 ic_4 ?_
          refine ax_icmp_ge (pc := 18) (tgt := 63) G dX10_bestPolicy_18 rfl (fun _ => ?_) (fun c9 => absurd (by decide) c9)
          refine ax_iload_n (pc := 63) G dX10_bestPolicy_63 rfl rfl ?_
          exact ax_iretE (pc := 64) G E rfl (rfl) dX10_bestPolicy_64 (by
  have e : ∀ n, (fun n => pEnd (μ.2 2) (μ.2 4) V A (nI n) ((μ.2 4) 15) 6) n = pEnd (μ.2 2) (μ.2 4) V A (nI n) ((μ.2 4) 15) 6 := fun _ => rfl
  simp only [pBest, e, c41, Int32.not_le.mpr c41, c41x, Int32.not_le.mpr c41x, c41xx, Int32.not_lt.mp c41xx, c41xxx, Int32.not_lt.mp c41xxx, if_true, if_false]) (rfl)
    · replace c41x : ¬ ((pEnd (μ.2 2) (μ.2 4) V A (nI 0) ((μ.2 4) 15)) 6) < ((pEnd (μ.2 2) (μ.2 4) V A (nI 1) ((μ.2 4) 15)) 6) := c41x
      refine ax_goto (pc := 44) (tgt := 57) G dX10_bestPolicy_44 rfl ?_
      refine ax_iincN (pc := 57) (n := 1) G dX10_bestPolicy_57 rfl rfl ic_1 ?_
      refine ax_goto (pc := 60) (tgt := 16) G dX10_bestPolicy_60 rfl ?_
      refine ax_iload_n (pc := 16) G dX10_bestPolicy_16 rfl rfl ?_
      refine ax_iconst (pc := 17) (v := nI 4) G dX10_bestPolicy_17 ic_4 ?_
      refine ax_icmp_ge (pc := 18) (tgt := 63) G dX10_bestPolicy_18 rfl (fun c9 => absurd c9 (by decide)) (fun _ => ?_)
      refine ax_aload_n (pc := 21) G dX10_bestPolicy_21 rfl rfl ?_
      refine ax_iload_n (pc := 22) G dX10_bestPolicy_22 rfl rfl ?_
      refine ax_aload_n (pc := 23) G dX10_bestPolicy_23 rfl rfl ?_
      refine md_get (pc := 24) (v := .ref (m + 4)) G flX10_23_8 dX10_bestPolicy_24 rfl ?_
      refine ax_bipush (pc := 27) (v := nI 15) G dX10_bestPolicy_27 ib_15 ?_
      refine md_ld (pc := 29) (i := 15) (j := 4) G 627 dX10_bestPolicy_29 (by decide) (by decide) rfl rfl rfl (by omega) (by decide) ?_
      refine ax_cV0 (pc := 30) (kb := 0) (nb := 0) G (mt_toEnd hA (h := h) (m := m) (μ := (mEnd (mEnd (md_si μ 0 (nI 0)) V A (nI 0) ((μ.2 4) 15)) V A (nI 1) ((μ.2 4) 15))) hm hp hs (nI 2) ((μ.2 4) 15)) lVX10_394_8 dX10_bestPolicy_30 md_obj rfl (by decide) (Nat.le_of_ble_eq_true rfl) rfl ?_
      show ax_W Ω Γ _ _ (md_H h m (mEnd (mEnd (mEnd (md_si μ 0 (nI 0)) V A (nI 0) ((μ.2 4) 15)) V A (nI 1) ((μ.2 4) 15)) V A (nI 2) ((μ.2 4) 15))) _ _ _
      refine ax_aload_n (pc := 33) G dX10_bestPolicy_33 rfl rfl ?_
      refine md_get (pc := 34) (v := .ref (m + 6)) G flX10_29_8 dX10_bestPolicy_34 rfl ?_
      refine ax_bipush (pc := 37) (v := nI 6) G dX10_bestPolicy_37 ib_6 ?_
      refine md_ld (pc := 39) (i := 6) (j := 6) G 627 dX10_bestPolicy_39 (by decide) (by decide) rfl rfl rfl (by omega) (by decide) ?_
      refine ax_iload_n (pc := 40) G dX10_bestPolicy_40 rfl rfl ?_
      refine ax_icmp_gt (pc := 41) (tgt := 47) G dX10_bestPolicy_41 rfl (fun c41xx => ?_) (fun c41xx => ?_)
      · replace c41xx : ((pEnd (μ.2 2) (μ.2 4) V A (nI 0) ((μ.2 4) 15)) 6) < ((pEnd (μ.2 2) (μ.2 4) V A (nI 2) ((μ.2 4) 15)) 6) := c41xx
        refine ax_iload_n (pc := 47) G dX10_bestPolicy_47 rfl rfl ?_
        refine ax_istore_n (pc := 48) G dX10_bestPolicy_48 rfl (Nat.le_of_ble_eq_true rfl) rfl ?_
        refine ax_aload_n (pc := 49) G dX10_bestPolicy_49 rfl rfl ?_
        refine md_get (pc := 50) (v := .ref (m + 6)) G flX10_29_8 dX10_bestPolicy_50 rfl ?_
        refine ax_bipush (pc := 53) (v := nI 6) G dX10_bestPolicy_53 ib_6 ?_
        refine md_ld (pc := 55) (i := 6) (j := 6) G 627 dX10_bestPolicy_55 (by decide) (by decide) rfl rfl rfl (by omega) (by decide) ?_
        refine ax_istore_n (pc := 56) G dX10_bestPolicy_56 rfl (Nat.le_of_ble_eq_true rfl) rfl ?_
        refine ax_iincN (pc := 57) (n := 1) G dX10_bestPolicy_57 rfl rfl ic_1 ?_
        refine ax_goto (pc := 60) (tgt := 16) G dX10_bestPolicy_60 rfl ?_
        refine ax_iload_n (pc := 16) G dX10_bestPolicy_16 rfl rfl ?_
        refine ax_iconst (pc := 17) (v := nI 4) G dX10_bestPolicy_17 ic_4 ?_
        refine ax_icmp_ge (pc := 18) (tgt := 63) G dX10_bestPolicy_18 rfl (fun c9 => absurd c9 (by decide)) (fun _ => ?_)
        refine ax_aload_n (pc := 21) G dX10_bestPolicy_21 rfl rfl ?_
        refine ax_iload_n (pc := 22) G dX10_bestPolicy_22 rfl rfl ?_
        refine ax_aload_n (pc := 23) G dX10_bestPolicy_23 rfl rfl ?_
        refine md_get (pc := 24) (v := .ref (m + 4)) G flX10_23_8 dX10_bestPolicy_24 rfl ?_
        refine ax_bipush (pc := 27) (v := nI 15) G dX10_bestPolicy_27 ib_15 ?_
        refine md_ld (pc := 29) (i := 15) (j := 4) G 627 dX10_bestPolicy_29 (by decide) (by decide) rfl rfl rfl (by omega) (by decide) ?_
        refine ax_cV0 (pc := 30) (kb := 0) (nb := 0) G (mt_toEnd hA (h := h) (m := m) (μ := (mEnd (mEnd (mEnd (md_si μ 0 (nI 0)) V A (nI 0) ((μ.2 4) 15)) V A (nI 1) ((μ.2 4) 15)) V A (nI 2) ((μ.2 4) 15))) hm hp hs (nI 3) ((μ.2 4) 15)) lVX10_394_8 dX10_bestPolicy_30 md_obj rfl (by decide) (Nat.le_of_ble_eq_true rfl) rfl ?_
        show ax_W Ω Γ _ _ (md_H h m (mEnd (mEnd (mEnd (mEnd (md_si μ 0 (nI 0)) V A (nI 0) ((μ.2 4) 15)) V A (nI 1) ((μ.2 4) 15)) V A (nI 2) ((μ.2 4) 15)) V A (nI 3) ((μ.2 4) 15))) _ _ _
        refine ax_aload_n (pc := 33) G dX10_bestPolicy_33 rfl rfl ?_
        refine md_get (pc := 34) (v := .ref (m + 6)) G flX10_29_8 dX10_bestPolicy_34 rfl ?_
        refine ax_bipush (pc := 37) (v := nI 6) G dX10_bestPolicy_37 ib_6 ?_
        refine md_ld (pc := 39) (i := 6) (j := 6) G 627 dX10_bestPolicy_39 (by decide) (by decide) rfl rfl rfl (by omega) (by decide) ?_
        refine ax_iload_n (pc := 40) G dX10_bestPolicy_40 rfl rfl ?_
        refine ax_icmp_gt (pc := 41) (tgt := 47) G dX10_bestPolicy_41 rfl (fun c41xxx => ?_) (fun c41xxx => ?_)
        · replace c41xxx : ((pEnd (μ.2 2) (μ.2 4) V A (nI 2) ((μ.2 4) 15)) 6) < ((pEnd (μ.2 2) (μ.2 4) V A (nI 3) ((μ.2 4) 15)) 6) := c41xxx
          refine ax_iload_n (pc := 47) G dX10_bestPolicy_47 rfl rfl ?_
          refine ax_istore_n (pc := 48) G dX10_bestPolicy_48 rfl (Nat.le_of_ble_eq_true rfl) rfl ?_
          refine ax_aload_n (pc := 49) G dX10_bestPolicy_49 rfl rfl ?_
          refine md_get (pc := 50) (v := .ref (m + 6)) G flX10_29_8 dX10_bestPolicy_50 rfl ?_
          refine ax_bipush (pc := 53) (v := nI 6) G dX10_bestPolicy_53 ib_6 ?_
          refine md_ld (pc := 55) (i := 6) (j := 6) G 627 dX10_bestPolicy_55 (by decide) (by decide) rfl rfl rfl (by omega) (by decide) ?_
          refine ax_istore_n (pc := 56) G dX10_bestPolicy_56 rfl (Nat.le_of_ble_eq_true rfl) rfl ?_
          refine ax_iincN (pc := 57) (n := 1) G dX10_bestPolicy_57 rfl rfl ic_1 ?_
          refine ax_goto (pc := 60) (tgt := 16) G dX10_bestPolicy_60 rfl ?_
          refine ax_iload_n (pc := 16) G dX10_bestPolicy_16 rfl rfl ?_
          refine ax_iconst (pc := 17) (v := nI 4) G dX10_bestPolicy_17 ic_4 ?_
          refine ax_icmp_ge (pc := 18) (tgt := 63) G dX10_bestPolicy_18 rfl (fun _ => ?_) (fun c9 => absurd (by decide) c9)
          refine ax_iload_n (pc := 63) G dX10_bestPolicy_63 rfl rfl ?_
          exact ax_iretE (pc := 64) G E rfl (rfl) dX10_bestPolicy_64 (by
  have e : ∀ n, (fun n => pEnd (μ.2 2) (μ.2 4) V A (nI n) ((μ.2 4) 15) 6) n = pEnd (μ.2 2) (μ.2 4) V A (nI n) ((μ.2 4) 15) 6 := fun _ => rfl
  simp only [pBest, e, c41, Int32.not_le.mpr c41, c41x, Int32.not_lt.mp c41x, c41xx, Int32.not_le.mpr c41xx, c41xxx, Int32.not_le.mpr c41xxx, if_true, if_false]) (rfl)
        · replace c41xxx : ¬ ((pEnd (μ.2 2) (μ.2 4) V A (nI 2) ((μ.2 4) 15)) 6) < ((pEnd (μ.2 2) (μ.2 4) V A (nI 3) ((μ.2 4) 15)) 6) := c41xxx
          refine ax_goto (pc := 44) (tgt := 57) G dX10_bestPolicy_44 rfl ?_
          refine ax_iincN (pc := 57) (n := 1) G dX10_bestPolicy_57 rfl rfl ic_1 ?_
          refine ax_goto (pc := 60) (tgt := 16) G dX10_bestPolicy_60 rfl ?_
          refine ax_iload_n (pc := 16) G dX10_bestPolicy_16 rfl rfl ?_
          refine ax_iconst (pc := 17) (v := nI 4) G dX10_bestPolicy_17 ic_4 ?_
          refine ax_icmp_ge (pc := 18) (tgt := 63) G dX10_bestPolicy_18 rfl (fun _ => ?_) (fun c9 => absurd (by decide) c9)
          refine ax_iload_n (pc := 63) G dX10_bestPolicy_63 rfl rfl ?_
          exact ax_iretE (pc := 64) G E rfl (rfl) dX10_bestPolicy_64 (by
  have e : ∀ n, (fun n => pEnd (μ.2 2) (μ.2 4) V A (nI n) ((μ.2 4) 15) 6) n = pEnd (μ.2 2) (μ.2 4) V A (nI n) ((μ.2 4) 15) 6 := fun _ => rfl
  simp only [pBest, e, c41, Int32.not_le.mpr c41, c41x, Int32.not_lt.mp c41x, c41xx, Int32.not_le.mpr c41xx, c41xxx, Int32.not_lt.mp c41xxx, if_true, if_false]) (rfl)
      · replace c41xx : ¬ ((pEnd (μ.2 2) (μ.2 4) V A (nI 0) ((μ.2 4) 15)) 6) < ((pEnd (μ.2 2) (μ.2 4) V A (nI 2) ((μ.2 4) 15)) 6) := c41xx
        refine ax_goto (pc := 44) (tgt := 57) G dX10_bestPolicy_44 rfl ?_
        refine ax_iincN (pc := 57) (n := 1) G dX10_bestPolicy_57 rfl rfl ic_1 ?_
        refine ax_goto (pc := 60) (tgt := 16) G dX10_bestPolicy_60 rfl ?_
        refine ax_iload_n (pc := 16) G dX10_bestPolicy_16 rfl rfl ?_
        refine ax_iconst (pc := 17) (v := nI 4) G dX10_bestPolicy_17 ic_4 ?_
        refine ax_icmp_ge (pc := 18) (tgt := 63) G dX10_bestPolicy_18 rfl (fun c9 => absurd c9 (by decide)) (fun _ => ?_)
        refine ax_aload_n (pc := 21) G dX10_bestPolicy_21 rfl rfl ?_
        refine ax_iload_n (pc := 22) G dX10_bestPolicy_22 rfl rfl ?_
        refine ax_aload_n (pc := 23) G dX10_bestPolicy_23 rfl rfl ?_
        refine md_get (pc := 24) (v := .ref (m + 4)) G flX10_23_8 dX10_bestPolicy_24 rfl ?_
        refine ax_bipush (pc := 27) (v := nI 15) G dX10_bestPolicy_27 ib_15 ?_
        refine md_ld (pc := 29) (i := 15) (j := 4) G 627 dX10_bestPolicy_29 (by decide) (by decide) rfl rfl rfl (by omega) (by decide) ?_
        refine ax_cV0 (pc := 30) (kb := 0) (nb := 0) G (mt_toEnd hA (h := h) (m := m) (μ := (mEnd (mEnd (mEnd (md_si μ 0 (nI 0)) V A (nI 0) ((μ.2 4) 15)) V A (nI 1) ((μ.2 4) 15)) V A (nI 2) ((μ.2 4) 15))) hm hp hs (nI 3) ((μ.2 4) 15)) lVX10_394_8 dX10_bestPolicy_30 md_obj rfl (by decide) (Nat.le_of_ble_eq_true rfl) rfl ?_
        show ax_W Ω Γ _ _ (md_H h m (mEnd (mEnd (mEnd (mEnd (md_si μ 0 (nI 0)) V A (nI 0) ((μ.2 4) 15)) V A (nI 1) ((μ.2 4) 15)) V A (nI 2) ((μ.2 4) 15)) V A (nI 3) ((μ.2 4) 15))) _ _ _
        refine ax_aload_n (pc := 33) G dX10_bestPolicy_33 rfl rfl ?_
        refine md_get (pc := 34) (v := .ref (m + 6)) G flX10_29_8 dX10_bestPolicy_34 rfl ?_
        refine ax_bipush (pc := 37) (v := nI 6) G dX10_bestPolicy_37 ib_6 ?_
        refine md_ld (pc := 39) (i := 6) (j := 6) G 627 dX10_bestPolicy_39 (by decide) (by decide) rfl rfl rfl (by omega) (by decide) ?_
        refine ax_iload_n (pc := 40) G dX10_bestPolicy_40 rfl rfl ?_
        refine ax_icmp_gt (pc := 41) (tgt := 47) G dX10_bestPolicy_41 rfl (fun c41xxx => ?_) (fun c41xxx => ?_)
        · replace c41xxx : ((pEnd (μ.2 2) (μ.2 4) V A (nI 0) ((μ.2 4) 15)) 6) < ((pEnd (μ.2 2) (μ.2 4) V A (nI 3) ((μ.2 4) 15)) 6) := c41xxx
          refine ax_iload_n (pc := 47) G dX10_bestPolicy_47 rfl rfl ?_
          refine ax_istore_n (pc := 48) G dX10_bestPolicy_48 rfl (Nat.le_of_ble_eq_true rfl) rfl ?_
          refine ax_aload_n (pc := 49) G dX10_bestPolicy_49 rfl rfl ?_
          refine md_get (pc := 50) (v := .ref (m + 6)) G flX10_29_8 dX10_bestPolicy_50 rfl ?_
          refine ax_bipush (pc := 53) (v := nI 6) G dX10_bestPolicy_53 ib_6 ?_
          refine md_ld (pc := 55) (i := 6) (j := 6) G 627 dX10_bestPolicy_55 (by decide) (by decide) rfl rfl rfl (by omega) (by decide) ?_
          refine ax_istore_n (pc := 56) G dX10_bestPolicy_56 rfl (Nat.le_of_ble_eq_true rfl) rfl ?_
          refine ax_iincN (pc := 57) (n := 1) G dX10_bestPolicy_57 rfl rfl ic_1 ?_
          refine ax_goto (pc := 60) (tgt := 16) G dX10_bestPolicy_60 rfl ?_
          refine ax_iload_n (pc := 16) G dX10_bestPolicy_16 rfl rfl ?_
          refine ax_iconst (pc := 17) (v := nI 4) G dX10_bestPolicy_17 ic_4 ?_
          refine ax_icmp_ge (pc := 18) (tgt := 63) G dX10_bestPolicy_18 rfl (fun _ => ?_) (fun c9 => absurd (by decide) c9)
          refine ax_iload_n (pc := 63) G dX10_bestPolicy_63 rfl rfl ?_
          exact ax_iretE (pc := 64) G E rfl (rfl) dX10_bestPolicy_64 (by
  have e : ∀ n, (fun n => pEnd (μ.2 2) (μ.2 4) V A (nI n) ((μ.2 4) 15) 6) n = pEnd (μ.2 2) (μ.2 4) V A (nI n) ((μ.2 4) 15) 6 := fun _ => rfl
  simp only [pBest, e, c41, Int32.not_le.mpr c41, c41x, Int32.not_lt.mp c41x, c41xx, Int32.not_lt.mp c41xx, c41xxx, Int32.not_le.mpr c41xxx, if_true, if_false]) (rfl)
        · replace c41xxx : ¬ ((pEnd (μ.2 2) (μ.2 4) V A (nI 0) ((μ.2 4) 15)) 6) < ((pEnd (μ.2 2) (μ.2 4) V A (nI 3) ((μ.2 4) 15)) 6) := c41xxx
          refine ax_goto (pc := 44) (tgt := 57) G dX10_bestPolicy_44 rfl ?_
          refine ax_iincN (pc := 57) (n := 1) G dX10_bestPolicy_57 rfl rfl ic_1 ?_
          refine ax_goto (pc := 60) (tgt := 16) G dX10_bestPolicy_60 rfl ?_
          refine ax_iload_n (pc := 16) G dX10_bestPolicy_16 rfl rfl ?_
          refine ax_iconst (pc := 17) (v := nI 4) G dX10_bestPolicy_17 ic_4 ?_
          refine ax_icmp_ge (pc := 18) (tgt := 63) G dX10_bestPolicy_18 rfl (fun _ => ?_) (fun c9 => absurd (by decide) c9)
          refine ax_iload_n (pc := 63) G dX10_bestPolicy_63 rfl rfl ?_
          exact ax_iretE (pc := 64) G E rfl (rfl) dX10_bestPolicy_64 (by
  have e : ∀ n, (fun n => pEnd (μ.2 2) (μ.2 4) V A (nI n) ((μ.2 4) 15) 6) n = pEnd (μ.2 2) (μ.2 4) V A (nI n) ((μ.2 4) 15) 6 := fun _ => rfl
  simp only [pBest, e, c41, Int32.not_le.mpr c41, c41x, Int32.not_lt.mp c41x, c41xx, Int32.not_lt.mp c41xx, c41xxx, Int32.not_lt.mp c41xxx, if_true, if_false]) (rfl)
  · replace c41 : ¬ (-1) < ((pEnd (μ.2 2) (μ.2 4) V A (nI 0) ((μ.2 4) 15)) 6) := c41
    refine ax_goto (pc := 44) (tgt := 57) G dX10_bestPolicy_44 rfl ?_
    refine ax_iincN (pc := 57) (n := 1) G dX10_bestPolicy_57 rfl rfl ic_1 ?_
    refine ax_goto (pc := 60) (tgt := 16) G dX10_bestPolicy_60 rfl ?_
    refine ax_iload_n (pc := 16) G dX10_bestPolicy_16 rfl rfl ?_
    refine ax_iconst (pc := 17) (v := nI 4) G dX10_bestPolicy_17 ic_4 ?_
    refine ax_icmp_ge (pc := 18) (tgt := 63) G dX10_bestPolicy_18 rfl (fun c9 => absurd c9 (by decide)) (fun _ => ?_)
    refine ax_aload_n (pc := 21) G dX10_bestPolicy_21 rfl rfl ?_
    refine ax_iload_n (pc := 22) G dX10_bestPolicy_22 rfl rfl ?_
    refine ax_aload_n (pc := 23) G dX10_bestPolicy_23 rfl rfl ?_
    refine md_get (pc := 24) (v := .ref (m + 4)) G flX10_23_8 dX10_bestPolicy_24 rfl ?_
    refine ax_bipush (pc := 27) (v := nI 15) G dX10_bestPolicy_27 ib_15 ?_
    refine md_ld (pc := 29) (i := 15) (j := 4) G 627 dX10_bestPolicy_29 (by decide) (by decide) rfl rfl rfl (by omega) (by decide) ?_
    refine ax_cV0 (pc := 30) (kb := 0) (nb := 0) G (mt_toEnd hA (h := h) (m := m) (μ := (mEnd (md_si μ 0 (nI 0)) V A (nI 0) ((μ.2 4) 15))) hm hp hs (nI 1) ((μ.2 4) 15)) lVX10_394_8 dX10_bestPolicy_30 md_obj rfl (by decide) (Nat.le_of_ble_eq_true rfl) rfl ?_
    show ax_W Ω Γ _ _ (md_H h m (mEnd (mEnd (md_si μ 0 (nI 0)) V A (nI 0) ((μ.2 4) 15)) V A (nI 1) ((μ.2 4) 15))) _ _ _
    refine ax_aload_n (pc := 33) G dX10_bestPolicy_33 rfl rfl ?_
    refine md_get (pc := 34) (v := .ref (m + 6)) G flX10_29_8 dX10_bestPolicy_34 rfl ?_
    refine ax_bipush (pc := 37) (v := nI 6) G dX10_bestPolicy_37 ib_6 ?_
    refine md_ld (pc := 39) (i := 6) (j := 6) G 627 dX10_bestPolicy_39 (by decide) (by decide) rfl rfl rfl (by omega) (by decide) ?_
    refine ax_iload_n (pc := 40) G dX10_bestPolicy_40 rfl rfl ?_
    refine ax_icmp_gt (pc := 41) (tgt := 47) G dX10_bestPolicy_41 rfl (fun c41x => ?_) (fun c41x => ?_)
    · replace c41x : (-1) < ((pEnd (μ.2 2) (μ.2 4) V A (nI 1) ((μ.2 4) 15)) 6) := c41x
      refine ax_iload_n (pc := 47) G dX10_bestPolicy_47 rfl rfl ?_
      refine ax_istore_n (pc := 48) G dX10_bestPolicy_48 rfl (Nat.le_of_ble_eq_true rfl) rfl ?_
      refine ax_aload_n (pc := 49) G dX10_bestPolicy_49 rfl rfl ?_
      refine md_get (pc := 50) (v := .ref (m + 6)) G flX10_29_8 dX10_bestPolicy_50 rfl ?_
      refine ax_bipush (pc := 53) (v := nI 6) G dX10_bestPolicy_53 ib_6 ?_
      refine md_ld (pc := 55) (i := 6) (j := 6) G 627 dX10_bestPolicy_55 (by decide) (by decide) rfl rfl rfl (by omega) (by decide) ?_
      refine ax_istore_n (pc := 56) G dX10_bestPolicy_56 rfl (Nat.le_of_ble_eq_true rfl) rfl ?_
      refine ax_iincN (pc := 57) (n := 1) G dX10_bestPolicy_57 rfl rfl ic_1 ?_
      refine ax_goto (pc := 60) (tgt := 16) G dX10_bestPolicy_60 rfl ?_
      refine ax_iload_n (pc := 16) G dX10_bestPolicy_16 rfl rfl ?_
      refine ax_iconst (pc := 17) (v := nI 4) G dX10_bestPolicy_17 ic_4 ?_
      refine ax_icmp_ge (pc := 18) (tgt := 63) G dX10_bestPolicy_18 rfl (fun c9 => absurd c9 (by decide)) (fun _ => ?_)
      refine ax_aload_n (pc := 21) G dX10_bestPolicy_21 rfl rfl ?_
      refine ax_iload_n (pc := 22) G dX10_bestPolicy_22 rfl rfl ?_
      refine ax_aload_n (pc := 23) G dX10_bestPolicy_23 rfl rfl ?_
      refine md_get (pc := 24) (v := .ref (m + 4)) G flX10_23_8 dX10_bestPolicy_24 rfl ?_
      refine ax_bipush (pc := 27) (v := nI 15) G dX10_bestPolicy_27 ib_15 ?_
      refine md_ld (pc := 29) (i := 15) (j := 4) G 627 dX10_bestPolicy_29 (by decide) (by decide) rfl rfl rfl (by omega) (by decide) ?_
      refine ax_cV0 (pc := 30) (kb := 0) (nb := 0) G (mt_toEnd hA (h := h) (m := m) (μ := (mEnd (mEnd (md_si μ 0 (nI 0)) V A (nI 0) ((μ.2 4) 15)) V A (nI 1) ((μ.2 4) 15))) hm hp hs (nI 2) ((μ.2 4) 15)) lVX10_394_8 dX10_bestPolicy_30 md_obj rfl (by decide) (Nat.le_of_ble_eq_true rfl) rfl ?_
      show ax_W Ω Γ _ _ (md_H h m (mEnd (mEnd (mEnd (md_si μ 0 (nI 0)) V A (nI 0) ((μ.2 4) 15)) V A (nI 1) ((μ.2 4) 15)) V A (nI 2) ((μ.2 4) 15))) _ _ _
      refine ax_aload_n (pc := 33) G dX10_bestPolicy_33 rfl rfl ?_
      refine md_get (pc := 34) (v := .ref (m + 6)) G flX10_29_8 dX10_bestPolicy_34 rfl ?_
      refine ax_bipush (pc := 37) (v := nI 6) G dX10_bestPolicy_37 ib_6 ?_
      refine md_ld (pc := 39) (i := 6) (j := 6) G 627 dX10_bestPolicy_39 (by decide) (by decide) rfl rfl rfl (by omega) (by decide) ?_
      refine ax_iload_n (pc := 40) G dX10_bestPolicy_40 rfl rfl ?_
      refine ax_icmp_gt (pc := 41) (tgt := 47) G dX10_bestPolicy_41 rfl (fun c41xx => ?_) (fun c41xx => ?_)
      · replace c41xx : ((pEnd (μ.2 2) (μ.2 4) V A (nI 1) ((μ.2 4) 15)) 6) < ((pEnd (μ.2 2) (μ.2 4) V A (nI 2) ((μ.2 4) 15)) 6) := c41xx
        refine ax_iload_n (pc := 47) G dX10_bestPolicy_47 rfl rfl ?_
        refine ax_istore_n (pc := 48) G dX10_bestPolicy_48 rfl (Nat.le_of_ble_eq_true rfl) rfl ?_
        refine ax_aload_n (pc := 49) G dX10_bestPolicy_49 rfl rfl ?_
        refine md_get (pc := 50) (v := .ref (m + 6)) G flX10_29_8 dX10_bestPolicy_50 rfl ?_
        refine ax_bipush (pc := 53) (v := nI 6) G dX10_bestPolicy_53 ib_6 ?_
        refine md_ld (pc := 55) (i := 6) (j := 6) G 627 dX10_bestPolicy_55 (by decide) (by decide) rfl rfl rfl (by omega) (by decide) ?_
        refine ax_istore_n (pc := 56) G dX10_bestPolicy_56 rfl (Nat.le_of_ble_eq_true rfl) rfl ?_
        refine ax_iincN (pc := 57) (n := 1) G dX10_bestPolicy_57 rfl rfl ic_1 ?_
        refine ax_goto (pc := 60) (tgt := 16) G dX10_bestPolicy_60 rfl ?_
        refine ax_iload_n (pc := 16) G dX10_bestPolicy_16 rfl rfl ?_
        refine ax_iconst (pc := 17) (v := nI 4) G dX10_bestPolicy_17 ic_4 ?_
        refine ax_icmp_ge (pc := 18) (tgt := 63) G dX10_bestPolicy_18 rfl (fun c9 => absurd c9 (by decide)) (fun _ => ?_)
        refine ax_aload_n (pc := 21) G dX10_bestPolicy_21 rfl rfl ?_
        refine ax_iload_n (pc := 22) G dX10_bestPolicy_22 rfl rfl ?_
        refine ax_aload_n (pc := 23) G dX10_bestPolicy_23 rfl rfl ?_
        refine md_get (pc := 24) (v := .ref (m + 4)) G flX10_23_8 dX10_bestPolicy_24 rfl ?_
        refine ax_bipush (pc := 27) (v := nI 15) G dX10_bestPolicy_27 ib_15 ?_
        refine md_ld (pc := 29) (i := 15) (j := 4) G 627 dX10_bestPolicy_29 (by decide) (by decide) rfl rfl rfl (by omega) (by decide) ?_
        refine ax_cV0 (pc := 30) (kb := 0) (nb := 0) G (mt_toEnd hA (h := h) (m := m) (μ := (mEnd (mEnd (mEnd (md_si μ 0 (nI 0)) V A (nI 0) ((μ.2 4) 15)) V A (nI 1) ((μ.2 4) 15)) V A (nI 2) ((μ.2 4) 15))) hm hp hs (nI 3) ((μ.2 4) 15)) lVX10_394_8 dX10_bestPolicy_30 md_obj rfl (by decide) (Nat.le_of_ble_eq_true rfl) rfl ?_
        show ax_W Ω Γ _ _ (md_H h m (mEnd (mEnd (mEnd (mEnd (md_si μ 0 (nI 0)) V A (nI 0) ((μ.2 4) 15)) V A (nI 1) ((μ.2 4) 15)) V A (nI 2) ((μ.2 4) 15)) V A (nI 3) ((μ.2 4) 15))) _ _ _
        refine ax_aload_n (pc := 33) G dX10_bestPolicy_33 rfl rfl ?_
        refine md_get (pc := 34) (v := .ref (m + 6)) G flX10_29_8 dX10_bestPolicy_34 rfl ?_
        refine ax_bipush (pc := 37) (v := nI 6) G dX10_bestPolicy_37 ib_6 ?_
        refine md_ld (pc := 39) (i := 6) (j := 6) G 627 dX10_bestPolicy_39 (by decide) (by decide) rfl rfl rfl (by omega) (by decide) ?_
        refine ax_iload_n (pc := 40) G dX10_bestPolicy_40 rfl rfl ?_
        refine ax_icmp_gt (pc := 41) (tgt := 47) G dX10_bestPolicy_41 rfl (fun c41xxx => ?_) (fun c41xxx => ?_)
        · replace c41xxx : ((pEnd (μ.2 2) (μ.2 4) V A (nI 2) ((μ.2 4) 15)) 6) < ((pEnd (μ.2 2) (μ.2 4) V A (nI 3) ((μ.2 4) 15)) 6) := c41xxx
          refine ax_iload_n (pc := 47) G dX10_bestPolicy_47 rfl rfl ?_
          refine ax_istore_n (pc := 48) G dX10_bestPolicy_48 rfl (Nat.le_of_ble_eq_true rfl) rfl ?_
          refine ax_aload_n (pc := 49) G dX10_bestPolicy_49 rfl rfl ?_
          refine md_get (pc := 50) (v := .ref (m + 6)) G flX10_29_8 dX10_bestPolicy_50 rfl ?_
          refine ax_bipush (pc := 53) (v := nI 6) G dX10_bestPolicy_53 ib_6 ?_
          refine md_ld (pc := 55) (i := 6) (j := 6) G 627 dX10_bestPolicy_55 (by decide) (by decide) rfl rfl rfl (by omega) (by decide) ?_
          refine ax_istore_n (pc := 56) G dX10_bestPolicy_56 rfl (Nat.le_of_ble_eq_true rfl) rfl ?_
          refine ax_iincN (pc := 57) (n := 1) G dX10_bestPolicy_57 rfl rfl ic_1 ?_
          refine ax_goto (pc := 60) (tgt := 16) G dX10_bestPolicy_60 rfl ?_
          refine ax_iload_n (pc := 16) G dX10_bestPolicy_16 rfl rfl ?_
          refine ax_iconst (pc := 17) (v := nI 4) G dX10_bestPolicy_17 ic_4 ?_
          refine ax_icmp_ge (pc := 18) (tgt := 63) G dX10_bestPolicy_18 rfl (fun _ => ?_) (fun c9 => absurd (by decide) c9)
          refine ax_iload_n (pc := 63) G dX10_bestPolicy_63 rfl rfl ?_
          exact ax_iretE (pc := 64) G E rfl (rfl) dX10_bestPolicy_64 (by
  have e : ∀ n, (fun n => pEnd (μ.2 2) (μ.2 4) V A (nI n) ((μ.2 4) 15) 6) n = pEnd (μ.2 2) (μ.2 4) V A (nI n) ((μ.2 4) 15) 6 := fun _ => rfl
  simp only [pBest, e, c41, Int32.not_lt.mp c41, c41x, Int32.not_le.mpr c41x, c41xx, Int32.not_le.mpr c41xx, c41xxx, Int32.not_le.mpr c41xxx, if_true, if_false]) (rfl)
        · replace c41xxx : ¬ ((pEnd (μ.2 2) (μ.2 4) V A (nI 2) ((μ.2 4) 15)) 6) < ((pEnd (μ.2 2) (μ.2 4) V A (nI 3) ((μ.2 4) 15)) 6) := c41xxx
          refine ax_goto (pc := 44) (tgt := 57) G dX10_bestPolicy_44 rfl ?_
          refine ax_iincN (pc := 57) (n := 1) G dX10_bestPolicy_57 rfl rfl ic_1 ?_
          refine ax_goto (pc := 60) (tgt := 16) G dX10_bestPolicy_60 rfl ?_
          refine ax_iload_n (pc := 16) G dX10_bestPolicy_16 rfl rfl ?_
          refine ax_iconst (pc := 17) (v := nI 4) G dX10_bestPolicy_17 ic_4 ?_
          refine ax_icmp_ge (pc := 18) (tgt := 63) G dX10_bestPolicy_18 rfl (fun _ => ?_) (fun c9 => absurd (by decide) c9)
          refine ax_iload_n (pc := 63) G dX10_bestPolicy_63 rfl rfl ?_
          exact ax_iretE (pc := 64) G E rfl (rfl) dX10_bestPolicy_64 (by
  have e : ∀ n, (fun n => pEnd (μ.2 2) (μ.2 4) V A (nI n) ((μ.2 4) 15) 6) n = pEnd (μ.2 2) (μ.2 4) V A (nI n) ((μ.2 4) 15) 6 := fun _ => rfl
  simp only [pBest, e, c41, Int32.not_lt.mp c41, c41x, Int32.not_le.mpr c41x, c41xx, Int32.not_le.mpr c41xx, c41xxx, Int32.not_lt.mp c41xxx, if_true, if_false]) (rfl)
      · replace c41xx : ¬ ((pEnd (μ.2 2) (μ.2 4) V A (nI 1) ((μ.2 4) 15)) 6) < ((pEnd (μ.2 2) (μ.2 4) V A (nI 2) ((μ.2 4) 15)) 6) := c41xx
        refine ax_goto (pc := 44) (tgt := 57) G dX10_bestPolicy_44 rfl ?_
        refine ax_iincN (pc := 57) (n := 1) G dX10_bestPolicy_57 rfl rfl ic_1 ?_
        refine ax_goto (pc := 60) (tgt := 16) G dX10_bestPolicy_60 rfl ?_
        refine ax_iload_n (pc := 16) G dX10_bestPolicy_16 rfl rfl ?_
        refine ax_iconst (pc := 17) (v := nI 4) G dX10_bestPolicy_17 ic_4 ?_
        refine ax_icmp_ge (pc := 18) (tgt := 63) G dX10_bestPolicy_18 rfl (fun c9 => absurd c9 (by decide)) (fun _ => ?_)
        refine ax_aload_n (pc := 21) G dX10_bestPolicy_21 rfl rfl ?_
        refine ax_iload_n (pc := 22) G dX10_bestPolicy_22 rfl rfl ?_
        refine ax_aload_n (pc := 23) G dX10_bestPolicy_23 rfl rfl ?_
        refine md_get (pc := 24) (v := .ref (m + 4)) G flX10_23_8 dX10_bestPolicy_24 rfl ?_
        refine ax_bipush (pc := 27) (v := nI 15) G dX10_bestPolicy_27 ib_15 ?_
        refine md_ld (pc := 29) (i := 15) (j := 4) G 627 dX10_bestPolicy_29 (by decide) (by decide) rfl rfl rfl (by omega) (by decide) ?_
        refine ax_cV0 (pc := 30) (kb := 0) (nb := 0) G (mt_toEnd hA (h := h) (m := m) (μ := (mEnd (mEnd (mEnd (md_si μ 0 (nI 0)) V A (nI 0) ((μ.2 4) 15)) V A (nI 1) ((μ.2 4) 15)) V A (nI 2) ((μ.2 4) 15))) hm hp hs (nI 3) ((μ.2 4) 15)) lVX10_394_8 dX10_bestPolicy_30 md_obj rfl (by decide) (Nat.le_of_ble_eq_true rfl) rfl ?_
        show ax_W Ω Γ _ _ (md_H h m (mEnd (mEnd (mEnd (mEnd (md_si μ 0 (nI 0)) V A (nI 0) ((μ.2 4) 15)) V A (nI 1) ((μ.2 4) 15)) V A (nI 2) ((μ.2 4) 15)) V A (nI 3) ((μ.2 4) 15))) _ _ _
        refine ax_aload_n (pc := 33) G dX10_bestPolicy_33 rfl rfl ?_
        refine md_get (pc := 34) (v := .ref (m + 6)) G flX10_29_8 dX10_bestPolicy_34 rfl ?_
        refine ax_bipush (pc := 37) (v := nI 6) G dX10_bestPolicy_37 ib_6 ?_
        refine md_ld (pc := 39) (i := 6) (j := 6) G 627 dX10_bestPolicy_39 (by decide) (by decide) rfl rfl rfl (by omega) (by decide) ?_
        refine ax_iload_n (pc := 40) G dX10_bestPolicy_40 rfl rfl ?_
        refine ax_icmp_gt (pc := 41) (tgt := 47) G dX10_bestPolicy_41 rfl (fun c41xxx => ?_) (fun c41xxx => ?_)
        · replace c41xxx : ((pEnd (μ.2 2) (μ.2 4) V A (nI 1) ((μ.2 4) 15)) 6) < ((pEnd (μ.2 2) (μ.2 4) V A (nI 3) ((μ.2 4) 15)) 6) := c41xxx
          refine ax_iload_n (pc := 47) G dX10_bestPolicy_47 rfl rfl ?_
          refine ax_istore_n (pc := 48) G dX10_bestPolicy_48 rfl (Nat.le_of_ble_eq_true rfl) rfl ?_
          refine ax_aload_n (pc := 49) G dX10_bestPolicy_49 rfl rfl ?_
          refine md_get (pc := 50) (v := .ref (m + 6)) G flX10_29_8 dX10_bestPolicy_50 rfl ?_
          refine ax_bipush (pc := 53) (v := nI 6) G dX10_bestPolicy_53 ib_6 ?_
          refine md_ld (pc := 55) (i := 6) (j := 6) G 627 dX10_bestPolicy_55 (by decide) (by decide) rfl rfl rfl (by omega) (by decide) ?_
          refine ax_istore_n (pc := 56) G dX10_bestPolicy_56 rfl (Nat.le_of_ble_eq_true rfl) rfl ?_
          refine ax_iincN (pc := 57) (n := 1) G dX10_bestPolicy_57 rfl rfl ic_1 ?_
          refine ax_goto (pc := 60) (tgt := 16) G dX10_bestPolicy_60 rfl ?_
          refine ax_iload_n (pc := 16) G dX10_bestPolicy_16 rfl rfl ?_
          refine ax_iconst (pc := 17) (v := nI 4) G dX10_bestPolicy_17 ic_4 ?_
          refine ax_icmp_ge (pc := 18) (tgt := 63) G dX10_bestPolicy_18 rfl (fun _ => ?_) (fun c9 => absurd (by decide) c9)
          refine ax_iload_n (pc := 63) G dX10_bestPolicy_63 rfl rfl ?_
          exact ax_iretE (pc := 64) G E rfl (rfl) dX10_bestPolicy_64 (by
  have e : ∀ n, (fun n => pEnd (μ.2 2) (μ.2 4) V A (nI n) ((μ.2 4) 15) 6) n = pEnd (μ.2 2) (μ.2 4) V A (nI n) ((μ.2 4) 15) 6 := fun _ => rfl
  simp only [pBest, e, c41, Int32.not_lt.mp c41, c41x, Int32.not_le.mpr c41x, c41xx, Int32.not_lt.mp c41xx, c41xxx, Int32.not_le.mpr c41xxx, if_true, if_false]) (rfl)
        · replace c41xxx : ¬ ((pEnd (μ.2 2) (μ.2 4) V A (nI 1) ((μ.2 4) 15)) 6) < ((pEnd (μ.2 2) (μ.2 4) V A (nI 3) ((μ.2 4) 15)) 6) := c41xxx
          refine ax_goto (pc := 44) (tgt := 57) G dX10_bestPolicy_44 rfl ?_
          refine ax_iincN (pc := 57) (n := 1) G dX10_bestPolicy_57 rfl rfl ic_1 ?_
          refine ax_goto (pc := 60) (tgt := 16) G dX10_bestPolicy_60 rfl ?_
          refine ax_iload_n (pc := 16) G dX10_bestPolicy_16 rfl rfl ?_
          refine ax_iconst (pc := 17) (v := nI 4) G dX10_bestPolicy_17 ic_4 ?_
          refine ax_icmp_ge (pc := 18) (tgt := 63) G dX10_bestPolicy_18 rfl (fun _ => ?_) (fun c9 => absurd (by decide) c9)
          refine ax_iload_n (pc := 63) G dX10_bestPolicy_63 rfl rfl ?_
          exact ax_iretE (pc := 64) G E rfl (rfl) dX10_bestPolicy_64 (by
  have e : ∀ n, (fun n => pEnd (μ.2 2) (μ.2 4) V A (nI n) ((μ.2 4) 15) 6) n = pEnd (μ.2 2) (μ.2 4) V A (nI n) ((μ.2 4) 15) 6 := fun _ => rfl
  simp only [pBest, e, c41, Int32.not_lt.mp c41, c41x, Int32.not_le.mpr c41x, c41xx, Int32.not_lt.mp c41xx, c41xxx, Int32.not_lt.mp c41xxx, if_true, if_false]) (rfl)
    · replace c41x : ¬ (-1) < ((pEnd (μ.2 2) (μ.2 4) V A (nI 1) ((μ.2 4) 15)) 6) := c41x
      refine ax_goto (pc := 44) (tgt := 57) G dX10_bestPolicy_44 rfl ?_
      refine ax_iincN (pc := 57) (n := 1) G dX10_bestPolicy_57 rfl rfl ic_1 ?_
      refine ax_goto (pc := 60) (tgt := 16) G dX10_bestPolicy_60 rfl ?_
      refine ax_iload_n (pc := 16) G dX10_bestPolicy_16 rfl rfl ?_
      refine ax_iconst (pc := 17) (v := nI 4) G dX10_bestPolicy_17 ic_4 ?_
      refine ax_icmp_ge (pc := 18) (tgt := 63) G dX10_bestPolicy_18 rfl (fun c9 => absurd c9 (by decide)) (fun _ => ?_)
      refine ax_aload_n (pc := 21) G dX10_bestPolicy_21 rfl rfl ?_
      refine ax_iload_n (pc := 22) G dX10_bestPolicy_22 rfl rfl ?_
      refine ax_aload_n (pc := 23) G dX10_bestPolicy_23 rfl rfl ?_
      refine md_get (pc := 24) (v := .ref (m + 4)) G flX10_23_8 dX10_bestPolicy_24 rfl ?_
      refine ax_bipush (pc := 27) (v := nI 15) G dX10_bestPolicy_27 ib_15 ?_
      refine md_ld (pc := 29) (i := 15) (j := 4) G 627 dX10_bestPolicy_29 (by decide) (by decide) rfl rfl rfl (by omega) (by decide) ?_
      refine ax_cV0 (pc := 30) (kb := 0) (nb := 0) G (mt_toEnd hA (h := h) (m := m) (μ := (mEnd (mEnd (md_si μ 0 (nI 0)) V A (nI 0) ((μ.2 4) 15)) V A (nI 1) ((μ.2 4) 15))) hm hp hs (nI 2) ((μ.2 4) 15)) lVX10_394_8 dX10_bestPolicy_30 md_obj rfl (by decide) (Nat.le_of_ble_eq_true rfl) rfl ?_
      show ax_W Ω Γ _ _ (md_H h m (mEnd (mEnd (mEnd (md_si μ 0 (nI 0)) V A (nI 0) ((μ.2 4) 15)) V A (nI 1) ((μ.2 4) 15)) V A (nI 2) ((μ.2 4) 15))) _ _ _
      refine ax_aload_n (pc := 33) G dX10_bestPolicy_33 rfl rfl ?_
      refine md_get (pc := 34) (v := .ref (m + 6)) G flX10_29_8 dX10_bestPolicy_34 rfl ?_
      refine ax_bipush (pc := 37) (v := nI 6) G dX10_bestPolicy_37 ib_6 ?_
      refine md_ld (pc := 39) (i := 6) (j := 6) G 627 dX10_bestPolicy_39 (by decide) (by decide) rfl rfl rfl (by omega) (by decide) ?_
      refine ax_iload_n (pc := 40) G dX10_bestPolicy_40 rfl rfl ?_
      refine ax_icmp_gt (pc := 41) (tgt := 47) G dX10_bestPolicy_41 rfl (fun c41xx => ?_) (fun c41xx => ?_)
      · replace c41xx : (-1) < ((pEnd (μ.2 2) (μ.2 4) V A (nI 2) ((μ.2 4) 15)) 6) := c41xx
        refine ax_iload_n (pc := 47) G dX10_bestPolicy_47 rfl rfl ?_
        refine ax_istore_n (pc := 48) G dX10_bestPolicy_48 rfl (Nat.le_of_ble_eq_true rfl) rfl ?_
        refine ax_aload_n (pc := 49) G dX10_bestPolicy_49 rfl rfl ?_
        refine md_get (pc := 50) (v := .ref (m + 6)) G flX10_29_8 dX10_bestPolicy_50 rfl ?_
        refine ax_bipush (pc := 53) (v := nI 6) G dX10_bestPolicy_53 ib_6 ?_
        refine md_ld (pc := 55) (i := 6) (j := 6) G 627 dX10_bestPolicy_55 (by decide) (by decide) rfl rfl rfl (by omega) (by decide) ?_
        refine ax_istore_n (pc := 56) G dX10_bestPolicy_56 rfl (Nat.le_of_ble_eq_true rfl) rfl ?_
        refine ax_iincN (pc := 57) (n := 1) G dX10_bestPolicy_57 rfl rfl ic_1 ?_
        refine ax_goto (pc := 60) (tgt := 16) G dX10_bestPolicy_60 rfl ?_
        refine ax_iload_n (pc := 16) G dX10_bestPolicy_16 rfl rfl ?_
        refine ax_iconst (pc := 17) (v := nI 4) G dX10_bestPolicy_17 ic_4 ?_
        refine ax_icmp_ge (pc := 18) (tgt := 63) G dX10_bestPolicy_18 rfl (fun c9 => absurd c9 (by decide)) (fun _ => ?_)
        refine ax_aload_n (pc := 21) G dX10_bestPolicy_21 rfl rfl ?_
        refine ax_iload_n (pc := 22) G dX10_bestPolicy_22 rfl rfl ?_
        refine ax_aload_n (pc := 23) G dX10_bestPolicy_23 rfl rfl ?_
        refine md_get (pc := 24) (v := .ref (m + 4)) G flX10_23_8 dX10_bestPolicy_24 rfl ?_
        refine ax_bipush (pc := 27) (v := nI 15) G dX10_bestPolicy_27 ib_15 ?_
        refine md_ld (pc := 29) (i := 15) (j := 4) G 627 dX10_bestPolicy_29 (by decide) (by decide) rfl rfl rfl (by omega) (by decide) ?_
        refine ax_cV0 (pc := 30) (kb := 0) (nb := 0) G (mt_toEnd hA (h := h) (m := m) (μ := (mEnd (mEnd (mEnd (md_si μ 0 (nI 0)) V A (nI 0) ((μ.2 4) 15)) V A (nI 1) ((μ.2 4) 15)) V A (nI 2) ((μ.2 4) 15))) hm hp hs (nI 3) ((μ.2 4) 15)) lVX10_394_8 dX10_bestPolicy_30 md_obj rfl (by decide) (Nat.le_of_ble_eq_true rfl) rfl ?_
        show ax_W Ω Γ _ _ (md_H h m (mEnd (mEnd (mEnd (mEnd (md_si μ 0 (nI 0)) V A (nI 0) ((μ.2 4) 15)) V A (nI 1) ((μ.2 4) 15)) V A (nI 2) ((μ.2 4) 15)) V A (nI 3) ((μ.2 4) 15))) _ _ _
        refine ax_aload_n (pc := 33) G dX10_bestPolicy_33 rfl rfl ?_
        refine md_get (pc := 34) (v := .ref (m + 6)) G flX10_29_8 dX10_bestPolicy_34 rfl ?_
        refine ax_bipush (pc := 37) (v := nI 6) G dX10_bestPolicy_37 ib_6 ?_
        refine md_ld (pc := 39) (i := 6) (j := 6) G 627 dX10_bestPolicy_39 (by decide) (by decide) rfl rfl rfl (by omega) (by decide) ?_
        refine ax_iload_n (pc := 40) G dX10_bestPolicy_40 rfl rfl ?_
        refine ax_icmp_gt (pc := 41) (tgt := 47) G dX10_bestPolicy_41 rfl (fun c41xxx => ?_) (fun c41xxx => ?_)
        · replace c41xxx : ((pEnd (μ.2 2) (μ.2 4) V A (nI 2) ((μ.2 4) 15)) 6) < ((pEnd (μ.2 2) (μ.2 4) V A (nI 3) ((μ.2 4) 15)) 6) := c41xxx
          refine ax_iload_n (pc := 47) G dX10_bestPolicy_47 rfl rfl ?_
          refine ax_istore_n (pc := 48) G dX10_bestPolicy_48 rfl (Nat.le_of_ble_eq_true rfl) rfl ?_
          refine ax_aload_n (pc := 49) G dX10_bestPolicy_49 rfl rfl ?_
          refine md_get (pc := 50) (v := .ref (m + 6)) G flX10_29_8 dX10_bestPolicy_50 rfl ?_
          refine ax_bipush (pc := 53) (v := nI 6) G dX10_bestPolicy_53 ib_6 ?_
          refine md_ld (pc := 55) (i := 6) (j := 6) G 627 dX10_bestPolicy_55 (by decide) (by decide) rfl rfl rfl (by omega) (by decide) ?_
          refine ax_istore_n (pc := 56) G dX10_bestPolicy_56 rfl (Nat.le_of_ble_eq_true rfl) rfl ?_
          refine ax_iincN (pc := 57) (n := 1) G dX10_bestPolicy_57 rfl rfl ic_1 ?_
          refine ax_goto (pc := 60) (tgt := 16) G dX10_bestPolicy_60 rfl ?_
          refine ax_iload_n (pc := 16) G dX10_bestPolicy_16 rfl rfl ?_
          refine ax_iconst (pc := 17) (v := nI 4) G dX10_bestPolicy_17 ic_4 ?_
          refine ax_icmp_ge (pc := 18) (tgt := 63) G dX10_bestPolicy_18 rfl (fun _ => ?_) (fun c9 => absurd (by decide) c9)
          refine ax_iload_n (pc := 63) G dX10_bestPolicy_63 rfl rfl ?_
          exact ax_iretE (pc := 64) G E rfl (rfl) dX10_bestPolicy_64 (by
  have e : ∀ n, (fun n => pEnd (μ.2 2) (μ.2 4) V A (nI n) ((μ.2 4) 15) 6) n = pEnd (μ.2 2) (μ.2 4) V A (nI n) ((μ.2 4) 15) 6 := fun _ => rfl
  simp only [pBest, e, c41, Int32.not_lt.mp c41, c41x, Int32.not_lt.mp c41x, c41xx, Int32.not_le.mpr c41xx, c41xxx, Int32.not_le.mpr c41xxx, if_true, if_false]) (rfl)
        · replace c41xxx : ¬ ((pEnd (μ.2 2) (μ.2 4) V A (nI 2) ((μ.2 4) 15)) 6) < ((pEnd (μ.2 2) (μ.2 4) V A (nI 3) ((μ.2 4) 15)) 6) := c41xxx
          refine ax_goto (pc := 44) (tgt := 57) G dX10_bestPolicy_44 rfl ?_
          refine ax_iincN (pc := 57) (n := 1) G dX10_bestPolicy_57 rfl rfl ic_1 ?_
          refine ax_goto (pc := 60) (tgt := 16) G dX10_bestPolicy_60 rfl ?_
          refine ax_iload_n (pc := 16) G dX10_bestPolicy_16 rfl rfl ?_
          refine ax_iconst (pc := 17) (v := nI 4) G dX10_bestPolicy_17 ic_4 ?_
          refine ax_icmp_ge (pc := 18) (tgt := 63) G dX10_bestPolicy_18 rfl (fun _ => ?_) (fun c9 => absurd (by decide) c9)
          refine ax_iload_n (pc := 63) G dX10_bestPolicy_63 rfl rfl ?_
          exact ax_iretE (pc := 64) G E rfl (rfl) dX10_bestPolicy_64 (by
  have e : ∀ n, (fun n => pEnd (μ.2 2) (μ.2 4) V A (nI n) ((μ.2 4) 15) 6) n = pEnd (μ.2 2) (μ.2 4) V A (nI n) ((μ.2 4) 15) 6 := fun _ => rfl
  simp only [pBest, e, c41, Int32.not_lt.mp c41, c41x, Int32.not_lt.mp c41x, c41xx, Int32.not_le.mpr c41xx, c41xxx, Int32.not_lt.mp c41xxx, if_true, if_false]) (rfl)
      · replace c41xx : ¬ (-1) < ((pEnd (μ.2 2) (μ.2 4) V A (nI 2) ((μ.2 4) 15)) 6) := c41xx
        refine ax_goto (pc := 44) (tgt := 57) G dX10_bestPolicy_44 rfl ?_
        refine ax_iincN (pc := 57) (n := 1) G dX10_bestPolicy_57 rfl rfl ic_1 ?_
        refine ax_goto (pc := 60) (tgt := 16) G dX10_bestPolicy_60 rfl ?_
        refine ax_iload_n (pc := 16) G dX10_bestPolicy_16 rfl rfl ?_
        refine ax_iconst (pc := 17) (v := nI 4) G dX10_bestPolicy_17 ic_4 ?_
        refine ax_icmp_ge (pc := 18) (tgt := 63) G dX10_bestPolicy_18 rfl (fun c9 => absurd c9 (by decide)) (fun _ => ?_)
        refine ax_aload_n (pc := 21) G dX10_bestPolicy_21 rfl rfl ?_
        refine ax_iload_n (pc := 22) G dX10_bestPolicy_22 rfl rfl ?_
        refine ax_aload_n (pc := 23) G dX10_bestPolicy_23 rfl rfl ?_
        refine md_get (pc := 24) (v := .ref (m + 4)) G flX10_23_8 dX10_bestPolicy_24 rfl ?_
        refine ax_bipush (pc := 27) (v := nI 15) G dX10_bestPolicy_27 ib_15 ?_
        refine md_ld (pc := 29) (i := 15) (j := 4) G 627 dX10_bestPolicy_29 (by decide) (by decide) rfl rfl rfl (by omega) (by decide) ?_
        refine ax_cV0 (pc := 30) (kb := 0) (nb := 0) G (mt_toEnd hA (h := h) (m := m) (μ := (mEnd (mEnd (mEnd (md_si μ 0 (nI 0)) V A (nI 0) ((μ.2 4) 15)) V A (nI 1) ((μ.2 4) 15)) V A (nI 2) ((μ.2 4) 15))) hm hp hs (nI 3) ((μ.2 4) 15)) lVX10_394_8 dX10_bestPolicy_30 md_obj rfl (by decide) (Nat.le_of_ble_eq_true rfl) rfl ?_
        show ax_W Ω Γ _ _ (md_H h m (mEnd (mEnd (mEnd (mEnd (md_si μ 0 (nI 0)) V A (nI 0) ((μ.2 4) 15)) V A (nI 1) ((μ.2 4) 15)) V A (nI 2) ((μ.2 4) 15)) V A (nI 3) ((μ.2 4) 15))) _ _ _
        refine ax_aload_n (pc := 33) G dX10_bestPolicy_33 rfl rfl ?_
        refine md_get (pc := 34) (v := .ref (m + 6)) G flX10_29_8 dX10_bestPolicy_34 rfl ?_
        refine ax_bipush (pc := 37) (v := nI 6) G dX10_bestPolicy_37 ib_6 ?_
        refine md_ld (pc := 39) (i := 6) (j := 6) G 627 dX10_bestPolicy_39 (by decide) (by decide) rfl rfl rfl (by omega) (by decide) ?_
        refine ax_iload_n (pc := 40) G dX10_bestPolicy_40 rfl rfl ?_
        refine ax_icmp_gt (pc := 41) (tgt := 47) G dX10_bestPolicy_41 rfl (fun c41xxx => ?_) (fun c41xxx => ?_)
        · replace c41xxx : (-1) < ((pEnd (μ.2 2) (μ.2 4) V A (nI 3) ((μ.2 4) 15)) 6) := c41xxx
          refine ax_iload_n (pc := 47) G dX10_bestPolicy_47 rfl rfl ?_
          refine ax_istore_n (pc := 48) G dX10_bestPolicy_48 rfl (Nat.le_of_ble_eq_true rfl) rfl ?_
          refine ax_aload_n (pc := 49) G dX10_bestPolicy_49 rfl rfl ?_
          refine md_get (pc := 50) (v := .ref (m + 6)) G flX10_29_8 dX10_bestPolicy_50 rfl ?_
          refine ax_bipush (pc := 53) (v := nI 6) G dX10_bestPolicy_53 ib_6 ?_
          refine md_ld (pc := 55) (i := 6) (j := 6) G 627 dX10_bestPolicy_55 (by decide) (by decide) rfl rfl rfl (by omega) (by decide) ?_
          refine ax_istore_n (pc := 56) G dX10_bestPolicy_56 rfl (Nat.le_of_ble_eq_true rfl) rfl ?_
          refine ax_iincN (pc := 57) (n := 1) G dX10_bestPolicy_57 rfl rfl ic_1 ?_
          refine ax_goto (pc := 60) (tgt := 16) G dX10_bestPolicy_60 rfl ?_
          refine ax_iload_n (pc := 16) G dX10_bestPolicy_16 rfl rfl ?_
          refine ax_iconst (pc := 17) (v := nI 4) G dX10_bestPolicy_17 ic_4 ?_
          refine ax_icmp_ge (pc := 18) (tgt := 63) G dX10_bestPolicy_18 rfl (fun _ => ?_) (fun c9 => absurd (by decide) c9)
          refine ax_iload_n (pc := 63) G dX10_bestPolicy_63 rfl rfl ?_
          exact ax_iretE (pc := 64) G E rfl (rfl) dX10_bestPolicy_64 (by
  have e : ∀ n, (fun n => pEnd (μ.2 2) (μ.2 4) V A (nI n) ((μ.2 4) 15) 6) n = pEnd (μ.2 2) (μ.2 4) V A (nI n) ((μ.2 4) 15) 6 := fun _ => rfl
  simp only [pBest, e, c41, Int32.not_lt.mp c41, c41x, Int32.not_lt.mp c41x, c41xx, Int32.not_lt.mp c41xx, c41xxx, Int32.not_le.mpr c41xxx, if_true, if_false]) (rfl)
        · replace c41xxx : ¬ (-1) < ((pEnd (μ.2 2) (μ.2 4) V A (nI 3) ((μ.2 4) 15)) 6) := c41xxx
          refine ax_goto (pc := 44) (tgt := 57) G dX10_bestPolicy_44 rfl ?_
          refine ax_iincN (pc := 57) (n := 1) G dX10_bestPolicy_57 rfl rfl ic_1 ?_
          refine ax_goto (pc := 60) (tgt := 16) G dX10_bestPolicy_60 rfl ?_
          refine ax_iload_n (pc := 16) G dX10_bestPolicy_16 rfl rfl ?_
          refine ax_iconst (pc := 17) (v := nI 4) G dX10_bestPolicy_17 ic_4 ?_
          refine ax_icmp_ge (pc := 18) (tgt := 63) G dX10_bestPolicy_18 rfl (fun _ => ?_) (fun c9 => absurd (by decide) c9)
          refine ax_iload_n (pc := 63) G dX10_bestPolicy_63 rfl rfl ?_
          exact ax_iretE (pc := 64) G E rfl (rfl) dX10_bestPolicy_64 (by
  have e : ∀ n, (fun n => pEnd (μ.2 2) (μ.2 4) V A (nI n) ((μ.2 4) 15) 6) n = pEnd (μ.2 2) (μ.2 4) V A (nI n) ((μ.2 4) 15) 6 := fun _ => rfl
  simp only [pBest, e, c41, Int32.not_lt.mp c41, c41x, Int32.not_lt.mp c41x, c41xx, Int32.not_lt.mp c41xx, c41xxx, Int32.not_lt.mp c41xxx, if_true, if_false]) (rfl)

theorem mq_bestPolicy_N {Ω : ax_O} (hA : ax_Amb Ω) {h : ax_H} {m : Nat} {μ : md_S} (hm : Ω.2.1.heap.size ≤ m) (h19 : μ.1 19 = nI 0)  : ax_Met Ω yX10_bestPolicy 14 0 0 [.ref m] (md_H h m μ) (.inl (some (.int (nI 0)))) (md_H h m (md_si μ 0 (nI 1))) := by
  refine ax_met q3139 q142 (by decide +kernel) (by decide) hA (Nat.le_of_ble_eq_true rfl) (fun Γ G E => ?_)
  show ax_W Ω Γ 0 0 (md_H h m μ) 0 [some (.ref m), none, none, none] []
  refine ax_aload_n (pc := 0) G dX10_bestPolicy_0 rfl rfl ?_
  refine ax_iconst (pc := 1) (v := nI 1) G dX10_bestPolicy_1 ic_1 ?_
  refine ax_cV1 (pc := 2) (kb := 0) (nb := 0) G (mt_mayAskN hA (μ := μ) hm h19 true) lVX10_368_8 dX10_bestPolicy_2 md_obj rfl (by decide) (Nat.le_of_ble_eq_true rfl) rfl ?_
  show ax_W Ω Γ _ _ (md_H h m (md_si μ 0 (nI 1))) _ _ _
  refine ax_if_ne (pc := 5) (tgt := 10) G dX10_bestPolicy_5 rfl (fun c9 => absurd rfl c9) (fun _ => ?_)
  refine ax_iconst (pc := 8) (v := nI 0) G dX10_bestPolicy_8 ic_0 ?_
  exact ax_iretE (pc := 9) G E rfl (rfl) dX10_bestPolicy_9 (rfl) (rfl)

theorem mq_longest_Y {Ω : ax_O} (hA : ax_Amb Ω) {h : ax_H} {m : Nat} {μ : md_S} (hm : Ω.2.1.heap.size ≤ m) (h19 : μ.1 19 = nI 1) {P V O A : Nat} (hp : pWP (μ.2 2) P V O) (hs : pWS (μ.2 4) A) {N : Nat} (hN : (μ.2 4) 16 = nI N) (hl : N ≤ 100) (k : Nat) (hk : k ≤ 4) : ax_Met Ω yX10_longest 14 0 0 [.ref m, .int (nI k)] (md_H h m μ) (.inl (some (.int (oI (pLong (μ.2 4) (nI k) N).1)))) (md_H h m (md_si μ 0 (nI 0))) := by
  refine ax_met q3091 q142 (by decide +kernel) (by decide) hA (Nat.le_of_ble_eq_true rfl) (fun Γ G E => ?_)
  have LL : ∀ (n i : Nat) (l5 l6 : Option Value), i + n = N → ax_W Ω Γ 0 0 (md_H h m (md_si μ 0 (nI 0))) 22 [some (.ref m), some (.int (nI k)), some (.int (oI (pLong (μ.2 4) (nI k) i).1)), some (.int ((pLong (μ.2 4) (nI k) i).2)), some (.int (nI i)), l5, l6] [] := by
    intro n
    induction n with
    | zero =>
      intro i l5 l6 hi
      have hi9 : N = i := by omega
      subst hi9
      refine ax_iload (pc := 22) G dX10_longest_22 rfl ?_
      refine ax_aload_n (pc := 24) G dX10_longest_24 rfl rfl ?_
      refine md_get (pc := 25) (v := .ref (m + 4)) G flX10_23_8 dX10_longest_25 rfl ?_
      refine ax_bipush (pc := 28) (v := nI 16) G dX10_longest_28 ib_16 ?_
      refine md_ld (pc := 30) (i := 16) (j := 4) G 627 dX10_longest_30 (by decide) (by decide) rfl rfl rfl (by omega) (by decide) ?_
      refine ax_top (show Value.int ((μ.2 4) 16) = .int (nI N) from congrArg Value.int (hN)) ?_
      refine ax_icmp_geN (pc := 31) (tgt := 102) G dX10_longest_31 rfl (by omega) (by omega) (fun c31 => ?_) (fun c31 => ?_)
      · refine ax_iload_n (pc := 102) G dX10_longest_102 rfl rfl ?_
        exact ax_iretE (pc := 103) G E rfl (rfl) dX10_longest_103 (rfl) (rfl)
      · omega
    | succ n ih =>
      intro i l5 l6 hi
      rcases e : pLong (μ.2 4) (nI k) i with ⟨b, mo⟩
      rcases b with _ | o
      · skip
        show ax_W Ω Γ _ _ _ _ [some (.ref m), some (.int (nI k)), some (.int (-1)), some (.int mo), some (.int (nI i)), l5, l6] _
        refine ax_iload (pc := 22) G dX10_longest_22 rfl ?_
        refine ax_aload_n (pc := 24) G dX10_longest_24 rfl rfl ?_
        refine md_get (pc := 25) (v := .ref (m + 4)) G flX10_23_8 dX10_longest_25 rfl ?_
        refine ax_bipush (pc := 28) (v := nI 16) G dX10_longest_28 ib_16 ?_
        refine md_ld (pc := 30) (i := 16) (j := 4) G 627 dX10_longest_30 (by decide) (by decide) rfl rfl rfl (by omega) (by decide) ?_
        refine ax_top (show Value.int ((μ.2 4) 16) = .int (nI N) from congrArg Value.int (hN)) ?_
        refine ax_icmp_geN (pc := 31) (tgt := 102) G dX10_longest_31 rfl (by omega) (by omega) (fun c31 => ?_) (fun c31 => ?_)
        · omega
        · refine ax_sipush (pc := 34) (v := nI 227) G dX10_longest_34 is_227 ?_
          refine ax_iconst (pc := 37) (v := nI 4) G dX10_longest_37 ic_4 ?_
          refine ax_iload (pc := 38) G dX10_longest_38 rfl ?_
          refine ax_imulN (pc := 40) G dX10_longest_40 ?_
          refine ax_iaddN (pc := 41) G dX10_longest_41 ?_
          refine ax_istore (pc := 42) G dX10_longest_42 (Nat.le_of_ble_eq_true rfl) rfl ?_
          refine ax_aload_n (pc := 44) G dX10_longest_44 rfl rfl ?_
          refine md_get (pc := 45) (v := .ref (m + 4)) G flX10_23_8 dX10_longest_45 rfl ?_
          refine ax_iload (pc := 48) G dX10_longest_48 rfl ?_
          refine ax_iconst (pc := 50) (v := nI 3) G dX10_longest_50 ic_3 ?_
          refine ax_iaddN (pc := 51) G dX10_longest_51 ?_
          refine md_ld (pc := 52) (i := 227 + (4 * i) + 3) (j := 4) G 627 dX10_longest_52 (by decide) (by decide) rfl rfl rfl (by omega) (by decide) ?_
          refine ax_aload_n (pc := 53) G dX10_longest_53 rfl rfl ?_
          refine md_get (pc := 54) (v := .ref (m + 4)) G flX10_23_8 dX10_longest_54 rfl ?_
          refine ax_iload (pc := 57) G dX10_longest_57 rfl ?_
          refine ax_iconst (pc := 59) (v := nI 2) G dX10_longest_59 ic_2 ?_
          refine ax_iaddN (pc := 60) G dX10_longest_60 ?_
          refine md_ld (pc := 61) (i := 227 + (4 * i) + 2) (j := 4) G 627 dX10_longest_61 (by decide) (by decide) rfl rfl rfl (by omega) (by decide) ?_
          refine ax_isub (pc := 62) G dX10_longest_62 ?_
          refine ax_istore (pc := 63) G dX10_longest_63 (Nat.le_of_ble_eq_true rfl) rfl ?_
          refine ax_aload_n (pc := 65) G dX10_longest_65 rfl rfl ?_
          refine md_get (pc := 66) (v := .ref (m + 4)) G flX10_23_8 dX10_longest_66 rfl ?_
          refine ax_iload (pc := 69) G dX10_longest_69 rfl ?_
          refine md_ld (pc := 71) (i := 227 + (4 * i)) (j := 4) G 627 dX10_longest_71 (by decide) (by decide) rfl rfl rfl (by omega) (by decide) ?_
          refine ax_iload_n (pc := 72) G dX10_longest_72 rfl rfl ?_
          refine ax_icmp_ne (pc := 73) (tgt := 96) G dX10_longest_73 rfl (fun c73 => ?_) (fun c73 => ?_)
          · replace c73 : ¬ ((μ.2 4) (227 + (4 * i))) = (nI k) := c73
            refine ax_iincN (pc := 96) (n := 1) G dX10_longest_96 rfl rfl ic_1 ?_
            refine ax_goto (pc := 99) (tgt := 22) G dX10_longest_99 rfl ?_
            have q9 := fun l5 l6 => ih (i + 1) l5 l6 (by omega)
            rw [show pLong (μ.2 4) (nI k) (i + 1) = (none, mo) from by simp only [pLong, pLonS, e, c31, c73, if_true, if_false]] at q9
            exact q9 _ _
          · replace c73 : ((μ.2 4) (227 + (4 * i))) = (nI k) := c73
            refine ax_iload_n (pc := 76) G dX10_longest_76 rfl rfl ?_
            refine ax_iconst (pc := 77) (v := (-1)) G dX10_longest_77 (by decide) ?_
            refine ax_icmp_eq (pc := 78) (tgt := 90) G dX10_longest_78 rfl (fun _ => ?_) (fun c9 => absurd rfl c9)
            refine ax_iload (pc := 90) G dX10_longest_90 rfl ?_
            refine ax_istore_n (pc := 92) G dX10_longest_92 rfl (Nat.le_of_ble_eq_true rfl) rfl ?_
            refine ax_iload (pc := 93) G dX10_longest_93 rfl ?_
            refine ax_istore_n (pc := 95) G dX10_longest_95 rfl (Nat.le_of_ble_eq_true rfl) rfl ?_
            refine ax_iincN (pc := 96) (n := 1) G dX10_longest_96 rfl rfl ic_1 ?_
            refine ax_goto (pc := 99) (tgt := 22) G dX10_longest_99 rfl ?_
            have q9 := fun l5 l6 => ih (i + 1) l5 l6 (by omega)
            rw [show pLong (μ.2 4) (nI k) (i + 1) = (some (i), ((μ.2 4) (227 + (4 * i) + 3)) - ((μ.2 4) (227 + (4 * i) + 2))) from by simp only [pLong, pLonS, e, c31, if_pos c73, if_true, if_false]] at q9
            exact q9 _ _
      · skip
        have ho : o < N := by have := pLong_l e; omega
        show ax_W Ω Γ _ _ _ _ [some (.ref m), some (.int (nI k)), some (.int (nI o)), some (.int mo), some (.int (nI i)), l5, l6] _
        refine ax_iload (pc := 22) G dX10_longest_22 rfl ?_
        refine ax_aload_n (pc := 24) G dX10_longest_24 rfl rfl ?_
        refine md_get (pc := 25) (v := .ref (m + 4)) G flX10_23_8 dX10_longest_25 rfl ?_
        refine ax_bipush (pc := 28) (v := nI 16) G dX10_longest_28 ib_16 ?_
        refine md_ld (pc := 30) (i := 16) (j := 4) G 627 dX10_longest_30 (by decide) (by decide) rfl rfl rfl (by omega) (by decide) ?_
        refine ax_top (show Value.int ((μ.2 4) 16) = .int (nI N) from congrArg Value.int (hN)) ?_
        refine ax_icmp_geN (pc := 31) (tgt := 102) G dX10_longest_31 rfl (by omega) (by omega) (fun c31 => ?_) (fun c31 => ?_)
        · omega
        · refine ax_sipush (pc := 34) (v := nI 227) G dX10_longest_34 is_227 ?_
          refine ax_iconst (pc := 37) (v := nI 4) G dX10_longest_37 ic_4 ?_
          refine ax_iload (pc := 38) G dX10_longest_38 rfl ?_
          refine ax_imulN (pc := 40) G dX10_longest_40 ?_
          refine ax_iaddN (pc := 41) G dX10_longest_41 ?_
          refine ax_istore (pc := 42) G dX10_longest_42 (Nat.le_of_ble_eq_true rfl) rfl ?_
          refine ax_aload_n (pc := 44) G dX10_longest_44 rfl rfl ?_
          refine md_get (pc := 45) (v := .ref (m + 4)) G flX10_23_8 dX10_longest_45 rfl ?_
          refine ax_iload (pc := 48) G dX10_longest_48 rfl ?_
          refine ax_iconst (pc := 50) (v := nI 3) G dX10_longest_50 ic_3 ?_
          refine ax_iaddN (pc := 51) G dX10_longest_51 ?_
          refine md_ld (pc := 52) (i := 227 + (4 * i) + 3) (j := 4) G 627 dX10_longest_52 (by decide) (by decide) rfl rfl rfl (by omega) (by decide) ?_
          refine ax_aload_n (pc := 53) G dX10_longest_53 rfl rfl ?_
          refine md_get (pc := 54) (v := .ref (m + 4)) G flX10_23_8 dX10_longest_54 rfl ?_
          refine ax_iload (pc := 57) G dX10_longest_57 rfl ?_
          refine ax_iconst (pc := 59) (v := nI 2) G dX10_longest_59 ic_2 ?_
          refine ax_iaddN (pc := 60) G dX10_longest_60 ?_
          refine md_ld (pc := 61) (i := 227 + (4 * i) + 2) (j := 4) G 627 dX10_longest_61 (by decide) (by decide) rfl rfl rfl (by omega) (by decide) ?_
          refine ax_isub (pc := 62) G dX10_longest_62 ?_
          refine ax_istore (pc := 63) G dX10_longest_63 (Nat.le_of_ble_eq_true rfl) rfl ?_
          refine ax_aload_n (pc := 65) G dX10_longest_65 rfl rfl ?_
          refine md_get (pc := 66) (v := .ref (m + 4)) G flX10_23_8 dX10_longest_66 rfl ?_
          refine ax_iload (pc := 69) G dX10_longest_69 rfl ?_
          refine md_ld (pc := 71) (i := 227 + (4 * i)) (j := 4) G 627 dX10_longest_71 (by decide) (by decide) rfl rfl rfl (by omega) (by decide) ?_
          refine ax_iload_n (pc := 72) G dX10_longest_72 rfl rfl ?_
          refine ax_icmp_ne (pc := 73) (tgt := 96) G dX10_longest_73 rfl (fun c73 => ?_) (fun c73 => ?_)
          · replace c73 : ¬ ((μ.2 4) (227 + (4 * i))) = (nI k) := c73
            refine ax_iincN (pc := 96) (n := 1) G dX10_longest_96 rfl rfl ic_1 ?_
            refine ax_goto (pc := 99) (tgt := 22) G dX10_longest_99 rfl ?_
            have q9 := fun l5 l6 => ih (i + 1) l5 l6 (by omega)
            rw [show pLong (μ.2 4) (nI k) (i + 1) = (some (o), mo) from by simp only [pLong, pLonS, e, c31, c73, if_true, if_false]] at q9
            exact q9 _ _
          · replace c73 : ((μ.2 4) (227 + (4 * i))) = (nI k) := c73
            refine ax_iload_n (pc := 76) G dX10_longest_76 rfl rfl ?_
            refine ax_iconst (pc := 77) (v := (-1)) G dX10_longest_77 (by decide) ?_
            refine ax_icmp_eq (pc := 78) (tgt := 90) G dX10_longest_78 rfl (fun c9 => absurd c9 (nI_nm (by omega))) (fun _ => ?_)
            refine ax_iload (pc := 81) G dX10_longest_81 rfl ?_
            refine ax_iload_n (pc := 83) G dX10_longest_83 rfl rfl ?_
            refine ax_icmp_gt (pc := 84) (tgt := 90) G dX10_longest_84 rfl (fun c84 => ?_) (fun c84 => ?_)
            · replace c84 : mo < (((μ.2 4) (227 + (4 * i) + 3)) - ((μ.2 4) (227 + (4 * i) + 2))) := c84
              refine ax_iload (pc := 90) G dX10_longest_90 rfl ?_
              refine ax_istore_n (pc := 92) G dX10_longest_92 rfl (Nat.le_of_ble_eq_true rfl) rfl ?_
              refine ax_iload (pc := 93) G dX10_longest_93 rfl ?_
              refine ax_istore_n (pc := 95) G dX10_longest_95 rfl (Nat.le_of_ble_eq_true rfl) rfl ?_
              refine ax_iincN (pc := 96) (n := 1) G dX10_longest_96 rfl rfl ic_1 ?_
              refine ax_goto (pc := 99) (tgt := 22) G dX10_longest_99 rfl ?_
              have q9 := fun l5 l6 => ih (i + 1) l5 l6 (by omega)
              rw [show pLong (μ.2 4) (nI k) (i + 1) = (some (i), ((μ.2 4) (227 + (4 * i) + 3)) - ((μ.2 4) (227 + (4 * i) + 2))) from by simp only [pLong, pLonS, e, c31, if_pos c73, c84, Int32.not_le.mpr c84, if_true, if_false]] at q9
              exact q9 _ _
            · replace c84 : ¬ mo < (((μ.2 4) (227 + (4 * i) + 3)) - ((μ.2 4) (227 + (4 * i) + 2))) := c84
              refine ax_goto (pc := 87) (tgt := 96) G dX10_longest_87 rfl ?_
              refine ax_iincN (pc := 96) (n := 1) G dX10_longest_96 rfl rfl ic_1 ?_
              refine ax_goto (pc := 99) (tgt := 22) G dX10_longest_99 rfl ?_
              have q9 := fun l5 l6 => ih (i + 1) l5 l6 (by omega)
              rw [show pLong (μ.2 4) (nI k) (i + 1) = (some (o), mo) from by simp only [pLong, pLonS, e, c31, if_pos c73, c84, Int32.not_lt.mp c84, if_true, if_false]] at q9
              exact q9 _ _
  show ax_W Ω Γ 0 0 (md_H h m μ) 0 [some (.ref m), some (.int (nI k)), none, none, none, none, none] []
  refine ax_aload_n (pc := 0) G dX10_longest_0 rfl rfl ?_
  refine ax_iload_n (pc := 1) G dX10_longest_1 rfl rfl ?_
  refine ax_iconst (pc := 2) (v := nI 0) G dX10_longest_2 ic_0 ?_
  refine ax_iconst (pc := 3) (v := nI 4) G dX10_longest_3 ic_4 ?_
  refine ax_cS1 (pc := 4) (kb := 0) (nb := 0) G (mt_in hA (nI k) (nI 0) (nI 4)) lSX10_74 dX10_longest_4 rfl (by decide) (Nat.le_of_ble_eq_true rfl) rfl ?_
  refine ax_top (show Value.int (bI (pIn (nI k) (nI 0) (nI 4))) = .int (nI 1) from congrArg Value.int (by rw [pIn_c (Nat.zero_le _) hk (by decide)]; rfl)) ?_
  refine ax_cV1 (pc := 7) (kb := 0) (nb := 0) G (mt_mayAskY hA (μ := μ) hm h19) lVX10_368_8 dX10_longest_7 md_obj rfl (by decide) (Nat.le_of_ble_eq_true rfl) rfl ?_
  show ax_W Ω Γ _ _ (md_H h m (md_si μ 0 (nI 0))) _ _ _
  refine ax_if_ne (pc := 10) (tgt := 15) G dX10_longest_10 rfl (fun _ => ?_) (fun c9 => absurd c9 (by decide))
  refine ax_iconst (pc := 15) (v := (-1)) G dX10_longest_15 (by decide) ?_
  refine ax_istore_n (pc := 16) G dX10_longest_16 rfl (Nat.le_of_ble_eq_true rfl) rfl ?_
  refine ax_iconst (pc := 17) (v := nI 0) G dX10_longest_17 ic_0 ?_
  refine ax_istore_n (pc := 18) G dX10_longest_18 rfl (Nat.le_of_ble_eq_true rfl) rfl ?_
  refine ax_iconst (pc := 19) (v := nI 0) G dX10_longest_19 ic_0 ?_
  refine ax_istore (pc := 20) G dX10_longest_20 (Nat.le_of_ble_eq_true rfl) rfl ?_
  exact LL N 0 none none (by omega)

theorem mq_longest_N {Ω : ax_O} (hA : ax_Amb Ω) {h : ax_H} {m : Nat} {μ : md_S} (hm : Ω.2.1.heap.size ≤ m) (h19 : μ.1 19 = nI 0) (k : Int32)  : ax_Met Ω yX10_longest 14 0 0 [.ref m, .int k] (md_H h m μ) (.inl (some (.int (nI 0)))) (md_H h m (md_si μ 0 (nI 1))) := by
  refine ax_met q3091 q142 (by decide +kernel) (by decide) hA (Nat.le_of_ble_eq_true rfl) (fun Γ G E => ?_)
  show ax_W Ω Γ 0 0 (md_H h m μ) 0 [some (.ref m), some (.int k), none, none, none, none, none] []
  refine ax_aload_n (pc := 0) G dX10_longest_0 rfl rfl ?_
  refine ax_iload_n (pc := 1) G dX10_longest_1 rfl rfl ?_
  refine ax_iconst (pc := 2) (v := nI 0) G dX10_longest_2 ic_0 ?_
  refine ax_iconst (pc := 3) (v := nI 4) G dX10_longest_3 ic_4 ?_
  refine ax_cS1 (pc := 4) (kb := 0) (nb := 0) G (mt_in hA k (nI 0) (nI 4)) lSX10_74 dX10_longest_4 rfl (by decide) (Nat.le_of_ble_eq_true rfl) rfl ?_
  refine ax_cV1 (pc := 7) (kb := 0) (nb := 0) G (mt_mayAskN hA (μ := μ) hm h19 (pIn k (nI 0) (nI 4))) lVX10_368_8 dX10_longest_7 md_obj rfl (by decide) (Nat.le_of_ble_eq_true rfl) rfl ?_
  show ax_W Ω Γ _ _ (md_H h m (md_si μ 0 (nI 1))) _ _ _
  refine ax_if_ne (pc := 10) (tgt := 15) G dX10_longest_10 rfl (fun c9 => absurd rfl c9) (fun _ => ?_)
  refine ax_iconst (pc := 13) (v := nI 0) G dX10_longest_13 ic_0 ?_
  exact ax_iretE (pc := 14) G E rfl (rfl) dX10_longest_14 (rfl) (rfl)

theorem mq_longest_B {Ω : ax_O} (hA : ax_Amb Ω) {h : ax_H} {m : Nat} {μ : md_S} (hm : Ω.2.1.heap.size ≤ m) (h19 : μ.1 19 = nI 1) (k : Int32) (hb : pIn k (nI 0) (nI 4) = false) : ax_Met Ω yX10_longest 14 0 0 [.ref m, .int k] (md_H h m μ) (.inl (some (.int (nI 0)))) (md_H h m (md_si μ 0 (nI 2))) := by
  refine ax_met q3091 q142 (by decide +kernel) (by decide) hA (Nat.le_of_ble_eq_true rfl) (fun Γ G E => ?_)
  show ax_W Ω Γ 0 0 (md_H h m μ) 0 [some (.ref m), some (.int k), none, none, none, none, none] []
  refine ax_aload_n (pc := 0) G dX10_longest_0 rfl rfl ?_
  refine ax_iload_n (pc := 1) G dX10_longest_1 rfl rfl ?_
  refine ax_iconst (pc := 2) (v := nI 0) G dX10_longest_2 ic_0 ?_
  refine ax_iconst (pc := 3) (v := nI 4) G dX10_longest_3 ic_4 ?_
  refine ax_cS1 (pc := 4) (kb := 0) (nb := 0) G (mt_in hA k (nI 0) (nI 4)) lSX10_74 dX10_longest_4 rfl (by decide) (Nat.le_of_ble_eq_true rfl) rfl ?_
  refine ax_top (show Value.int (bI (pIn k (nI 0) (nI 4))) = .int (nI 0) from congrArg Value.int (by rw [hb]; rfl)) ?_
  refine ax_cV1 (pc := 7) (kb := 0) (nb := 0) G (mt_mayAskB hA (μ := μ) hm h19) lVX10_368_8 dX10_longest_7 md_obj rfl (by decide) (Nat.le_of_ble_eq_true rfl) rfl ?_
  show ax_W Ω Γ _ _ (md_H h m (md_si μ 0 (nI 2))) _ _ _
  refine ax_if_ne (pc := 10) (tgt := 15) G dX10_longest_10 rfl (fun c9 => absurd rfl c9) (fun _ => ?_)
  refine ax_iconst (pc := 13) (v := nI 0) G dX10_longest_13 ic_0 ?_
  exact ax_iretE (pc := 14) G E rfl (rfl) dX10_longest_14 (rfl) (rfl)

