/-! THE MODEL: more public methods -/
theorem mq_grant_Y {Ω : ax_O} (hA : ax_Amb Ω) {h : ax_H} {m : Nat} {μ : md_S} (hm : Ω.2.1.heap.size ≤ m) (h19 : μ.1 19 = nI 1) {P V O A : Nat} (hp : pWP (μ.2 2) P V O) (hs : pWS (μ.2 4) A) (u : Nat) (hu : u ≤ 8) (h18 : μ.1 18 = nI u) (k : Nat) (hk : k < P) (mi : Int32) (h1 : pIn mi (-2000) (nI 2000) = true) (h2 : ¬ pLeft (μ.2 4) k + mi < 0) (h3 : ¬ nI 9999 < (μ.2 4) (17 + k) + mi) : ax_Met Ω yX10_grant 14 0 0 [.ref m, .int (nI k), .int mi] (md_H h m μ) (.inl (some (.int (pLeft (pAdd (μ.2 4) (17 + k) mi) k)))) (md_H h m (md_sa (md_si (md_sa (md_si μ 0 (nI 0)) 7 (pRem (μ.2 7) (μ.2 4) u)) 18 (nI (pU u))) 4 (pAdd (μ.2 4) (17 + k) mi))) := by
  refine ax_met q3209 q142 (by decide +kernel) (by decide) hA (Nat.le_of_ble_eq_true rfl) (fun Γ G E => ?_)
  have hP9 := hp.lP
  show ax_W Ω Γ 0 0 (md_H h m μ) 0 [some (.ref m), some (.int (nI k)), some (.int mi), none, none, none] []
  refine ax_aload_n (pc := 0) G dX10_grant_0 rfl rfl ?_
  refine md_get (pc := 1) (v := .int (μ.1 19)) G flX10_193_8 dX10_grant_1 rfl ?_
  refine ax_top (show Value.int (μ.1 19) = .int (nI 1) from congrArg Value.int (h19)) ?_
  refine ax_if_eq (pc := 4) (tgt := 19) G dX10_grant_4 rfl (fun c9 => absurd c9 (by decide)) (fun _ => ?_)
  refine ax_aload_n (pc := 7) G dX10_grant_7 rfl rfl ?_
  refine ax_iload_n (pc := 8) G dX10_grant_8 rfl rfl ?_
  refine ax_cV1 (pc := 9) (kb := 0) (nb := 0) G (mt_isProposal hA (μ := μ) (nI k)) lVX10_358_8 dX10_grant_9 md_obj rfl (by decide) (Nat.le_of_ble_eq_true rfl) rfl ?_
  refine ax_top (show Value.int (bI (pIn (nI k) (nI 0) ((μ.2 2) 10 - nI 1))) = .int (nI 1) from congrArg Value.int (by rw [pIn_k hp.hP hk (by have := hp.lP; omega)]; rfl)) ?_
  refine ax_if_eq (pc := 12) (tgt := 19) G dX10_grant_12 rfl (fun c9 => absurd c9 (by decide)) (fun _ => ?_)
  refine ax_iconst (pc := 15) (v := nI 1) G dX10_grant_15 ic_1 ?_
  refine ax_goto (pc := 16) (tgt := 20) G dX10_grant_16 rfl ?_
  refine ax_istore_n (pc := 20) G dX10_grant_20 rfl (Nat.le_of_ble_eq_true rfl) rfl ?_
  refine ax_iload_n (pc := 21) G dX10_grant_21 rfl rfl ?_
  refine ax_if_eq (pc := 22) (tgt := 72) G dX10_grant_22 rfl (fun c9 => absurd c9 (by decide)) (fun _ => ?_)
  refine ax_iload_n (pc := 25) G dX10_grant_25 rfl rfl ?_
  refine ax_sipush (pc := 26) (v := (-2000)) G dX10_grant_26 (by decide) ?_
  refine ax_sipush (pc := 29) (v := nI 2000) G dX10_grant_29 is_2000 ?_
  refine ax_cS1 (pc := 32) (kb := 0) (nb := 0) G (mt_in hA mi (-2000) (nI 2000)) lSX10_74 dX10_grant_32 rfl (by decide) (Nat.le_of_ble_eq_true rfl) rfl ?_
  refine ax_top (show Value.int (bI (pIn mi (-2000) (nI 2000))) = .int (nI 1) from congrArg Value.int (by rw [h1]; rfl)) ?_
  refine ax_if_eq (pc := 35) (tgt := 72) G dX10_grant_35 rfl (fun c9 => absurd c9 (by decide)) (fun _ => ?_)
  refine ax_aload_n (pc := 38) G dX10_grant_38 rfl rfl ?_
  refine md_get (pc := 39) (v := .ref (m + 4)) G flX10_23_8 dX10_grant_39 rfl ?_
  refine ax_iload_n (pc := 42) G dX10_grant_42 rfl rfl ?_
  refine ax_cS1 (pc := 43) (kb := 0) (nb := 0) G (md_ro (mt_leftTo hA (μ := μ) (s := μ.2 4) (j := 4) (Or.inl rfl) k (by omega))) lSX10_259 dX10_grant_43 rfl (by decide) (Nat.le_of_ble_eq_true rfl) rfl ?_
  refine ax_iload_n (pc := 46) G dX10_grant_46 rfl rfl ?_
  refine ax_iadd (pc := 47) G dX10_grant_47 ?_
  refine ax_if_lt (pc := 48) (tgt := 72) G dX10_grant_48 rfl (fun c9 => absurd c9 h2) (fun _ => ?_)
  refine ax_aload_n (pc := 51) G dX10_grant_51 rfl rfl ?_
  refine md_get (pc := 52) (v := .ref (m + 4)) G flX10_23_8 dX10_grant_52 rfl ?_
  refine ax_bipush (pc := 55) (v := nI 17) G dX10_grant_55 ib_17 ?_
  refine ax_iload_n (pc := 57) G dX10_grant_57 rfl rfl ?_
  refine ax_iaddN (pc := 58) G dX10_grant_58 ?_
  refine md_ld (pc := 59) (i := 17 + k) (j := 4) G 627 dX10_grant_59 (by decide) (by decide) rfl rfl rfl (by omega) (by decide) ?_
  refine ax_iload_n (pc := 60) G dX10_grant_60 rfl rfl ?_
  refine ax_iadd (pc := 61) G dX10_grant_61 ?_
  refine ax_sipush (pc := 62) (v := nI 9999) G dX10_grant_62 is_9999 ?_
  refine ax_icmp_gt (pc := 65) (tgt := 72) G dX10_grant_65 rfl (fun c9 => absurd c9 h3) (fun _ => ?_)
  refine ax_iconst (pc := 68) (v := nI 1) G dX10_grant_68 ic_1 ?_
  refine ax_goto (pc := 69) (tgt := 73) G dX10_grant_69 rfl ?_
  refine ax_istore (pc := 73) G dX10_grant_73 (Nat.le_of_ble_eq_true rfl) rfl ?_
  refine ax_aload_n (pc := 75) G dX10_grant_75 rfl rfl ?_
  refine ax_iload_n (pc := 76) G dX10_grant_76 rfl rfl ?_
  refine ax_iload (pc := 77) G dX10_grant_77 rfl ?_
  refine ax_cV1 (pc := 79) (kb := 0) (nb := 0) G (mt_mayAskForY hA (μ := μ) hm h19) lVX10_361_8 dX10_grant_79 md_obj rfl (by decide) (Nat.le_of_ble_eq_true rfl) rfl ?_
  show ax_W Ω Γ _ _ (md_H h m (md_si μ 0 (nI 0))) _ _ _
  refine ax_if_ne (pc := 82) (tgt := 87) G dX10_grant_82 rfl (fun _ => ?_) (fun c9 => absurd c9 (by decide))
  refine ax_aload_n (pc := 87) G dX10_grant_87 rfl rfl ?_
  refine ax_bipush (pc := 88) (v := nI 17) G dX10_grant_88 ib_17 ?_
  refine ax_iload_n (pc := 90) G dX10_grant_90 rfl rfl ?_
  refine ax_iaddN (pc := 91) G dX10_grant_91 ?_
  refine ax_aload_n (pc := 92) G dX10_grant_92 rfl rfl ?_
  refine md_get (pc := 93) (v := .ref (m + 4)) G flX10_23_8 dX10_grant_93 rfl ?_
  refine ax_bipush (pc := 96) (v := nI 17) G dX10_grant_96 ib_17 ?_
  refine ax_iload_n (pc := 98) G dX10_grant_98 rfl rfl ?_
  refine ax_iaddN (pc := 99) G dX10_grant_99 ?_
  refine md_ld (pc := 100) (i := 17 + k) (j := 4) G 627 dX10_grant_100 (by decide) (by decide) rfl rfl rfl (by omega) (by decide) ?_
  refine ax_iload_n (pc := 101) G dX10_grant_101 rfl rfl ?_
  refine ax_iadd (pc := 102) G dX10_grant_102 ?_
  refine ax_cV1 (pc := 103) (kb := 0) (nb := 0) G (mt_sets hA (h := h) (m := m) (μ := (md_si μ 0 (nI 0))) hm u hu h18 (17 + k) (by omega) (((μ.2 4) (17 + k)) + mi)) lVX10_417_8 dX10_grant_103 md_obj rfl (by decide) (Nat.le_of_ble_eq_true rfl) rfl ?_
  show ax_W Ω Γ _ _ (md_H h m (md_sa (md_si (md_sa (md_si μ 0 (nI 0)) 7 (pRem (μ.2 7) (μ.2 4) u)) 18 (nI (pU u))) 4 (upd (μ.2 4) (17 + k) (((μ.2 4) (17 + k)) + mi)))) _ _ _
  refine ax_istore (pc := 106) G dX10_grant_106 (Nat.le_of_ble_eq_true rfl) rfl ?_
  show ax_W Ω Γ _ _ (md_H h m (md_sa (md_si (md_sa (md_si μ 0 (nI 0)) 7 (pRem (μ.2 7) (μ.2 4) u)) 18 (nI (pU u))) 4 (pAdd (μ.2 4) (17 + k) mi))) _ _ _
  refine ax_aload_n (pc := 108) G dX10_grant_108 rfl rfl ?_
  refine md_get (pc := 109) (v := .ref (m + 4)) G flX10_23_8 dX10_grant_109 rfl ?_
  refine ax_iload_n (pc := 112) G dX10_grant_112 rfl rfl ?_
  refine ax_cS1 (pc := 113) (kb := 0) (nb := 0) G (md_ro (mt_leftTo hA (μ := (md_sa (md_si (md_sa (md_si μ 0 (nI 0)) 7 (pRem (μ.2 7) (μ.2 4) u)) 18 (nI (pU u))) 4 (pAdd (μ.2 4) (17 + k) mi))) (s := pAdd (μ.2 4) (17 + k) mi) (j := 4) (Or.inl rfl) k (by omega))) lSX10_259 dX10_grant_113 rfl (by decide) (Nat.le_of_ble_eq_true rfl) rfl ?_
  exact ax_iretE (pc := 116) G E rfl (rfl) dX10_grant_116 (rfl) (rfl)

theorem mq_grant_N {Ω : ax_O} (hA : ax_Amb Ω) {h : ax_H} {m : Nat} {μ : md_S} (hm : Ω.2.1.heap.size ≤ m) (h19 : μ.1 19 = nI 0) (k : Int32) (mi : Int32)  : ax_Met Ω yX10_grant 14 0 0 [.ref m, .int k, .int mi] (md_H h m μ) (.inl (some (.int (nI 0)))) (md_H h m (md_si μ 0 (nI 1))) := by
  refine ax_met q3209 q142 (by decide +kernel) (by decide) hA (Nat.le_of_ble_eq_true rfl) (fun Γ G E => ?_)
  show ax_W Ω Γ 0 0 (md_H h m μ) 0 [some (.ref m), some (.int k), some (.int mi), none, none, none] []
  refine ax_aload_n (pc := 0) G dX10_grant_0 rfl rfl ?_
  refine md_get (pc := 1) (v := .int (μ.1 19)) G flX10_193_8 dX10_grant_1 rfl ?_
  refine ax_top (show Value.int (μ.1 19) = .int (nI 0) from congrArg Value.int (h19)) ?_
  refine ax_if_eq (pc := 4) (tgt := 19) G dX10_grant_4 rfl (fun _ => ?_) (fun c9 => absurd rfl c9)
  refine ax_iconst (pc := 19) (v := nI 0) G dX10_grant_19 ic_0 ?_
  refine ax_istore_n (pc := 20) G dX10_grant_20 rfl (Nat.le_of_ble_eq_true rfl) rfl ?_
  refine ax_iload_n (pc := 21) G dX10_grant_21 rfl rfl ?_
  refine ax_if_eq (pc := 22) (tgt := 72) G dX10_grant_22 rfl (fun _ => ?_) (fun c9 => absurd rfl c9)
  refine ax_iconst (pc := 72) (v := nI 0) G dX10_grant_72 ic_0 ?_
  refine ax_istore (pc := 73) G dX10_grant_73 (Nat.le_of_ble_eq_true rfl) rfl ?_
  refine ax_aload_n (pc := 75) G dX10_grant_75 rfl rfl ?_
  refine ax_iload_n (pc := 76) G dX10_grant_76 rfl rfl ?_
  refine ax_iload (pc := 77) G dX10_grant_77 rfl ?_
  refine ax_cV1 (pc := 79) (kb := 0) (nb := 0) G (mt_mayAskForN hA (μ := μ) hm h19 false false) lVX10_361_8 dX10_grant_79 md_obj rfl (by decide) (Nat.le_of_ble_eq_true rfl) rfl ?_
  show ax_W Ω Γ _ _ (md_H h m (md_si μ 0 (nI 1))) _ _ _
  refine ax_if_ne (pc := 82) (tgt := 87) G dX10_grant_82 rfl (fun c9 => absurd rfl c9) (fun _ => ?_)
  refine ax_iconst (pc := 85) (v := nI 0) G dX10_grant_85 ic_0 ?_
  exact ax_iretE (pc := 86) G E rfl (rfl) dX10_grant_86 (rfl) (rfl)

theorem mq_grant_B {Ω : ax_O} (hA : ax_Amb Ω) {h : ax_H} {m : Nat} {μ : md_S} (hm : Ω.2.1.heap.size ≤ m) (h19 : μ.1 19 = nI 1) (k mi : Int32) (hb : pIn k (nI 0) ((μ.2 2) 10 - nI 1) = false) : ax_Met Ω yX10_grant 14 0 0 [.ref m, .int k, .int mi] (md_H h m μ) (.inl (some (.int (nI 0)))) (md_H h m (md_si μ 0 (nI 2))) := by
  refine ax_met q3209 q142 (by decide +kernel) (by decide) hA (Nat.le_of_ble_eq_true rfl) (fun Γ G E => ?_)
  show ax_W Ω Γ 0 0 (md_H h m μ) 0 [some (.ref m), some (.int k), some (.int mi), none, none, none] []
  refine ax_aload_n (pc := 0) G dX10_grant_0 rfl rfl ?_
  refine md_get (pc := 1) (v := .int (μ.1 19)) G flX10_193_8 dX10_grant_1 rfl ?_
  refine ax_top (show Value.int (μ.1 19) = .int (nI 1) from congrArg Value.int (h19)) ?_
  refine ax_if_eq (pc := 4) (tgt := 19) G dX10_grant_4 rfl (fun c9 => absurd c9 (by decide)) (fun _ => ?_)
  refine ax_aload_n (pc := 7) G dX10_grant_7 rfl rfl ?_
  refine ax_iload_n (pc := 8) G dX10_grant_8 rfl rfl ?_
  refine ax_cV1 (pc := 9) (kb := 0) (nb := 0) G (mt_isProposal hA (μ := μ) k) lVX10_358_8 dX10_grant_9 md_obj rfl (by decide) (Nat.le_of_ble_eq_true rfl) rfl ?_
  refine ax_top (show Value.int (bI (pIn k (nI 0) ((μ.2 2) 10 - nI 1))) = .int (nI 0) from congrArg Value.int (by rw [hb]; rfl)) ?_
  refine ax_if_eq (pc := 12) (tgt := 19) G dX10_grant_12 rfl (fun _ => ?_) (fun c9 => absurd rfl c9)
  refine ax_iconst (pc := 19) (v := nI 0) G dX10_grant_19 ic_0 ?_
  refine ax_istore_n (pc := 20) G dX10_grant_20 rfl (Nat.le_of_ble_eq_true rfl) rfl ?_
  refine ax_iload_n (pc := 21) G dX10_grant_21 rfl rfl ?_
  refine ax_if_eq (pc := 22) (tgt := 72) G dX10_grant_22 rfl (fun _ => ?_) (fun c9 => absurd rfl c9)
  refine ax_iconst (pc := 72) (v := nI 0) G dX10_grant_72 ic_0 ?_
  refine ax_istore (pc := 73) G dX10_grant_73 (Nat.le_of_ble_eq_true rfl) rfl ?_
  refine ax_aload_n (pc := 75) G dX10_grant_75 rfl rfl ?_
  refine ax_iload_n (pc := 76) G dX10_grant_76 rfl rfl ?_
  refine ax_iload (pc := 77) G dX10_grant_77 rfl ?_
  refine ax_cV1 (pc := 79) (kb := 0) (nb := 0) G (mt_mayAskForB hA (μ := μ) hm h19 false) lVX10_361_8 dX10_grant_79 md_obj rfl (by decide) (Nat.le_of_ble_eq_true rfl) rfl ?_
  show ax_W Ω Γ _ _ (md_H h m (md_si μ 0 (nI 2))) _ _ _
  refine ax_if_ne (pc := 82) (tgt := 87) G dX10_grant_82 rfl (fun c9 => absurd rfl c9) (fun _ => ?_)
  refine ax_iconst (pc := 85) (v := nI 0) G dX10_grant_85 ic_0 ?_
  exact ax_iretE (pc := 86) G E rfl (rfl) dX10_grant_86 (rfl) (rfl)

theorem mq_grant_C {Ω : ax_O} (hA : ax_Amb Ω) {h : ax_H} {m : Nat} {μ : md_S} (hm : Ω.2.1.heap.size ≤ m) (h19 : μ.1 19 = nI 1) {P V O A : Nat} (hp : pWP (μ.2 2) P V O) (hs : pWS (μ.2 4) A) (k : Nat) (hk : k < P) (mi : Int32) (hb : (pIn mi (-2000) (nI 2000) && (!decide (pLeft (μ.2 4) k + mi < 0) && !decide (nI 9999 < (μ.2 4) (17 + k) + mi))) = false) : ax_Met Ω yX10_grant 14 0 0 [.ref m, .int (nI k), .int mi] (md_H h m μ) (.inl (some (.int (nI 0)))) (md_H h m (md_si μ 0 (nI 3))) := by
  refine ax_met q3209 q142 (by decide +kernel) (by decide) hA (Nat.le_of_ble_eq_true rfl) (fun Γ G E => ?_)
  have hP9 := hp.lP
  show ax_W Ω Γ 0 0 (md_H h m μ) 0 [some (.ref m), some (.int (nI k)), some (.int mi), none, none, none] []
  refine ax_aload_n (pc := 0) G dX10_grant_0 rfl rfl ?_
  refine md_get (pc := 1) (v := .int (μ.1 19)) G flX10_193_8 dX10_grant_1 rfl ?_
  refine ax_top (show Value.int (μ.1 19) = .int (nI 1) from congrArg Value.int (h19)) ?_
  refine ax_if_eq (pc := 4) (tgt := 19) G dX10_grant_4 rfl (fun c9 => absurd c9 (by decide)) (fun _ => ?_)
  refine ax_aload_n (pc := 7) G dX10_grant_7 rfl rfl ?_
  refine ax_iload_n (pc := 8) G dX10_grant_8 rfl rfl ?_
  refine ax_cV1 (pc := 9) (kb := 0) (nb := 0) G (mt_isProposal hA (μ := μ) (nI k)) lVX10_358_8 dX10_grant_9 md_obj rfl (by decide) (Nat.le_of_ble_eq_true rfl) rfl ?_
  refine ax_top (show Value.int (bI (pIn (nI k) (nI 0) ((μ.2 2) 10 - nI 1))) = .int (nI 1) from congrArg Value.int (by rw [pIn_k hp.hP hk (by have := hp.lP; omega)]; rfl)) ?_
  refine ax_if_eq (pc := 12) (tgt := 19) G dX10_grant_12 rfl (fun c9 => absurd c9 (by decide)) (fun _ => ?_)
  refine ax_iconst (pc := 15) (v := nI 1) G dX10_grant_15 ic_1 ?_
  refine ax_goto (pc := 16) (tgt := 20) G dX10_grant_16 rfl ?_
  refine ax_istore_n (pc := 20) G dX10_grant_20 rfl (Nat.le_of_ble_eq_true rfl) rfl ?_
  refine ax_iload_n (pc := 21) G dX10_grant_21 rfl rfl ?_
  refine ax_if_eq (pc := 22) (tgt := 72) G dX10_grant_22 rfl (fun c9 => absurd c9 (by decide)) (fun _ => ?_)
  refine ax_iload_n (pc := 25) G dX10_grant_25 rfl rfl ?_
  refine ax_sipush (pc := 26) (v := (-2000)) G dX10_grant_26 (by decide) ?_
  refine ax_sipush (pc := 29) (v := nI 2000) G dX10_grant_29 is_2000 ?_
  refine ax_cS1 (pc := 32) (kb := 0) (nb := 0) G (mt_in hA mi (-2000) (nI 2000)) lSX10_74 dX10_grant_32 rfl (by decide) (Nat.le_of_ble_eq_true rfl) rfl ?_
  refine ax_if_eq (pc := 35) (tgt := 72) G dX10_grant_35 rfl (fun c35 => ?_) (fun c35 => ?_)
  · have c35b := bI_f c35
    refine ax_iconst (pc := 72) (v := nI 0) G dX10_grant_72 ic_0 ?_
    refine ax_istore (pc := 73) G dX10_grant_73 (Nat.le_of_ble_eq_true rfl) rfl ?_
    refine ax_aload_n (pc := 75) G dX10_grant_75 rfl rfl ?_
    refine ax_iload_n (pc := 76) G dX10_grant_76 rfl rfl ?_
    refine ax_iload (pc := 77) G dX10_grant_77 rfl ?_
    refine ax_cV1 (pc := 79) (kb := 0) (nb := 0) G (mt_mayAskForC hA (μ := μ) hm h19) lVX10_361_8 dX10_grant_79 md_obj rfl (by decide) (Nat.le_of_ble_eq_true rfl) rfl ?_
    show ax_W Ω Γ _ _ (md_H h m (md_si μ 0 (nI 3))) _ _ _
    refine ax_if_ne (pc := 82) (tgt := 87) G dX10_grant_82 rfl (fun c9 => absurd rfl c9) (fun _ => ?_)
    refine ax_iconst (pc := 85) (v := nI 0) G dX10_grant_85 ic_0 ?_
    exact ax_iretE (pc := 86) G E rfl (rfl) dX10_grant_86 (rfl) (rfl)
  · have c35b := bI_t c35
    refine ax_aload_n (pc := 38) G dX10_grant_38 rfl rfl ?_
    refine md_get (pc := 39) (v := .ref (m + 4)) G flX10_23_8 dX10_grant_39 rfl ?_
    refine ax_iload_n (pc := 42) G dX10_grant_42 rfl rfl ?_
    refine ax_cS1 (pc := 43) (kb := 0) (nb := 0) G (md_ro (mt_leftTo hA (μ := μ) (s := μ.2 4) (j := 4) (Or.inl rfl) k (by omega))) lSX10_259 dX10_grant_43 rfl (by decide) (Nat.le_of_ble_eq_true rfl) rfl ?_
    refine ax_iload_n (pc := 46) G dX10_grant_46 rfl rfl ?_
    refine ax_iadd (pc := 47) G dX10_grant_47 ?_
    refine ax_if_lt (pc := 48) (tgt := 72) G dX10_grant_48 rfl (fun c48 => ?_) (fun c48 => ?_)
    · refine ax_iconst (pc := 72) (v := nI 0) G dX10_grant_72 ic_0 ?_
      refine ax_istore (pc := 73) G dX10_grant_73 (Nat.le_of_ble_eq_true rfl) rfl ?_
      refine ax_aload_n (pc := 75) G dX10_grant_75 rfl rfl ?_
      refine ax_iload_n (pc := 76) G dX10_grant_76 rfl rfl ?_
      refine ax_iload (pc := 77) G dX10_grant_77 rfl ?_
      refine ax_cV1 (pc := 79) (kb := 0) (nb := 0) G (mt_mayAskForC hA (μ := μ) hm h19) lVX10_361_8 dX10_grant_79 md_obj rfl (by decide) (Nat.le_of_ble_eq_true rfl) rfl ?_
      show ax_W Ω Γ _ _ (md_H h m (md_si μ 0 (nI 3))) _ _ _
      refine ax_if_ne (pc := 82) (tgt := 87) G dX10_grant_82 rfl (fun c9 => absurd rfl c9) (fun _ => ?_)
      refine ax_iconst (pc := 85) (v := nI 0) G dX10_grant_85 ic_0 ?_
      exact ax_iretE (pc := 86) G E rfl (rfl) dX10_grant_86 (rfl) (rfl)
    · refine ax_aload_n (pc := 51) G dX10_grant_51 rfl rfl ?_
      refine md_get (pc := 52) (v := .ref (m + 4)) G flX10_23_8 dX10_grant_52 rfl ?_
      refine ax_bipush (pc := 55) (v := nI 17) G dX10_grant_55 ib_17 ?_
      refine ax_iload_n (pc := 57) G dX10_grant_57 rfl rfl ?_
      refine ax_iaddN (pc := 58) G dX10_grant_58 ?_
      refine md_ld (pc := 59) (i := 17 + k) (j := 4) G 627 dX10_grant_59 (by decide) (by decide) rfl rfl rfl (by omega) (by decide) ?_
      refine ax_iload_n (pc := 60) G dX10_grant_60 rfl rfl ?_
      refine ax_iadd (pc := 61) G dX10_grant_61 ?_
      refine ax_sipush (pc := 62) (v := nI 9999) G dX10_grant_62 is_9999 ?_
      refine ax_icmp_gt (pc := 65) (tgt := 72) G dX10_grant_65 rfl (fun c65 => ?_) (fun c65 => ?_)
      · refine ax_iconst (pc := 72) (v := nI 0) G dX10_grant_72 ic_0 ?_
        refine ax_istore (pc := 73) G dX10_grant_73 (Nat.le_of_ble_eq_true rfl) rfl ?_
        refine ax_aload_n (pc := 75) G dX10_grant_75 rfl rfl ?_
        refine ax_iload_n (pc := 76) G dX10_grant_76 rfl rfl ?_
        refine ax_iload (pc := 77) G dX10_grant_77 rfl ?_
        refine ax_cV1 (pc := 79) (kb := 0) (nb := 0) G (mt_mayAskForC hA (μ := μ) hm h19) lVX10_361_8 dX10_grant_79 md_obj rfl (by decide) (Nat.le_of_ble_eq_true rfl) rfl ?_
        show ax_W Ω Γ _ _ (md_H h m (md_si μ 0 (nI 3))) _ _ _
        refine ax_if_ne (pc := 82) (tgt := 87) G dX10_grant_82 rfl (fun c9 => absurd rfl c9) (fun _ => ?_)
        refine ax_iconst (pc := 85) (v := nI 0) G dX10_grant_85 ic_0 ?_
        exact ax_iretE (pc := 86) G E rfl (rfl) dX10_grant_86 (rfl) (rfl)
      · exact absurd hb (by rw [c35b, decide_eq_false c48, decide_eq_false c65]; decide)

theorem mq_addAlert_Y {Ω : ax_O} (hA : ax_Amb Ω) {h : ax_H} {m : Nat} {μ : md_S} (hm : Ω.2.1.heap.size ≤ m) (h19 : μ.1 19 = nI 1) {P V O A : Nat} (hp : pWP (μ.2 2) P V O) (hs : pWS (μ.2 4) A) (u : Nat) (hu : u ≤ 8) (h18 : μ.1 18 = nI u) (k : Nat) (hk : k < P) (lon lat du pu re : Int32) (h1 : pIn lon (nI 0) (nI 359) = true) (h2 : pIn lat (-90) (nI 90) = true) (h3 : pIn du (nI 1) (nI 300) = true) (h4 : pIn pu (nI 0) (nI 99) = true) (h5 : pIn re (nI 0) (nI 999) = true) (hA10 : A < 10) : ax_Met Ω yX10_addAlert 14 0 0 [.ref m, .int (nI k), .int lon, .int lat, .int du, .int pu, .int re] (md_H h m μ) (.inl (some (.int (nI A)))) (md_H h m (md_sa (md_si (md_sa (md_si μ 0 (nI 0)) 7 (pRem (μ.2 7) (μ.2 4) u)) 18 (nI (pU u))) 4 (pAdd (pAlertRow (μ.2 4) A k lon lat du pu re) 14 (nI 1)))) := by
  refine ax_met q3221 q142 (by decide +kernel) (by decide) hA (Nat.le_of_ble_eq_true rfl) (fun Γ G E => ?_)
  have hP9 := hp.lP
  show ax_W Ω Γ 0 0 (md_H h m μ) 0 [some (.ref m), some (.int (nI k)), some (.int lon), some (.int lat), some (.int du), some (.int pu), some (.int re), none, none, none] []
  refine ax_iload_n (pc := 0) G dX10_addAlert_0 rfl rfl ?_
  refine ax_cS1 (pc := 1) (kb := 0) (nb := 0) G (mt_isLon hA (h := h) (m := m) (μ := μ) lon) lSX10_381 dX10_addAlert_1 rfl (by decide) (Nat.le_of_ble_eq_true rfl) rfl ?_
  refine ax_top (show Value.int (bI (pIn lon (nI 0) (nI 359))) = .int (nI 1) from congrArg Value.int (by rw [h1]; rfl)) ?_
  refine ax_if_eq (pc := 4) (tgt := 65) G dX10_addAlert_4 rfl (fun c9 => absurd c9 (by decide)) (fun _ => ?_)
  refine ax_iload_n (pc := 7) G dX10_addAlert_7 rfl rfl ?_
  refine ax_cS1 (pc := 8) (kb := 0) (nb := 0) G (mt_isLat hA (h := h) (m := m) (μ := μ) lat) lSX10_384 dX10_addAlert_8 rfl (by decide) (Nat.le_of_ble_eq_true rfl) rfl ?_
  refine ax_top (show Value.int (bI (pIn lat (-90) (nI 90))) = .int (nI 1) from congrArg Value.int (by rw [h2]; rfl)) ?_
  refine ax_if_eq (pc := 11) (tgt := 65) G dX10_addAlert_11 rfl (fun c9 => absurd c9 (by decide)) (fun _ => ?_)
  refine ax_iload (pc := 14) G dX10_addAlert_14 rfl ?_
  refine ax_iconst (pc := 16) (v := nI 1) G dX10_addAlert_16 ic_1 ?_
  refine ax_sipush (pc := 17) (v := nI 300) G dX10_addAlert_17 is_300 ?_
  refine ax_cS1 (pc := 20) (kb := 0) (nb := 0) G (mt_in hA du (nI 1) (nI 300)) lSX10_74 dX10_addAlert_20 rfl (by decide) (Nat.le_of_ble_eq_true rfl) rfl ?_
  refine ax_top (show Value.int (bI (pIn du (nI 1) (nI 300))) = .int (nI 1) from congrArg Value.int (by rw [h3]; rfl)) ?_
  refine ax_if_eq (pc := 23) (tgt := 65) G dX10_addAlert_23 rfl (fun c9 => absurd c9 (by decide)) (fun _ => ?_)
  refine ax_iload (pc := 26) G dX10_addAlert_26 rfl ?_
  refine ax_iconst (pc := 28) (v := nI 0) G dX10_addAlert_28 ic_0 ?_
  refine ax_bipush (pc := 29) (v := nI 99) G dX10_addAlert_29 ib_99 ?_
  refine ax_cS1 (pc := 31) (kb := 0) (nb := 0) G (mt_in hA pu (nI 0) (nI 99)) lSX10_74 dX10_addAlert_31 rfl (by decide) (Nat.le_of_ble_eq_true rfl) rfl ?_
  refine ax_top (show Value.int (bI (pIn pu (nI 0) (nI 99))) = .int (nI 1) from congrArg Value.int (by rw [h4]; rfl)) ?_
  refine ax_if_eq (pc := 34) (tgt := 65) G dX10_addAlert_34 rfl (fun c9 => absurd c9 (by decide)) (fun _ => ?_)
  refine ax_iload (pc := 37) G dX10_addAlert_37 rfl ?_
  refine ax_iconst (pc := 39) (v := nI 0) G dX10_addAlert_39 ic_0 ?_
  refine ax_sipush (pc := 40) (v := nI 999) G dX10_addAlert_40 is_999 ?_
  refine ax_cS1 (pc := 43) (kb := 0) (nb := 0) G (mt_in hA re (nI 0) (nI 999)) lSX10_74 dX10_addAlert_43 rfl (by decide) (Nat.le_of_ble_eq_true rfl) rfl ?_
  refine ax_top (show Value.int (bI (pIn re (nI 0) (nI 999))) = .int (nI 1) from congrArg Value.int (by rw [h5]; rfl)) ?_
  refine ax_if_eq (pc := 46) (tgt := 65) G dX10_addAlert_46 rfl (fun c9 => absurd c9 (by decide)) (fun _ => ?_)
  refine ax_aload_n (pc := 49) G dX10_addAlert_49 rfl rfl ?_
  refine md_get (pc := 50) (v := .ref (m + 4)) G flX10_23_8 dX10_addAlert_50 rfl ?_
  refine ax_bipush (pc := 53) (v := nI 14) G dX10_addAlert_53 ib_14 ?_
  refine md_ld (pc := 55) (i := 14) (j := 4) G 627 dX10_addAlert_55 (by decide) (by decide) rfl rfl rfl (by omega) (by decide) ?_
  refine ax_top (show Value.int ((μ.2 4) 14) = .int (nI A) from congrArg Value.int (hs.hA)) ?_
  refine ax_bipush (pc := 56) (v := nI 10) G dX10_addAlert_56 ib_10 ?_
  refine ax_icmp_geN (pc := 58) (tgt := 65) G dX10_addAlert_58 rfl (by omega) (by omega) (fun c58 => ?_) (fun c58 => ?_)
  · omega
  · refine ax_iconst (pc := 61) (v := nI 1) G dX10_addAlert_61 ic_1 ?_
    refine ax_goto (pc := 62) (tgt := 66) G dX10_addAlert_62 rfl ?_
    refine ax_istore (pc := 66) G dX10_addAlert_66 (Nat.le_of_ble_eq_true rfl) rfl ?_
    refine ax_aload_n (pc := 68) G dX10_addAlert_68 rfl rfl ?_
    refine ax_aload_n (pc := 69) G dX10_addAlert_69 rfl rfl ?_
    refine ax_iload_n (pc := 70) G dX10_addAlert_70 rfl rfl ?_
    refine ax_cV1 (pc := 71) (kb := 0) (nb := 0) G (mt_isProposal hA (μ := μ) (nI k)) lVX10_358_8 dX10_addAlert_71 md_obj rfl (by decide) (Nat.le_of_ble_eq_true rfl) rfl ?_
    refine ax_top (show Value.int (bI (pIn (nI k) (nI 0) ((μ.2 2) 10 - nI 1))) = .int (nI 1) from congrArg Value.int (by rw [pIn_k hp.hP hk (by have := hp.lP; omega)]; rfl)) ?_
    refine ax_iload (pc := 74) G dX10_addAlert_74 rfl ?_
    refine ax_cV1 (pc := 76) (kb := 0) (nb := 0) G (mt_mayAskForY hA (μ := μ) hm h19) lVX10_361_8 dX10_addAlert_76 md_obj rfl (by decide) (Nat.le_of_ble_eq_true rfl) rfl ?_
    show ax_W Ω Γ _ _ (md_H h m (md_si μ 0 (nI 0))) _ _ _
    refine ax_if_ne (pc := 79) (tgt := 84) G dX10_addAlert_79 rfl (fun _ => ?_) (fun c9 => absurd c9 (by decide))
    refine ax_aload_n (pc := 84) G dX10_addAlert_84 rfl rfl ?_
    refine ax_cV0 (pc := 85) (kb := 0) (nb := 0) G (mt_rem hA (h := h) (m := m) (μ := (md_si μ 0 (nI 0))) hm u hu h18) lVX10_414_8 dX10_addAlert_85 md_obj rfl (by decide) (Nat.le_of_ble_eq_true rfl) rfl ?_
    show ax_W Ω Γ _ _ (md_H h m (md_si (md_sa (md_si μ 0 (nI 0)) 7 (pRem (μ.2 7) (μ.2 4) u)) 18 (nI (pU u)))) _ _ _
    refine ax_aload_n (pc := 88) G dX10_addAlert_88 rfl rfl ?_
    refine md_get (pc := 89) (v := .ref (m + 4)) G flX10_23_8 dX10_addAlert_89 rfl ?_
    refine ax_bipush (pc := 92) (v := nI 14) G dX10_addAlert_92 ib_14 ?_
    refine md_ld (pc := 94) (i := 14) (j := 4) G 627 dX10_addAlert_94 (by decide) (by decide) rfl rfl rfl (by omega) (by decide) ?_
    refine ax_top (show Value.int ((μ.2 4) 14) = .int (nI A) from congrArg Value.int (hs.hA)) ?_
    refine ax_istore (pc := 95) G dX10_addAlert_95 (Nat.le_of_ble_eq_true rfl) rfl ?_
    refine ax_bipush (pc := 97) (v := nI 127) G dX10_addAlert_97 ib_127 ?_
    refine ax_bipush (pc := 99) (v := nI 10) G dX10_addAlert_99 ib_10 ?_
    refine ax_iload (pc := 101) G dX10_addAlert_101 rfl ?_
    refine ax_imulN (pc := 103) G dX10_addAlert_103 ?_
    refine ax_iaddN (pc := 104) G dX10_addAlert_104 ?_
    refine ax_istore (pc := 105) G dX10_addAlert_105 (Nat.le_of_ble_eq_true rfl) rfl ?_
    refine ax_aload_n (pc := 107) G dX10_addAlert_107 rfl rfl ?_
    refine md_get (pc := 108) (v := .ref (m + 4)) G flX10_23_8 dX10_addAlert_108 rfl ?_
    refine ax_iload (pc := 111) G dX10_addAlert_111 rfl ?_
    refine ax_iconst (pc := 113) (v := nI 0) G dX10_addAlert_113 ic_0 ?_
    refine ax_iaddN (pc := 114) G dX10_addAlert_114 ?_
    refine ax_iload_n (pc := 115) G dX10_addAlert_115 rfl rfl ?_
    refine md_st (pc := 116) (i := 127 + (10 * A) + 0) (j := 4) G 627 dX10_addAlert_116 hm (by decide) (by decide) rfl rfl rfl (by omega) (by decide) ?_
    show ax_W Ω Γ _ _ (md_H h m (md_sa (md_si (md_sa (md_si μ 0 (nI 0)) 7 (pRem (μ.2 7) (μ.2 4) u)) 18 (nI (pU u))) 4 (upd (μ.2 4) (127 + (10 * A) + 0) (nI k)))) _ _ _
    refine ax_aload_n (pc := 117) G dX10_addAlert_117 rfl rfl ?_
    refine md_get (pc := 118) (v := .ref (m + 4)) G flX10_23_8 dX10_addAlert_118 rfl ?_
    refine ax_iload (pc := 121) G dX10_addAlert_121 rfl ?_
    refine ax_iconst (pc := 123) (v := nI 1) G dX10_addAlert_123 ic_1 ?_
    refine ax_iaddN (pc := 124) G dX10_addAlert_124 ?_
    refine ax_aload_n (pc := 125) G dX10_addAlert_125 rfl rfl ?_
    refine md_get (pc := 126) (v := .ref (m + 4)) G flX10_23_8 dX10_addAlert_126 rfl ?_
    refine ax_iconst (pc := 129) (v := nI 0) G dX10_addAlert_129 ic_0 ?_
    refine md_ld (pc := 130) (i := 0) (j := 4) G 627 dX10_addAlert_130 (by decide) (by decide) rfl rfl rfl (by omega) (by decide) ?_
    refine md_st (pc := 131) (i := 127 + (10 * A) + 1) (j := 4) G 627 dX10_addAlert_131 hm (by decide) (by decide) rfl rfl rfl (by omega) (by decide) ?_
    show ax_W Ω Γ _ _ (md_H h m (md_si (md_si (md_sa (md_sa (md_sa μ 7 (pRem (μ.2 7) (μ.2 4) u)) 4 (upd (μ.2 4) (127 + (10 * A) + 0) (nI k))) 4 (upd (upd (μ.2 4) (127 + (10 * A) + 0) (nI k)) (127 + (10 * A) + 1) ((upd (μ.2 4) (127 + (10 * A) + 0) (nI k)) 0))) 0 (nI 0)) 18 (nI (pU u)))) _ _ _
    rw [md_saa]
    show ax_W Ω Γ _ _ (md_H h m (md_si (md_si (md_sa (md_sa μ 7 (pRem (μ.2 7) (μ.2 4) u)) 4 (upd (upd (μ.2 4) (127 + (10 * A) + 0) (nI k)) (127 + (10 * A) + 1) ((upd (μ.2 4) (127 + (10 * A) + 0) (nI k)) 0))) 0 (nI 0)) 18 (nI (pU u)))) _ _ _
    refine ax_aload_n (pc := 132) G dX10_addAlert_132 rfl rfl ?_
    refine md_get (pc := 133) (v := .ref (m + 4)) G flX10_23_8 dX10_addAlert_133 rfl ?_
    refine ax_iload (pc := 136) G dX10_addAlert_136 rfl ?_
    refine ax_iconst (pc := 138) (v := nI 2) G dX10_addAlert_138 ic_2 ?_
    refine ax_iaddN (pc := 139) G dX10_addAlert_139 ?_
    refine ax_iload_n (pc := 140) G dX10_addAlert_140 rfl rfl ?_
    refine md_st (pc := 141) (i := 127 + (10 * A) + 2) (j := 4) G 627 dX10_addAlert_141 hm (by decide) (by decide) rfl rfl rfl (by omega) (by decide) ?_
    show ax_W Ω Γ _ _ (md_H h m (md_si (md_si (md_sa (md_sa (md_sa μ 7 (pRem (μ.2 7) (μ.2 4) u)) 4 (upd (upd (μ.2 4) (127 + (10 * A) + 0) (nI k)) (127 + (10 * A) + 1) ((upd (μ.2 4) (127 + (10 * A) + 0) (nI k)) 0))) 4 (upd (upd (upd (μ.2 4) (127 + (10 * A) + 0) (nI k)) (127 + (10 * A) + 1) ((upd (μ.2 4) (127 + (10 * A) + 0) (nI k)) 0)) (127 + (10 * A) + 2) lon)) 0 (nI 0)) 18 (nI (pU u)))) _ _ _
    rw [md_saa]
    show ax_W Ω Γ _ _ (md_H h m (md_si (md_si (md_sa (md_sa μ 7 (pRem (μ.2 7) (μ.2 4) u)) 4 (upd (upd (upd (μ.2 4) (127 + (10 * A) + 0) (nI k)) (127 + (10 * A) + 1) ((upd (μ.2 4) (127 + (10 * A) + 0) (nI k)) 0)) (127 + (10 * A) + 2) lon)) 0 (nI 0)) 18 (nI (pU u)))) _ _ _
    refine ax_aload_n (pc := 142) G dX10_addAlert_142 rfl rfl ?_
    refine md_get (pc := 143) (v := .ref (m + 4)) G flX10_23_8 dX10_addAlert_143 rfl ?_
    refine ax_iload (pc := 146) G dX10_addAlert_146 rfl ?_
    refine ax_iconst (pc := 148) (v := nI 3) G dX10_addAlert_148 ic_3 ?_
    refine ax_iaddN (pc := 149) G dX10_addAlert_149 ?_
    refine ax_iload_n (pc := 150) G dX10_addAlert_150 rfl rfl ?_
    refine md_st (pc := 151) (i := 127 + (10 * A) + 3) (j := 4) G 627 dX10_addAlert_151 hm (by decide) (by decide) rfl rfl rfl (by omega) (by decide) ?_
    show ax_W Ω Γ _ _ (md_H h m (md_si (md_si (md_sa (md_sa (md_sa μ 7 (pRem (μ.2 7) (μ.2 4) u)) 4 (upd (upd (upd (μ.2 4) (127 + (10 * A) + 0) (nI k)) (127 + (10 * A) + 1) ((upd (μ.2 4) (127 + (10 * A) + 0) (nI k)) 0)) (127 + (10 * A) + 2) lon)) 4 (upd (upd (upd (upd (μ.2 4) (127 + (10 * A) + 0) (nI k)) (127 + (10 * A) + 1) ((upd (μ.2 4) (127 + (10 * A) + 0) (nI k)) 0)) (127 + (10 * A) + 2) lon) (127 + (10 * A) + 3) lat)) 0 (nI 0)) 18 (nI (pU u)))) _ _ _
    rw [md_saa]
    show ax_W Ω Γ _ _ (md_H h m (md_si (md_si (md_sa (md_sa μ 7 (pRem (μ.2 7) (μ.2 4) u)) 4 (upd (upd (upd (upd (μ.2 4) (127 + (10 * A) + 0) (nI k)) (127 + (10 * A) + 1) ((upd (μ.2 4) (127 + (10 * A) + 0) (nI k)) 0)) (127 + (10 * A) + 2) lon) (127 + (10 * A) + 3) lat)) 0 (nI 0)) 18 (nI (pU u)))) _ _ _
    refine ax_aload_n (pc := 152) G dX10_addAlert_152 rfl rfl ?_
    refine md_get (pc := 153) (v := .ref (m + 4)) G flX10_23_8 dX10_addAlert_153 rfl ?_
    refine ax_iload (pc := 156) G dX10_addAlert_156 rfl ?_
    refine ax_iconst (pc := 158) (v := nI 4) G dX10_addAlert_158 ic_4 ?_
    refine ax_iaddN (pc := 159) G dX10_addAlert_159 ?_
    refine ax_iload (pc := 160) G dX10_addAlert_160 rfl ?_
    refine md_st (pc := 162) (i := 127 + (10 * A) + 4) (j := 4) G 627 dX10_addAlert_162 hm (by decide) (by decide) rfl rfl rfl (by omega) (by decide) ?_
    show ax_W Ω Γ _ _ (md_H h m (md_si (md_si (md_sa (md_sa (md_sa μ 7 (pRem (μ.2 7) (μ.2 4) u)) 4 (upd (upd (upd (upd (μ.2 4) (127 + (10 * A) + 0) (nI k)) (127 + (10 * A) + 1) ((upd (μ.2 4) (127 + (10 * A) + 0) (nI k)) 0)) (127 + (10 * A) + 2) lon) (127 + (10 * A) + 3) lat)) 4 (upd (upd (upd (upd (upd (μ.2 4) (127 + (10 * A) + 0) (nI k)) (127 + (10 * A) + 1) ((upd (μ.2 4) (127 + (10 * A) + 0) (nI k)) 0)) (127 + (10 * A) + 2) lon) (127 + (10 * A) + 3) lat) (127 + (10 * A) + 4) du)) 0 (nI 0)) 18 (nI (pU u)))) _ _ _
    rw [md_saa]
    show ax_W Ω Γ _ _ (md_H h m (md_si (md_si (md_sa (md_sa μ 7 (pRem (μ.2 7) (μ.2 4) u)) 4 (upd (upd (upd (upd (upd (μ.2 4) (127 + (10 * A) + 0) (nI k)) (127 + (10 * A) + 1) ((upd (μ.2 4) (127 + (10 * A) + 0) (nI k)) 0)) (127 + (10 * A) + 2) lon) (127 + (10 * A) + 3) lat) (127 + (10 * A) + 4) du)) 0 (nI 0)) 18 (nI (pU u)))) _ _ _
    refine ax_aload_n (pc := 163) G dX10_addAlert_163 rfl rfl ?_
    refine md_get (pc := 164) (v := .ref (m + 4)) G flX10_23_8 dX10_addAlert_164 rfl ?_
    refine ax_iload (pc := 167) G dX10_addAlert_167 rfl ?_
    refine ax_iconst (pc := 169) (v := nI 5) G dX10_addAlert_169 ic_5 ?_
    refine ax_iaddN (pc := 170) G dX10_addAlert_170 ?_
    refine ax_iload (pc := 171) G dX10_addAlert_171 rfl ?_
    refine md_st (pc := 173) (i := 127 + (10 * A) + 5) (j := 4) G 627 dX10_addAlert_173 hm (by decide) (by decide) rfl rfl rfl (by omega) (by decide) ?_
    show ax_W Ω Γ _ _ (md_H h m (md_si (md_si (md_sa (md_sa (md_sa μ 7 (pRem (μ.2 7) (μ.2 4) u)) 4 (upd (upd (upd (upd (upd (μ.2 4) (127 + (10 * A) + 0) (nI k)) (127 + (10 * A) + 1) ((upd (μ.2 4) (127 + (10 * A) + 0) (nI k)) 0)) (127 + (10 * A) + 2) lon) (127 + (10 * A) + 3) lat) (127 + (10 * A) + 4) du)) 4 (upd (upd (upd (upd (upd (upd (μ.2 4) (127 + (10 * A) + 0) (nI k)) (127 + (10 * A) + 1) ((upd (μ.2 4) (127 + (10 * A) + 0) (nI k)) 0)) (127 + (10 * A) + 2) lon) (127 + (10 * A) + 3) lat) (127 + (10 * A) + 4) du) (127 + (10 * A) + 5) pu)) 0 (nI 0)) 18 (nI (pU u)))) _ _ _
    rw [md_saa]
    show ax_W Ω Γ _ _ (md_H h m (md_si (md_si (md_sa (md_sa μ 7 (pRem (μ.2 7) (μ.2 4) u)) 4 (upd (upd (upd (upd (upd (upd (μ.2 4) (127 + (10 * A) + 0) (nI k)) (127 + (10 * A) + 1) ((upd (μ.2 4) (127 + (10 * A) + 0) (nI k)) 0)) (127 + (10 * A) + 2) lon) (127 + (10 * A) + 3) lat) (127 + (10 * A) + 4) du) (127 + (10 * A) + 5) pu)) 0 (nI 0)) 18 (nI (pU u)))) _ _ _
    refine ax_aload_n (pc := 174) G dX10_addAlert_174 rfl rfl ?_
    refine md_get (pc := 175) (v := .ref (m + 4)) G flX10_23_8 dX10_addAlert_175 rfl ?_
    refine ax_iload (pc := 178) G dX10_addAlert_178 rfl ?_
    refine ax_bipush (pc := 180) (v := nI 6) G dX10_addAlert_180 ib_6 ?_
    refine ax_iaddN (pc := 182) G dX10_addAlert_182 ?_
    refine ax_iload (pc := 183) G dX10_addAlert_183 rfl ?_
    refine md_st (pc := 185) (i := 127 + (10 * A) + 6) (j := 4) G 627 dX10_addAlert_185 hm (by decide) (by decide) rfl rfl rfl (by omega) (by decide) ?_
    show ax_W Ω Γ _ _ (md_H h m (md_si (md_si (md_sa (md_sa (md_sa μ 7 (pRem (μ.2 7) (μ.2 4) u)) 4 (upd (upd (upd (upd (upd (upd (μ.2 4) (127 + (10 * A) + 0) (nI k)) (127 + (10 * A) + 1) ((upd (μ.2 4) (127 + (10 * A) + 0) (nI k)) 0)) (127 + (10 * A) + 2) lon) (127 + (10 * A) + 3) lat) (127 + (10 * A) + 4) du) (127 + (10 * A) + 5) pu)) 4 (upd (upd (upd (upd (upd (upd (upd (μ.2 4) (127 + (10 * A) + 0) (nI k)) (127 + (10 * A) + 1) ((upd (μ.2 4) (127 + (10 * A) + 0) (nI k)) 0)) (127 + (10 * A) + 2) lon) (127 + (10 * A) + 3) lat) (127 + (10 * A) + 4) du) (127 + (10 * A) + 5) pu) (127 + (10 * A) + 6) re)) 0 (nI 0)) 18 (nI (pU u)))) _ _ _
    rw [md_saa]
    show ax_W Ω Γ _ _ (md_H h m (md_si (md_si (md_sa (md_sa μ 7 (pRem (μ.2 7) (μ.2 4) u)) 4 (upd (upd (upd (upd (upd (upd (upd (μ.2 4) (127 + (10 * A) + 0) (nI k)) (127 + (10 * A) + 1) ((upd (μ.2 4) (127 + (10 * A) + 0) (nI k)) 0)) (127 + (10 * A) + 2) lon) (127 + (10 * A) + 3) lat) (127 + (10 * A) + 4) du) (127 + (10 * A) + 5) pu) (127 + (10 * A) + 6) re)) 0 (nI 0)) 18 (nI (pU u)))) _ _ _
    refine ax_aload_n (pc := 186) G dX10_addAlert_186 rfl rfl ?_
    refine md_get (pc := 187) (v := .ref (m + 4)) G flX10_23_8 dX10_addAlert_187 rfl ?_
    refine ax_iload (pc := 190) G dX10_addAlert_190 rfl ?_
    refine ax_bipush (pc := 192) (v := nI 7) G dX10_addAlert_192 ib_7 ?_
    refine ax_iaddN (pc := 194) G dX10_addAlert_194 ?_
    refine ax_iconst (pc := 195) (v := nI 0) G dX10_addAlert_195 ic_0 ?_
    refine md_st (pc := 196) (i := 127 + (10 * A) + 7) (j := 4) G 627 dX10_addAlert_196 hm (by decide) (by decide) rfl rfl rfl (by omega) (by decide) ?_
    show ax_W Ω Γ _ _ (md_H h m (md_si (md_si (md_sa (md_sa (md_sa μ 7 (pRem (μ.2 7) (μ.2 4) u)) 4 (upd (upd (upd (upd (upd (upd (upd (μ.2 4) (127 + (10 * A) + 0) (nI k)) (127 + (10 * A) + 1) ((upd (μ.2 4) (127 + (10 * A) + 0) (nI k)) 0)) (127 + (10 * A) + 2) lon) (127 + (10 * A) + 3) lat) (127 + (10 * A) + 4) du) (127 + (10 * A) + 5) pu) (127 + (10 * A) + 6) re)) 4 (upd (upd (upd (upd (upd (upd (upd (upd (μ.2 4) (127 + (10 * A) + 0) (nI k)) (127 + (10 * A) + 1) ((upd (μ.2 4) (127 + (10 * A) + 0) (nI k)) 0)) (127 + (10 * A) + 2) lon) (127 + (10 * A) + 3) lat) (127 + (10 * A) + 4) du) (127 + (10 * A) + 5) pu) (127 + (10 * A) + 6) re) (127 + (10 * A) + 7) (nI 0))) 0 (nI 0)) 18 (nI (pU u)))) _ _ _
    rw [md_saa]
    show ax_W Ω Γ _ _ (md_H h m (md_si (md_si (md_sa (md_sa μ 7 (pRem (μ.2 7) (μ.2 4) u)) 4 (upd (upd (upd (upd (upd (upd (upd (upd (μ.2 4) (127 + (10 * A) + 0) (nI k)) (127 + (10 * A) + 1) ((upd (μ.2 4) (127 + (10 * A) + 0) (nI k)) 0)) (127 + (10 * A) + 2) lon) (127 + (10 * A) + 3) lat) (127 + (10 * A) + 4) du) (127 + (10 * A) + 5) pu) (127 + (10 * A) + 6) re) (127 + (10 * A) + 7) (nI 0))) 0 (nI 0)) 18 (nI (pU u)))) _ _ _
    refine ax_aload_n (pc := 197) G dX10_addAlert_197 rfl rfl ?_
    refine md_get (pc := 198) (v := .ref (m + 4)) G flX10_23_8 dX10_addAlert_198 rfl ?_
    refine ax_iload (pc := 201) G dX10_addAlert_201 rfl ?_
    refine ax_bipush (pc := 203) (v := nI 8) G dX10_addAlert_203 ib_8 ?_
    refine ax_iaddN (pc := 205) G dX10_addAlert_205 ?_
    refine ax_iconst (pc := 206) (v := (-1)) G dX10_addAlert_206 (by decide) ?_
    refine md_st (pc := 207) (i := 127 + (10 * A) + 8) (j := 4) G 627 dX10_addAlert_207 hm (by decide) (by decide) rfl rfl rfl (by omega) (by decide) ?_
    show ax_W Ω Γ _ _ (md_H h m (md_si (md_si (md_sa (md_sa (md_sa μ 7 (pRem (μ.2 7) (μ.2 4) u)) 4 (upd (upd (upd (upd (upd (upd (upd (upd (μ.2 4) (127 + (10 * A) + 0) (nI k)) (127 + (10 * A) + 1) ((upd (μ.2 4) (127 + (10 * A) + 0) (nI k)) 0)) (127 + (10 * A) + 2) lon) (127 + (10 * A) + 3) lat) (127 + (10 * A) + 4) du) (127 + (10 * A) + 5) pu) (127 + (10 * A) + 6) re) (127 + (10 * A) + 7) (nI 0))) 4 (upd (upd (upd (upd (upd (upd (upd (upd (upd (μ.2 4) (127 + (10 * A) + 0) (nI k)) (127 + (10 * A) + 1) ((upd (μ.2 4) (127 + (10 * A) + 0) (nI k)) 0)) (127 + (10 * A) + 2) lon) (127 + (10 * A) + 3) lat) (127 + (10 * A) + 4) du) (127 + (10 * A) + 5) pu) (127 + (10 * A) + 6) re) (127 + (10 * A) + 7) (nI 0)) (127 + (10 * A) + 8) (-1))) 0 (nI 0)) 18 (nI (pU u)))) _ _ _
    rw [md_saa]
    show ax_W Ω Γ _ _ (md_H h m (md_si (md_si (md_sa (md_sa μ 7 (pRem (μ.2 7) (μ.2 4) u)) 4 (upd (upd (upd (upd (upd (upd (upd (upd (upd (μ.2 4) (127 + (10 * A) + 0) (nI k)) (127 + (10 * A) + 1) ((upd (μ.2 4) (127 + (10 * A) + 0) (nI k)) 0)) (127 + (10 * A) + 2) lon) (127 + (10 * A) + 3) lat) (127 + (10 * A) + 4) du) (127 + (10 * A) + 5) pu) (127 + (10 * A) + 6) re) (127 + (10 * A) + 7) (nI 0)) (127 + (10 * A) + 8) (-1))) 0 (nI 0)) 18 (nI (pU u)))) _ _ _
    show ax_W Ω Γ _ _ (md_H h m (md_si (md_si (md_sa (md_sa μ 7 (pRem (μ.2 7) (μ.2 4) u)) 4 (pAlertRow (μ.2 4) A k lon lat du pu re)) 0 (nI 0)) 18 (nI (pU u)))) _ _ _
    refine ax_aload_n (pc := 208) G dX10_addAlert_208 rfl rfl ?_
    refine md_get (pc := 209) (v := .ref (m + 4)) G flX10_23_8 dX10_addAlert_209 rfl ?_
    refine ax_bipush (pc := 212) (v := nI 14) G dX10_addAlert_212 ib_14 ?_
    refine ax_dup2_11 (pc := 214) G dX10_addAlert_214 rfl rfl ?_
    refine md_ld (pc := 215) (i := 14) (j := 4) G 627 dX10_addAlert_215 (by decide) (by decide) rfl rfl rfl (by omega) (by decide) ?_
    refine ax_iconst (pc := 216) (v := nI 1) G dX10_addAlert_216 ic_1 ?_
    refine ax_iadd (pc := 217) G dX10_addAlert_217 ?_
    refine md_st (pc := 218) (i := 14) (j := 4) G 627 dX10_addAlert_218 hm (by decide) (by decide) rfl rfl rfl (by omega) (by decide) ?_
    show ax_W Ω Γ _ _ (md_H h m (md_si (md_si (md_sa (md_sa (md_sa μ 7 (pRem (μ.2 7) (μ.2 4) u)) 4 (pAlertRow (μ.2 4) A k lon lat du pu re)) 4 (pAdd (pAlertRow (μ.2 4) A k lon lat du pu re) 14 (nI 1))) 0 (nI 0)) 18 (nI (pU u)))) _ _ _
    rw [md_saa]
    show ax_W Ω Γ _ _ (md_H h m (md_si (md_si (md_sa (md_sa μ 7 (pRem (μ.2 7) (μ.2 4) u)) 4 (pAdd (pAlertRow (μ.2 4) A k lon lat du pu re) 14 (nI 1))) 0 (nI 0)) 18 (nI (pU u)))) _ _ _
    refine ax_iload (pc := 219) G dX10_addAlert_219 rfl ?_
    exact ax_iretE (pc := 221) G E rfl (rfl) dX10_addAlert_221 (rfl) (rfl)

theorem mq_addAlert_N {Ω : ax_O} (hA : ax_Amb Ω) {h : ax_H} {m : Nat} {μ : md_S} (hm : Ω.2.1.heap.size ≤ m) (h19 : μ.1 19 = nI 0) (k lon lat du pu re : Int32) : ax_Met Ω yX10_addAlert 14 0 0 [.ref m, .int k, .int lon, .int lat, .int du, .int pu, .int re] (md_H h m μ) (.inl (some (.int (nI 0)))) (md_H h m (md_si μ 0 (nI 1))) := by
  refine ax_met q3221 q142 (by decide +kernel) (by decide) hA (Nat.le_of_ble_eq_true rfl) (fun Γ G E => ?_)
  show ax_W Ω Γ 0 0 (md_H h m μ) 0 [some (.ref m), some (.int k), some (.int lon), some (.int lat), some (.int du), some (.int pu), some (.int re), none, none, none] []
  refine ax_iload_n (pc := 0) G dX10_addAlert_0 rfl rfl ?_
  refine ax_cS1 (pc := 1) (kb := 0) (nb := 0) G (mt_isLon hA (h := h) (m := m) (μ := μ) lon) lSX10_381 dX10_addAlert_1 rfl (by decide) (Nat.le_of_ble_eq_true rfl) rfl ?_
  refine ax_if_eq (pc := 4) (tgt := 65) G dX10_addAlert_4 rfl (fun c4 => ?_) (fun c4 => ?_)
  · have c4b := bI_f c4
    refine ax_iconst (pc := 65) (v := nI 0) G dX10_addAlert_65 ic_0 ?_
    refine ax_istore (pc := 66) G dX10_addAlert_66 (Nat.le_of_ble_eq_true rfl) rfl ?_
    refine ax_aload_n (pc := 68) G dX10_addAlert_68 rfl rfl ?_
    refine ax_aload_n (pc := 69) G dX10_addAlert_69 rfl rfl ?_
    refine ax_iload_n (pc := 70) G dX10_addAlert_70 rfl rfl ?_
    refine ax_cV1 (pc := 71) (kb := 0) (nb := 0) G (mt_isProposal hA (μ := μ) k) lVX10_358_8 dX10_addAlert_71 md_obj rfl (by decide) (Nat.le_of_ble_eq_true rfl) rfl ?_
    refine ax_iload (pc := 74) G dX10_addAlert_74 rfl ?_
    refine ax_cV1 (pc := 76) (kb := 0) (nb := 0) G (mt_mayAskForN hA (μ := μ) hm h19 (pIn k (nI 0) ((μ.2 2) 10 - nI 1)) false) lVX10_361_8 dX10_addAlert_76 md_obj rfl (by decide) (Nat.le_of_ble_eq_true rfl) rfl ?_
    show ax_W Ω Γ _ _ (md_H h m (md_si μ 0 (nI 1))) _ _ _
    refine ax_if_ne (pc := 79) (tgt := 84) G dX10_addAlert_79 rfl (fun c9 => absurd rfl c9) (fun _ => ?_)
    refine ax_iconst (pc := 82) (v := nI 0) G dX10_addAlert_82 ic_0 ?_
    exact ax_iretE (pc := 83) G E rfl (rfl) dX10_addAlert_83 (rfl) (rfl)
  · have c4b := bI_t c4
    refine ax_iload_n (pc := 7) G dX10_addAlert_7 rfl rfl ?_
    refine ax_cS1 (pc := 8) (kb := 0) (nb := 0) G (mt_isLat hA (h := h) (m := m) (μ := μ) lat) lSX10_384 dX10_addAlert_8 rfl (by decide) (Nat.le_of_ble_eq_true rfl) rfl ?_
    refine ax_if_eq (pc := 11) (tgt := 65) G dX10_addAlert_11 rfl (fun c11 => ?_) (fun c11 => ?_)
    · have c11b := bI_f c11
      refine ax_iconst (pc := 65) (v := nI 0) G dX10_addAlert_65 ic_0 ?_
      refine ax_istore (pc := 66) G dX10_addAlert_66 (Nat.le_of_ble_eq_true rfl) rfl ?_
      refine ax_aload_n (pc := 68) G dX10_addAlert_68 rfl rfl ?_
      refine ax_aload_n (pc := 69) G dX10_addAlert_69 rfl rfl ?_
      refine ax_iload_n (pc := 70) G dX10_addAlert_70 rfl rfl ?_
      refine ax_cV1 (pc := 71) (kb := 0) (nb := 0) G (mt_isProposal hA (μ := μ) k) lVX10_358_8 dX10_addAlert_71 md_obj rfl (by decide) (Nat.le_of_ble_eq_true rfl) rfl ?_
      refine ax_iload (pc := 74) G dX10_addAlert_74 rfl ?_
      refine ax_cV1 (pc := 76) (kb := 0) (nb := 0) G (mt_mayAskForN hA (μ := μ) hm h19 (pIn k (nI 0) ((μ.2 2) 10 - nI 1)) false) lVX10_361_8 dX10_addAlert_76 md_obj rfl (by decide) (Nat.le_of_ble_eq_true rfl) rfl ?_
      show ax_W Ω Γ _ _ (md_H h m (md_si μ 0 (nI 1))) _ _ _
      refine ax_if_ne (pc := 79) (tgt := 84) G dX10_addAlert_79 rfl (fun c9 => absurd rfl c9) (fun _ => ?_)
      refine ax_iconst (pc := 82) (v := nI 0) G dX10_addAlert_82 ic_0 ?_
      exact ax_iretE (pc := 83) G E rfl (rfl) dX10_addAlert_83 (rfl) (rfl)
    · have c11b := bI_t c11
      refine ax_iload (pc := 14) G dX10_addAlert_14 rfl ?_
      refine ax_iconst (pc := 16) (v := nI 1) G dX10_addAlert_16 ic_1 ?_
      refine ax_sipush (pc := 17) (v := nI 300) G dX10_addAlert_17 is_300 ?_
      refine ax_cS1 (pc := 20) (kb := 0) (nb := 0) G (mt_in hA du (nI 1) (nI 300)) lSX10_74 dX10_addAlert_20 rfl (by decide) (Nat.le_of_ble_eq_true rfl) rfl ?_
      refine ax_if_eq (pc := 23) (tgt := 65) G dX10_addAlert_23 rfl (fun c23 => ?_) (fun c23 => ?_)
      · have c23b := bI_f c23
        refine ax_iconst (pc := 65) (v := nI 0) G dX10_addAlert_65 ic_0 ?_
        refine ax_istore (pc := 66) G dX10_addAlert_66 (Nat.le_of_ble_eq_true rfl) rfl ?_
        refine ax_aload_n (pc := 68) G dX10_addAlert_68 rfl rfl ?_
        refine ax_aload_n (pc := 69) G dX10_addAlert_69 rfl rfl ?_
        refine ax_iload_n (pc := 70) G dX10_addAlert_70 rfl rfl ?_
        refine ax_cV1 (pc := 71) (kb := 0) (nb := 0) G (mt_isProposal hA (μ := μ) k) lVX10_358_8 dX10_addAlert_71 md_obj rfl (by decide) (Nat.le_of_ble_eq_true rfl) rfl ?_
        refine ax_iload (pc := 74) G dX10_addAlert_74 rfl ?_
        refine ax_cV1 (pc := 76) (kb := 0) (nb := 0) G (mt_mayAskForN hA (μ := μ) hm h19 (pIn k (nI 0) ((μ.2 2) 10 - nI 1)) false) lVX10_361_8 dX10_addAlert_76 md_obj rfl (by decide) (Nat.le_of_ble_eq_true rfl) rfl ?_
        show ax_W Ω Γ _ _ (md_H h m (md_si μ 0 (nI 1))) _ _ _
        refine ax_if_ne (pc := 79) (tgt := 84) G dX10_addAlert_79 rfl (fun c9 => absurd rfl c9) (fun _ => ?_)
        refine ax_iconst (pc := 82) (v := nI 0) G dX10_addAlert_82 ic_0 ?_
        exact ax_iretE (pc := 83) G E rfl (rfl) dX10_addAlert_83 (rfl) (rfl)
      · have c23b := bI_t c23
        refine ax_iload (pc := 26) G dX10_addAlert_26 rfl ?_
        refine ax_iconst (pc := 28) (v := nI 0) G dX10_addAlert_28 ic_0 ?_
        refine ax_bipush (pc := 29) (v := nI 99) G dX10_addAlert_29 ib_99 ?_
        refine ax_cS1 (pc := 31) (kb := 0) (nb := 0) G (mt_in hA pu (nI 0) (nI 99)) lSX10_74 dX10_addAlert_31 rfl (by decide) (Nat.le_of_ble_eq_true rfl) rfl ?_
        refine ax_if_eq (pc := 34) (tgt := 65) G dX10_addAlert_34 rfl (fun c34 => ?_) (fun c34 => ?_)
        · have c34b := bI_f c34
          refine ax_iconst (pc := 65) (v := nI 0) G dX10_addAlert_65 ic_0 ?_
          refine ax_istore (pc := 66) G dX10_addAlert_66 (Nat.le_of_ble_eq_true rfl) rfl ?_
          refine ax_aload_n (pc := 68) G dX10_addAlert_68 rfl rfl ?_
          refine ax_aload_n (pc := 69) G dX10_addAlert_69 rfl rfl ?_
          refine ax_iload_n (pc := 70) G dX10_addAlert_70 rfl rfl ?_
          refine ax_cV1 (pc := 71) (kb := 0) (nb := 0) G (mt_isProposal hA (μ := μ) k) lVX10_358_8 dX10_addAlert_71 md_obj rfl (by decide) (Nat.le_of_ble_eq_true rfl) rfl ?_
          refine ax_iload (pc := 74) G dX10_addAlert_74 rfl ?_
          refine ax_cV1 (pc := 76) (kb := 0) (nb := 0) G (mt_mayAskForN hA (μ := μ) hm h19 (pIn k (nI 0) ((μ.2 2) 10 - nI 1)) false) lVX10_361_8 dX10_addAlert_76 md_obj rfl (by decide) (Nat.le_of_ble_eq_true rfl) rfl ?_
          show ax_W Ω Γ _ _ (md_H h m (md_si μ 0 (nI 1))) _ _ _
          refine ax_if_ne (pc := 79) (tgt := 84) G dX10_addAlert_79 rfl (fun c9 => absurd rfl c9) (fun _ => ?_)
          refine ax_iconst (pc := 82) (v := nI 0) G dX10_addAlert_82 ic_0 ?_
          exact ax_iretE (pc := 83) G E rfl (rfl) dX10_addAlert_83 (rfl) (rfl)
        · have c34b := bI_t c34
          refine ax_iload (pc := 37) G dX10_addAlert_37 rfl ?_
          refine ax_iconst (pc := 39) (v := nI 0) G dX10_addAlert_39 ic_0 ?_
          refine ax_sipush (pc := 40) (v := nI 999) G dX10_addAlert_40 is_999 ?_
          refine ax_cS1 (pc := 43) (kb := 0) (nb := 0) G (mt_in hA re (nI 0) (nI 999)) lSX10_74 dX10_addAlert_43 rfl (by decide) (Nat.le_of_ble_eq_true rfl) rfl ?_
          refine ax_if_eq (pc := 46) (tgt := 65) G dX10_addAlert_46 rfl (fun c46 => ?_) (fun c46 => ?_)
          · have c46b := bI_f c46
            refine ax_iconst (pc := 65) (v := nI 0) G dX10_addAlert_65 ic_0 ?_
            refine ax_istore (pc := 66) G dX10_addAlert_66 (Nat.le_of_ble_eq_true rfl) rfl ?_
            refine ax_aload_n (pc := 68) G dX10_addAlert_68 rfl rfl ?_
            refine ax_aload_n (pc := 69) G dX10_addAlert_69 rfl rfl ?_
            refine ax_iload_n (pc := 70) G dX10_addAlert_70 rfl rfl ?_
            refine ax_cV1 (pc := 71) (kb := 0) (nb := 0) G (mt_isProposal hA (μ := μ) k) lVX10_358_8 dX10_addAlert_71 md_obj rfl (by decide) (Nat.le_of_ble_eq_true rfl) rfl ?_
            refine ax_iload (pc := 74) G dX10_addAlert_74 rfl ?_
            refine ax_cV1 (pc := 76) (kb := 0) (nb := 0) G (mt_mayAskForN hA (μ := μ) hm h19 (pIn k (nI 0) ((μ.2 2) 10 - nI 1)) false) lVX10_361_8 dX10_addAlert_76 md_obj rfl (by decide) (Nat.le_of_ble_eq_true rfl) rfl ?_
            show ax_W Ω Γ _ _ (md_H h m (md_si μ 0 (nI 1))) _ _ _
            refine ax_if_ne (pc := 79) (tgt := 84) G dX10_addAlert_79 rfl (fun c9 => absurd rfl c9) (fun _ => ?_)
            refine ax_iconst (pc := 82) (v := nI 0) G dX10_addAlert_82 ic_0 ?_
            exact ax_iretE (pc := 83) G E rfl (rfl) dX10_addAlert_83 (rfl) (rfl)
          · have c46b := bI_t c46
            refine ax_aload_n (pc := 49) G dX10_addAlert_49 rfl rfl ?_
            refine md_get (pc := 50) (v := .ref (m + 4)) G flX10_23_8 dX10_addAlert_50 rfl ?_
            refine ax_bipush (pc := 53) (v := nI 14) G dX10_addAlert_53 ib_14 ?_
            refine md_ld (pc := 55) (i := 14) (j := 4) G 627 dX10_addAlert_55 (by decide) (by decide) rfl rfl rfl (by omega) (by decide) ?_
            refine ax_bipush (pc := 56) (v := nI 10) G dX10_addAlert_56 ib_10 ?_
            refine ax_icmp_ge (pc := 58) (tgt := 65) G dX10_addAlert_58 rfl (fun c58 => ?_) (fun c58 => ?_)
            · refine ax_iconst (pc := 65) (v := nI 0) G dX10_addAlert_65 ic_0 ?_
              refine ax_istore (pc := 66) G dX10_addAlert_66 (Nat.le_of_ble_eq_true rfl) rfl ?_
              refine ax_aload_n (pc := 68) G dX10_addAlert_68 rfl rfl ?_
              refine ax_aload_n (pc := 69) G dX10_addAlert_69 rfl rfl ?_
              refine ax_iload_n (pc := 70) G dX10_addAlert_70 rfl rfl ?_
              refine ax_cV1 (pc := 71) (kb := 0) (nb := 0) G (mt_isProposal hA (μ := μ) k) lVX10_358_8 dX10_addAlert_71 md_obj rfl (by decide) (Nat.le_of_ble_eq_true rfl) rfl ?_
              refine ax_iload (pc := 74) G dX10_addAlert_74 rfl ?_
              refine ax_cV1 (pc := 76) (kb := 0) (nb := 0) G (mt_mayAskForN hA (μ := μ) hm h19 (pIn k (nI 0) ((μ.2 2) 10 - nI 1)) false) lVX10_361_8 dX10_addAlert_76 md_obj rfl (by decide) (Nat.le_of_ble_eq_true rfl) rfl ?_
              show ax_W Ω Γ _ _ (md_H h m (md_si μ 0 (nI 1))) _ _ _
              refine ax_if_ne (pc := 79) (tgt := 84) G dX10_addAlert_79 rfl (fun c9 => absurd rfl c9) (fun _ => ?_)
              refine ax_iconst (pc := 82) (v := nI 0) G dX10_addAlert_82 ic_0 ?_
              exact ax_iretE (pc := 83) G E rfl (rfl) dX10_addAlert_83 (rfl) (rfl)
            · refine ax_iconst (pc := 61) (v := nI 1) G dX10_addAlert_61 ic_1 ?_
              refine ax_goto (pc := 62) (tgt := 66) G dX10_addAlert_62 rfl ?_
              refine ax_istore (pc := 66) G dX10_addAlert_66 (Nat.le_of_ble_eq_true rfl) rfl ?_
              refine ax_aload_n (pc := 68) G dX10_addAlert_68 rfl rfl ?_
              refine ax_aload_n (pc := 69) G dX10_addAlert_69 rfl rfl ?_
              refine ax_iload_n (pc := 70) G dX10_addAlert_70 rfl rfl ?_
              refine ax_cV1 (pc := 71) (kb := 0) (nb := 0) G (mt_isProposal hA (μ := μ) k) lVX10_358_8 dX10_addAlert_71 md_obj rfl (by decide) (Nat.le_of_ble_eq_true rfl) rfl ?_
              refine ax_iload (pc := 74) G dX10_addAlert_74 rfl ?_
              refine ax_cV1 (pc := 76) (kb := 0) (nb := 0) G (mt_mayAskForN hA (μ := μ) hm h19 (pIn k (nI 0) ((μ.2 2) 10 - nI 1)) true) lVX10_361_8 dX10_addAlert_76 md_obj rfl (by decide) (Nat.le_of_ble_eq_true rfl) rfl ?_
              show ax_W Ω Γ _ _ (md_H h m (md_si μ 0 (nI 1))) _ _ _
              refine ax_if_ne (pc := 79) (tgt := 84) G dX10_addAlert_79 rfl (fun c9 => absurd rfl c9) (fun _ => ?_)
              refine ax_iconst (pc := 82) (v := nI 0) G dX10_addAlert_82 ic_0 ?_
              exact ax_iretE (pc := 83) G E rfl (rfl) dX10_addAlert_83 (rfl) (rfl)

theorem mq_addAlert_B {Ω : ax_O} (hA : ax_Amb Ω) {h : ax_H} {m : Nat} {μ : md_S} (hm : Ω.2.1.heap.size ≤ m) (h19 : μ.1 19 = nI 1) (k lon lat du pu re : Int32) (hb : pIn k (nI 0) ((μ.2 2) 10 - nI 1) = false) : ax_Met Ω yX10_addAlert 14 0 0 [.ref m, .int k, .int lon, .int lat, .int du, .int pu, .int re] (md_H h m μ) (.inl (some (.int (nI 0)))) (md_H h m (md_si μ 0 (nI 2))) := by
  refine ax_met q3221 q142 (by decide +kernel) (by decide) hA (Nat.le_of_ble_eq_true rfl) (fun Γ G E => ?_)
  show ax_W Ω Γ 0 0 (md_H h m μ) 0 [some (.ref m), some (.int k), some (.int lon), some (.int lat), some (.int du), some (.int pu), some (.int re), none, none, none] []
  refine ax_iload_n (pc := 0) G dX10_addAlert_0 rfl rfl ?_
  refine ax_cS1 (pc := 1) (kb := 0) (nb := 0) G (mt_isLon hA (h := h) (m := m) (μ := μ) lon) lSX10_381 dX10_addAlert_1 rfl (by decide) (Nat.le_of_ble_eq_true rfl) rfl ?_
  refine ax_if_eq (pc := 4) (tgt := 65) G dX10_addAlert_4 rfl (fun c4 => ?_) (fun c4 => ?_)
  · have c4b := bI_f c4
    refine ax_iconst (pc := 65) (v := nI 0) G dX10_addAlert_65 ic_0 ?_
    refine ax_istore (pc := 66) G dX10_addAlert_66 (Nat.le_of_ble_eq_true rfl) rfl ?_
    refine ax_aload_n (pc := 68) G dX10_addAlert_68 rfl rfl ?_
    refine ax_aload_n (pc := 69) G dX10_addAlert_69 rfl rfl ?_
    refine ax_iload_n (pc := 70) G dX10_addAlert_70 rfl rfl ?_
    refine ax_cV1 (pc := 71) (kb := 0) (nb := 0) G (mt_isProposal hA (μ := μ) k) lVX10_358_8 dX10_addAlert_71 md_obj rfl (by decide) (Nat.le_of_ble_eq_true rfl) rfl ?_
    refine ax_top (show Value.int (bI (pIn k (nI 0) ((μ.2 2) 10 - nI 1))) = .int (nI 0) from congrArg Value.int (by rw [hb]; rfl)) ?_
    refine ax_iload (pc := 74) G dX10_addAlert_74 rfl ?_
    refine ax_cV1 (pc := 76) (kb := 0) (nb := 0) G (mt_mayAskForB hA (μ := μ) hm h19 false) lVX10_361_8 dX10_addAlert_76 md_obj rfl (by decide) (Nat.le_of_ble_eq_true rfl) rfl ?_
    show ax_W Ω Γ _ _ (md_H h m (md_si μ 0 (nI 2))) _ _ _
    refine ax_if_ne (pc := 79) (tgt := 84) G dX10_addAlert_79 rfl (fun c9 => absurd rfl c9) (fun _ => ?_)
    refine ax_iconst (pc := 82) (v := nI 0) G dX10_addAlert_82 ic_0 ?_
    exact ax_iretE (pc := 83) G E rfl (rfl) dX10_addAlert_83 (rfl) (rfl)
  · have c4b := bI_t c4
    refine ax_iload_n (pc := 7) G dX10_addAlert_7 rfl rfl ?_
    refine ax_cS1 (pc := 8) (kb := 0) (nb := 0) G (mt_isLat hA (h := h) (m := m) (μ := μ) lat) lSX10_384 dX10_addAlert_8 rfl (by decide) (Nat.le_of_ble_eq_true rfl) rfl ?_
    refine ax_if_eq (pc := 11) (tgt := 65) G dX10_addAlert_11 rfl (fun c11 => ?_) (fun c11 => ?_)
    · have c11b := bI_f c11
      refine ax_iconst (pc := 65) (v := nI 0) G dX10_addAlert_65 ic_0 ?_
      refine ax_istore (pc := 66) G dX10_addAlert_66 (Nat.le_of_ble_eq_true rfl) rfl ?_
      refine ax_aload_n (pc := 68) G dX10_addAlert_68 rfl rfl ?_
      refine ax_aload_n (pc := 69) G dX10_addAlert_69 rfl rfl ?_
      refine ax_iload_n (pc := 70) G dX10_addAlert_70 rfl rfl ?_
      refine ax_cV1 (pc := 71) (kb := 0) (nb := 0) G (mt_isProposal hA (μ := μ) k) lVX10_358_8 dX10_addAlert_71 md_obj rfl (by decide) (Nat.le_of_ble_eq_true rfl) rfl ?_
      refine ax_top (show Value.int (bI (pIn k (nI 0) ((μ.2 2) 10 - nI 1))) = .int (nI 0) from congrArg Value.int (by rw [hb]; rfl)) ?_
      refine ax_iload (pc := 74) G dX10_addAlert_74 rfl ?_
      refine ax_cV1 (pc := 76) (kb := 0) (nb := 0) G (mt_mayAskForB hA (μ := μ) hm h19 false) lVX10_361_8 dX10_addAlert_76 md_obj rfl (by decide) (Nat.le_of_ble_eq_true rfl) rfl ?_
      show ax_W Ω Γ _ _ (md_H h m (md_si μ 0 (nI 2))) _ _ _
      refine ax_if_ne (pc := 79) (tgt := 84) G dX10_addAlert_79 rfl (fun c9 => absurd rfl c9) (fun _ => ?_)
      refine ax_iconst (pc := 82) (v := nI 0) G dX10_addAlert_82 ic_0 ?_
      exact ax_iretE (pc := 83) G E rfl (rfl) dX10_addAlert_83 (rfl) (rfl)
    · have c11b := bI_t c11
      refine ax_iload (pc := 14) G dX10_addAlert_14 rfl ?_
      refine ax_iconst (pc := 16) (v := nI 1) G dX10_addAlert_16 ic_1 ?_
      refine ax_sipush (pc := 17) (v := nI 300) G dX10_addAlert_17 is_300 ?_
      refine ax_cS1 (pc := 20) (kb := 0) (nb := 0) G (mt_in hA du (nI 1) (nI 300)) lSX10_74 dX10_addAlert_20 rfl (by decide) (Nat.le_of_ble_eq_true rfl) rfl ?_
      refine ax_if_eq (pc := 23) (tgt := 65) G dX10_addAlert_23 rfl (fun c23 => ?_) (fun c23 => ?_)
      · have c23b := bI_f c23
        refine ax_iconst (pc := 65) (v := nI 0) G dX10_addAlert_65 ic_0 ?_
        refine ax_istore (pc := 66) G dX10_addAlert_66 (Nat.le_of_ble_eq_true rfl) rfl ?_
        refine ax_aload_n (pc := 68) G dX10_addAlert_68 rfl rfl ?_
        refine ax_aload_n (pc := 69) G dX10_addAlert_69 rfl rfl ?_
        refine ax_iload_n (pc := 70) G dX10_addAlert_70 rfl rfl ?_
        refine ax_cV1 (pc := 71) (kb := 0) (nb := 0) G (mt_isProposal hA (μ := μ) k) lVX10_358_8 dX10_addAlert_71 md_obj rfl (by decide) (Nat.le_of_ble_eq_true rfl) rfl ?_
        refine ax_top (show Value.int (bI (pIn k (nI 0) ((μ.2 2) 10 - nI 1))) = .int (nI 0) from congrArg Value.int (by rw [hb]; rfl)) ?_
        refine ax_iload (pc := 74) G dX10_addAlert_74 rfl ?_
        refine ax_cV1 (pc := 76) (kb := 0) (nb := 0) G (mt_mayAskForB hA (μ := μ) hm h19 false) lVX10_361_8 dX10_addAlert_76 md_obj rfl (by decide) (Nat.le_of_ble_eq_true rfl) rfl ?_
        show ax_W Ω Γ _ _ (md_H h m (md_si μ 0 (nI 2))) _ _ _
        refine ax_if_ne (pc := 79) (tgt := 84) G dX10_addAlert_79 rfl (fun c9 => absurd rfl c9) (fun _ => ?_)
        refine ax_iconst (pc := 82) (v := nI 0) G dX10_addAlert_82 ic_0 ?_
        exact ax_iretE (pc := 83) G E rfl (rfl) dX10_addAlert_83 (rfl) (rfl)
      · have c23b := bI_t c23
        refine ax_iload (pc := 26) G dX10_addAlert_26 rfl ?_
        refine ax_iconst (pc := 28) (v := nI 0) G dX10_addAlert_28 ic_0 ?_
        refine ax_bipush (pc := 29) (v := nI 99) G dX10_addAlert_29 ib_99 ?_
        refine ax_cS1 (pc := 31) (kb := 0) (nb := 0) G (mt_in hA pu (nI 0) (nI 99)) lSX10_74 dX10_addAlert_31 rfl (by decide) (Nat.le_of_ble_eq_true rfl) rfl ?_
        refine ax_if_eq (pc := 34) (tgt := 65) G dX10_addAlert_34 rfl (fun c34 => ?_) (fun c34 => ?_)
        · have c34b := bI_f c34
          refine ax_iconst (pc := 65) (v := nI 0) G dX10_addAlert_65 ic_0 ?_
          refine ax_istore (pc := 66) G dX10_addAlert_66 (Nat.le_of_ble_eq_true rfl) rfl ?_
          refine ax_aload_n (pc := 68) G dX10_addAlert_68 rfl rfl ?_
          refine ax_aload_n (pc := 69) G dX10_addAlert_69 rfl rfl ?_
          refine ax_iload_n (pc := 70) G dX10_addAlert_70 rfl rfl ?_
          refine ax_cV1 (pc := 71) (kb := 0) (nb := 0) G (mt_isProposal hA (μ := μ) k) lVX10_358_8 dX10_addAlert_71 md_obj rfl (by decide) (Nat.le_of_ble_eq_true rfl) rfl ?_
          refine ax_top (show Value.int (bI (pIn k (nI 0) ((μ.2 2) 10 - nI 1))) = .int (nI 0) from congrArg Value.int (by rw [hb]; rfl)) ?_
          refine ax_iload (pc := 74) G dX10_addAlert_74 rfl ?_
          refine ax_cV1 (pc := 76) (kb := 0) (nb := 0) G (mt_mayAskForB hA (μ := μ) hm h19 false) lVX10_361_8 dX10_addAlert_76 md_obj rfl (by decide) (Nat.le_of_ble_eq_true rfl) rfl ?_
          show ax_W Ω Γ _ _ (md_H h m (md_si μ 0 (nI 2))) _ _ _
          refine ax_if_ne (pc := 79) (tgt := 84) G dX10_addAlert_79 rfl (fun c9 => absurd rfl c9) (fun _ => ?_)
          refine ax_iconst (pc := 82) (v := nI 0) G dX10_addAlert_82 ic_0 ?_
          exact ax_iretE (pc := 83) G E rfl (rfl) dX10_addAlert_83 (rfl) (rfl)
        · have c34b := bI_t c34
          refine ax_iload (pc := 37) G dX10_addAlert_37 rfl ?_
          refine ax_iconst (pc := 39) (v := nI 0) G dX10_addAlert_39 ic_0 ?_
          refine ax_sipush (pc := 40) (v := nI 999) G dX10_addAlert_40 is_999 ?_
          refine ax_cS1 (pc := 43) (kb := 0) (nb := 0) G (mt_in hA re (nI 0) (nI 999)) lSX10_74 dX10_addAlert_43 rfl (by decide) (Nat.le_of_ble_eq_true rfl) rfl ?_
          refine ax_if_eq (pc := 46) (tgt := 65) G dX10_addAlert_46 rfl (fun c46 => ?_) (fun c46 => ?_)
          · have c46b := bI_f c46
            refine ax_iconst (pc := 65) (v := nI 0) G dX10_addAlert_65 ic_0 ?_
            refine ax_istore (pc := 66) G dX10_addAlert_66 (Nat.le_of_ble_eq_true rfl) rfl ?_
            refine ax_aload_n (pc := 68) G dX10_addAlert_68 rfl rfl ?_
            refine ax_aload_n (pc := 69) G dX10_addAlert_69 rfl rfl ?_
            refine ax_iload_n (pc := 70) G dX10_addAlert_70 rfl rfl ?_
            refine ax_cV1 (pc := 71) (kb := 0) (nb := 0) G (mt_isProposal hA (μ := μ) k) lVX10_358_8 dX10_addAlert_71 md_obj rfl (by decide) (Nat.le_of_ble_eq_true rfl) rfl ?_
            refine ax_top (show Value.int (bI (pIn k (nI 0) ((μ.2 2) 10 - nI 1))) = .int (nI 0) from congrArg Value.int (by rw [hb]; rfl)) ?_
            refine ax_iload (pc := 74) G dX10_addAlert_74 rfl ?_
            refine ax_cV1 (pc := 76) (kb := 0) (nb := 0) G (mt_mayAskForB hA (μ := μ) hm h19 false) lVX10_361_8 dX10_addAlert_76 md_obj rfl (by decide) (Nat.le_of_ble_eq_true rfl) rfl ?_
            show ax_W Ω Γ _ _ (md_H h m (md_si μ 0 (nI 2))) _ _ _
            refine ax_if_ne (pc := 79) (tgt := 84) G dX10_addAlert_79 rfl (fun c9 => absurd rfl c9) (fun _ => ?_)
            refine ax_iconst (pc := 82) (v := nI 0) G dX10_addAlert_82 ic_0 ?_
            exact ax_iretE (pc := 83) G E rfl (rfl) dX10_addAlert_83 (rfl) (rfl)
          · have c46b := bI_t c46
            refine ax_aload_n (pc := 49) G dX10_addAlert_49 rfl rfl ?_
            refine md_get (pc := 50) (v := .ref (m + 4)) G flX10_23_8 dX10_addAlert_50 rfl ?_
            refine ax_bipush (pc := 53) (v := nI 14) G dX10_addAlert_53 ib_14 ?_
            refine md_ld (pc := 55) (i := 14) (j := 4) G 627 dX10_addAlert_55 (by decide) (by decide) rfl rfl rfl (by omega) (by decide) ?_
            refine ax_bipush (pc := 56) (v := nI 10) G dX10_addAlert_56 ib_10 ?_
            refine ax_icmp_ge (pc := 58) (tgt := 65) G dX10_addAlert_58 rfl (fun c58 => ?_) (fun c58 => ?_)
            · refine ax_iconst (pc := 65) (v := nI 0) G dX10_addAlert_65 ic_0 ?_
              refine ax_istore (pc := 66) G dX10_addAlert_66 (Nat.le_of_ble_eq_true rfl) rfl ?_
              refine ax_aload_n (pc := 68) G dX10_addAlert_68 rfl rfl ?_
              refine ax_aload_n (pc := 69) G dX10_addAlert_69 rfl rfl ?_
              refine ax_iload_n (pc := 70) G dX10_addAlert_70 rfl rfl ?_
              refine ax_cV1 (pc := 71) (kb := 0) (nb := 0) G (mt_isProposal hA (μ := μ) k) lVX10_358_8 dX10_addAlert_71 md_obj rfl (by decide) (Nat.le_of_ble_eq_true rfl) rfl ?_
              refine ax_top (show Value.int (bI (pIn k (nI 0) ((μ.2 2) 10 - nI 1))) = .int (nI 0) from congrArg Value.int (by rw [hb]; rfl)) ?_
              refine ax_iload (pc := 74) G dX10_addAlert_74 rfl ?_
              refine ax_cV1 (pc := 76) (kb := 0) (nb := 0) G (mt_mayAskForB hA (μ := μ) hm h19 false) lVX10_361_8 dX10_addAlert_76 md_obj rfl (by decide) (Nat.le_of_ble_eq_true rfl) rfl ?_
              show ax_W Ω Γ _ _ (md_H h m (md_si μ 0 (nI 2))) _ _ _
              refine ax_if_ne (pc := 79) (tgt := 84) G dX10_addAlert_79 rfl (fun c9 => absurd rfl c9) (fun _ => ?_)
              refine ax_iconst (pc := 82) (v := nI 0) G dX10_addAlert_82 ic_0 ?_
              exact ax_iretE (pc := 83) G E rfl (rfl) dX10_addAlert_83 (rfl) (rfl)
            · refine ax_iconst (pc := 61) (v := nI 1) G dX10_addAlert_61 ic_1 ?_
              refine ax_goto (pc := 62) (tgt := 66) G dX10_addAlert_62 rfl ?_
              refine ax_istore (pc := 66) G dX10_addAlert_66 (Nat.le_of_ble_eq_true rfl) rfl ?_
              refine ax_aload_n (pc := 68) G dX10_addAlert_68 rfl rfl ?_
              refine ax_aload_n (pc := 69) G dX10_addAlert_69 rfl rfl ?_
              refine ax_iload_n (pc := 70) G dX10_addAlert_70 rfl rfl ?_
              refine ax_cV1 (pc := 71) (kb := 0) (nb := 0) G (mt_isProposal hA (μ := μ) k) lVX10_358_8 dX10_addAlert_71 md_obj rfl (by decide) (Nat.le_of_ble_eq_true rfl) rfl ?_
              refine ax_top (show Value.int (bI (pIn k (nI 0) ((μ.2 2) 10 - nI 1))) = .int (nI 0) from congrArg Value.int (by rw [hb]; rfl)) ?_
              refine ax_iload (pc := 74) G dX10_addAlert_74 rfl ?_
              refine ax_cV1 (pc := 76) (kb := 0) (nb := 0) G (mt_mayAskForB hA (μ := μ) hm h19 true) lVX10_361_8 dX10_addAlert_76 md_obj rfl (by decide) (Nat.le_of_ble_eq_true rfl) rfl ?_
              show ax_W Ω Γ _ _ (md_H h m (md_si μ 0 (nI 2))) _ _ _
              refine ax_if_ne (pc := 79) (tgt := 84) G dX10_addAlert_79 rfl (fun c9 => absurd rfl c9) (fun _ => ?_)
              refine ax_iconst (pc := 82) (v := nI 0) G dX10_addAlert_82 ic_0 ?_
              exact ax_iretE (pc := 83) G E rfl (rfl) dX10_addAlert_83 (rfl) (rfl)

theorem mq_addAlert_C {Ω : ax_O} (hA : ax_Amb Ω) {h : ax_H} {m : Nat} {μ : md_S} (hm : Ω.2.1.heap.size ≤ m) (h19 : μ.1 19 = nI 1) {P V O A : Nat} (hp : pWP (μ.2 2) P V O) (hs : pWS (μ.2 4) A) (k : Nat) (hk : k < P) (lon lat du pu re : Int32) (hb : (pIn lon (nI 0) (nI 359) && pIn lat (-90) (nI 90) && pIn du (nI 1) (nI 300) && pIn pu (nI 0) (nI 99) && pIn re (nI 0) (nI 999) && !decide (nI 10 ≤ (μ.2 4) 14)) = false) : ax_Met Ω yX10_addAlert 14 0 0 [.ref m, .int (nI k), .int lon, .int lat, .int du, .int pu, .int re] (md_H h m μ) (.inl (some (.int (nI 0)))) (md_H h m (md_si μ 0 (nI 3))) := by
  refine ax_met q3221 q142 (by decide +kernel) (by decide) hA (Nat.le_of_ble_eq_true rfl) (fun Γ G E => ?_)
  show ax_W Ω Γ 0 0 (md_H h m μ) 0 [some (.ref m), some (.int (nI k)), some (.int lon), some (.int lat), some (.int du), some (.int pu), some (.int re), none, none, none] []
  refine ax_iload_n (pc := 0) G dX10_addAlert_0 rfl rfl ?_
  refine ax_cS1 (pc := 1) (kb := 0) (nb := 0) G (mt_isLon hA (h := h) (m := m) (μ := μ) lon) lSX10_381 dX10_addAlert_1 rfl (by decide) (Nat.le_of_ble_eq_true rfl) rfl ?_
  refine ax_if_eq (pc := 4) (tgt := 65) G dX10_addAlert_4 rfl (fun c4 => ?_) (fun c4 => ?_)
  · have c4b := bI_f c4
    refine ax_iconst (pc := 65) (v := nI 0) G dX10_addAlert_65 ic_0 ?_
    refine ax_istore (pc := 66) G dX10_addAlert_66 (Nat.le_of_ble_eq_true rfl) rfl ?_
    refine ax_aload_n (pc := 68) G dX10_addAlert_68 rfl rfl ?_
    refine ax_aload_n (pc := 69) G dX10_addAlert_69 rfl rfl ?_
    refine ax_iload_n (pc := 70) G dX10_addAlert_70 rfl rfl ?_
    refine ax_cV1 (pc := 71) (kb := 0) (nb := 0) G (mt_isProposal hA (μ := μ) (nI k)) lVX10_358_8 dX10_addAlert_71 md_obj rfl (by decide) (Nat.le_of_ble_eq_true rfl) rfl ?_
    refine ax_top (show Value.int (bI (pIn (nI k) (nI 0) ((μ.2 2) 10 - nI 1))) = .int (nI 1) from congrArg Value.int (by rw [pIn_k hp.hP hk (by have := hp.lP; omega)]; rfl)) ?_
    refine ax_iload (pc := 74) G dX10_addAlert_74 rfl ?_
    refine ax_cV1 (pc := 76) (kb := 0) (nb := 0) G (mt_mayAskForC hA (μ := μ) hm h19) lVX10_361_8 dX10_addAlert_76 md_obj rfl (by decide) (Nat.le_of_ble_eq_true rfl) rfl ?_
    show ax_W Ω Γ _ _ (md_H h m (md_si μ 0 (nI 3))) _ _ _
    refine ax_if_ne (pc := 79) (tgt := 84) G dX10_addAlert_79 rfl (fun c9 => absurd rfl c9) (fun _ => ?_)
    refine ax_iconst (pc := 82) (v := nI 0) G dX10_addAlert_82 ic_0 ?_
    exact ax_iretE (pc := 83) G E rfl (rfl) dX10_addAlert_83 (rfl) (rfl)
  · have c4b := bI_t c4
    refine ax_iload_n (pc := 7) G dX10_addAlert_7 rfl rfl ?_
    refine ax_cS1 (pc := 8) (kb := 0) (nb := 0) G (mt_isLat hA (h := h) (m := m) (μ := μ) lat) lSX10_384 dX10_addAlert_8 rfl (by decide) (Nat.le_of_ble_eq_true rfl) rfl ?_
    refine ax_if_eq (pc := 11) (tgt := 65) G dX10_addAlert_11 rfl (fun c11 => ?_) (fun c11 => ?_)
    · have c11b := bI_f c11
      refine ax_iconst (pc := 65) (v := nI 0) G dX10_addAlert_65 ic_0 ?_
      refine ax_istore (pc := 66) G dX10_addAlert_66 (Nat.le_of_ble_eq_true rfl) rfl ?_
      refine ax_aload_n (pc := 68) G dX10_addAlert_68 rfl rfl ?_
      refine ax_aload_n (pc := 69) G dX10_addAlert_69 rfl rfl ?_
      refine ax_iload_n (pc := 70) G dX10_addAlert_70 rfl rfl ?_
      refine ax_cV1 (pc := 71) (kb := 0) (nb := 0) G (mt_isProposal hA (μ := μ) (nI k)) lVX10_358_8 dX10_addAlert_71 md_obj rfl (by decide) (Nat.le_of_ble_eq_true rfl) rfl ?_
      refine ax_top (show Value.int (bI (pIn (nI k) (nI 0) ((μ.2 2) 10 - nI 1))) = .int (nI 1) from congrArg Value.int (by rw [pIn_k hp.hP hk (by have := hp.lP; omega)]; rfl)) ?_
      refine ax_iload (pc := 74) G dX10_addAlert_74 rfl ?_
      refine ax_cV1 (pc := 76) (kb := 0) (nb := 0) G (mt_mayAskForC hA (μ := μ) hm h19) lVX10_361_8 dX10_addAlert_76 md_obj rfl (by decide) (Nat.le_of_ble_eq_true rfl) rfl ?_
      show ax_W Ω Γ _ _ (md_H h m (md_si μ 0 (nI 3))) _ _ _
      refine ax_if_ne (pc := 79) (tgt := 84) G dX10_addAlert_79 rfl (fun c9 => absurd rfl c9) (fun _ => ?_)
      refine ax_iconst (pc := 82) (v := nI 0) G dX10_addAlert_82 ic_0 ?_
      exact ax_iretE (pc := 83) G E rfl (rfl) dX10_addAlert_83 (rfl) (rfl)
    · have c11b := bI_t c11
      refine ax_iload (pc := 14) G dX10_addAlert_14 rfl ?_
      refine ax_iconst (pc := 16) (v := nI 1) G dX10_addAlert_16 ic_1 ?_
      refine ax_sipush (pc := 17) (v := nI 300) G dX10_addAlert_17 is_300 ?_
      refine ax_cS1 (pc := 20) (kb := 0) (nb := 0) G (mt_in hA du (nI 1) (nI 300)) lSX10_74 dX10_addAlert_20 rfl (by decide) (Nat.le_of_ble_eq_true rfl) rfl ?_
      refine ax_if_eq (pc := 23) (tgt := 65) G dX10_addAlert_23 rfl (fun c23 => ?_) (fun c23 => ?_)
      · have c23b := bI_f c23
        refine ax_iconst (pc := 65) (v := nI 0) G dX10_addAlert_65 ic_0 ?_
        refine ax_istore (pc := 66) G dX10_addAlert_66 (Nat.le_of_ble_eq_true rfl) rfl ?_
        refine ax_aload_n (pc := 68) G dX10_addAlert_68 rfl rfl ?_
        refine ax_aload_n (pc := 69) G dX10_addAlert_69 rfl rfl ?_
        refine ax_iload_n (pc := 70) G dX10_addAlert_70 rfl rfl ?_
        refine ax_cV1 (pc := 71) (kb := 0) (nb := 0) G (mt_isProposal hA (μ := μ) (nI k)) lVX10_358_8 dX10_addAlert_71 md_obj rfl (by decide) (Nat.le_of_ble_eq_true rfl) rfl ?_
        refine ax_top (show Value.int (bI (pIn (nI k) (nI 0) ((μ.2 2) 10 - nI 1))) = .int (nI 1) from congrArg Value.int (by rw [pIn_k hp.hP hk (by have := hp.lP; omega)]; rfl)) ?_
        refine ax_iload (pc := 74) G dX10_addAlert_74 rfl ?_
        refine ax_cV1 (pc := 76) (kb := 0) (nb := 0) G (mt_mayAskForC hA (μ := μ) hm h19) lVX10_361_8 dX10_addAlert_76 md_obj rfl (by decide) (Nat.le_of_ble_eq_true rfl) rfl ?_
        show ax_W Ω Γ _ _ (md_H h m (md_si μ 0 (nI 3))) _ _ _
        refine ax_if_ne (pc := 79) (tgt := 84) G dX10_addAlert_79 rfl (fun c9 => absurd rfl c9) (fun _ => ?_)
        refine ax_iconst (pc := 82) (v := nI 0) G dX10_addAlert_82 ic_0 ?_
        exact ax_iretE (pc := 83) G E rfl (rfl) dX10_addAlert_83 (rfl) (rfl)
      · have c23b := bI_t c23
        refine ax_iload (pc := 26) G dX10_addAlert_26 rfl ?_
        refine ax_iconst (pc := 28) (v := nI 0) G dX10_addAlert_28 ic_0 ?_
        refine ax_bipush (pc := 29) (v := nI 99) G dX10_addAlert_29 ib_99 ?_
        refine ax_cS1 (pc := 31) (kb := 0) (nb := 0) G (mt_in hA pu (nI 0) (nI 99)) lSX10_74 dX10_addAlert_31 rfl (by decide) (Nat.le_of_ble_eq_true rfl) rfl ?_
        refine ax_if_eq (pc := 34) (tgt := 65) G dX10_addAlert_34 rfl (fun c34 => ?_) (fun c34 => ?_)
        · have c34b := bI_f c34
          refine ax_iconst (pc := 65) (v := nI 0) G dX10_addAlert_65 ic_0 ?_
          refine ax_istore (pc := 66) G dX10_addAlert_66 (Nat.le_of_ble_eq_true rfl) rfl ?_
          refine ax_aload_n (pc := 68) G dX10_addAlert_68 rfl rfl ?_
          refine ax_aload_n (pc := 69) G dX10_addAlert_69 rfl rfl ?_
          refine ax_iload_n (pc := 70) G dX10_addAlert_70 rfl rfl ?_
          refine ax_cV1 (pc := 71) (kb := 0) (nb := 0) G (mt_isProposal hA (μ := μ) (nI k)) lVX10_358_8 dX10_addAlert_71 md_obj rfl (by decide) (Nat.le_of_ble_eq_true rfl) rfl ?_
          refine ax_top (show Value.int (bI (pIn (nI k) (nI 0) ((μ.2 2) 10 - nI 1))) = .int (nI 1) from congrArg Value.int (by rw [pIn_k hp.hP hk (by have := hp.lP; omega)]; rfl)) ?_
          refine ax_iload (pc := 74) G dX10_addAlert_74 rfl ?_
          refine ax_cV1 (pc := 76) (kb := 0) (nb := 0) G (mt_mayAskForC hA (μ := μ) hm h19) lVX10_361_8 dX10_addAlert_76 md_obj rfl (by decide) (Nat.le_of_ble_eq_true rfl) rfl ?_
          show ax_W Ω Γ _ _ (md_H h m (md_si μ 0 (nI 3))) _ _ _
          refine ax_if_ne (pc := 79) (tgt := 84) G dX10_addAlert_79 rfl (fun c9 => absurd rfl c9) (fun _ => ?_)
          refine ax_iconst (pc := 82) (v := nI 0) G dX10_addAlert_82 ic_0 ?_
          exact ax_iretE (pc := 83) G E rfl (rfl) dX10_addAlert_83 (rfl) (rfl)
        · have c34b := bI_t c34
          refine ax_iload (pc := 37) G dX10_addAlert_37 rfl ?_
          refine ax_iconst (pc := 39) (v := nI 0) G dX10_addAlert_39 ic_0 ?_
          refine ax_sipush (pc := 40) (v := nI 999) G dX10_addAlert_40 is_999 ?_
          refine ax_cS1 (pc := 43) (kb := 0) (nb := 0) G (mt_in hA re (nI 0) (nI 999)) lSX10_74 dX10_addAlert_43 rfl (by decide) (Nat.le_of_ble_eq_true rfl) rfl ?_
          refine ax_if_eq (pc := 46) (tgt := 65) G dX10_addAlert_46 rfl (fun c46 => ?_) (fun c46 => ?_)
          · have c46b := bI_f c46
            refine ax_iconst (pc := 65) (v := nI 0) G dX10_addAlert_65 ic_0 ?_
            refine ax_istore (pc := 66) G dX10_addAlert_66 (Nat.le_of_ble_eq_true rfl) rfl ?_
            refine ax_aload_n (pc := 68) G dX10_addAlert_68 rfl rfl ?_
            refine ax_aload_n (pc := 69) G dX10_addAlert_69 rfl rfl ?_
            refine ax_iload_n (pc := 70) G dX10_addAlert_70 rfl rfl ?_
            refine ax_cV1 (pc := 71) (kb := 0) (nb := 0) G (mt_isProposal hA (μ := μ) (nI k)) lVX10_358_8 dX10_addAlert_71 md_obj rfl (by decide) (Nat.le_of_ble_eq_true rfl) rfl ?_
            refine ax_top (show Value.int (bI (pIn (nI k) (nI 0) ((μ.2 2) 10 - nI 1))) = .int (nI 1) from congrArg Value.int (by rw [pIn_k hp.hP hk (by have := hp.lP; omega)]; rfl)) ?_
            refine ax_iload (pc := 74) G dX10_addAlert_74 rfl ?_
            refine ax_cV1 (pc := 76) (kb := 0) (nb := 0) G (mt_mayAskForC hA (μ := μ) hm h19) lVX10_361_8 dX10_addAlert_76 md_obj rfl (by decide) (Nat.le_of_ble_eq_true rfl) rfl ?_
            show ax_W Ω Γ _ _ (md_H h m (md_si μ 0 (nI 3))) _ _ _
            refine ax_if_ne (pc := 79) (tgt := 84) G dX10_addAlert_79 rfl (fun c9 => absurd rfl c9) (fun _ => ?_)
            refine ax_iconst (pc := 82) (v := nI 0) G dX10_addAlert_82 ic_0 ?_
            exact ax_iretE (pc := 83) G E rfl (rfl) dX10_addAlert_83 (rfl) (rfl)
          · have c46b := bI_t c46
            refine ax_aload_n (pc := 49) G dX10_addAlert_49 rfl rfl ?_
            refine md_get (pc := 50) (v := .ref (m + 4)) G flX10_23_8 dX10_addAlert_50 rfl ?_
            refine ax_bipush (pc := 53) (v := nI 14) G dX10_addAlert_53 ib_14 ?_
            refine md_ld (pc := 55) (i := 14) (j := 4) G 627 dX10_addAlert_55 (by decide) (by decide) rfl rfl rfl (by omega) (by decide) ?_
            refine ax_bipush (pc := 56) (v := nI 10) G dX10_addAlert_56 ib_10 ?_
            refine ax_icmp_ge (pc := 58) (tgt := 65) G dX10_addAlert_58 rfl (fun c58 => ?_) (fun c58 => ?_)
            · refine ax_iconst (pc := 65) (v := nI 0) G dX10_addAlert_65 ic_0 ?_
              refine ax_istore (pc := 66) G dX10_addAlert_66 (Nat.le_of_ble_eq_true rfl) rfl ?_
              refine ax_aload_n (pc := 68) G dX10_addAlert_68 rfl rfl ?_
              refine ax_aload_n (pc := 69) G dX10_addAlert_69 rfl rfl ?_
              refine ax_iload_n (pc := 70) G dX10_addAlert_70 rfl rfl ?_
              refine ax_cV1 (pc := 71) (kb := 0) (nb := 0) G (mt_isProposal hA (μ := μ) (nI k)) lVX10_358_8 dX10_addAlert_71 md_obj rfl (by decide) (Nat.le_of_ble_eq_true rfl) rfl ?_
              refine ax_top (show Value.int (bI (pIn (nI k) (nI 0) ((μ.2 2) 10 - nI 1))) = .int (nI 1) from congrArg Value.int (by rw [pIn_k hp.hP hk (by have := hp.lP; omega)]; rfl)) ?_
              refine ax_iload (pc := 74) G dX10_addAlert_74 rfl ?_
              refine ax_cV1 (pc := 76) (kb := 0) (nb := 0) G (mt_mayAskForC hA (μ := μ) hm h19) lVX10_361_8 dX10_addAlert_76 md_obj rfl (by decide) (Nat.le_of_ble_eq_true rfl) rfl ?_
              show ax_W Ω Γ _ _ (md_H h m (md_si μ 0 (nI 3))) _ _ _
              refine ax_if_ne (pc := 79) (tgt := 84) G dX10_addAlert_79 rfl (fun c9 => absurd rfl c9) (fun _ => ?_)
              refine ax_iconst (pc := 82) (v := nI 0) G dX10_addAlert_82 ic_0 ?_
              exact ax_iretE (pc := 83) G E rfl (rfl) dX10_addAlert_83 (rfl) (rfl)
            · exact absurd hb (by rw [c4b, c11b, c23b, c34b, c46b, decide_eq_false c58]; decide)

theorem mq_undo_Y {Ω : ax_O} (hA : ax_Amb Ω) {h : ax_H} {m : Nat} {μ : md_S} (hm : Ω.2.1.heap.size ≤ m) (u : Nat) (hu : u < 8) (h18 : μ.1 18 = nI (u + 1)) (r : pR) (hr : ∀ k, k < 627 → (μ.2 7) (627 * u + k) = r k)  : ax_Met Ω yX10_undo 14 0 0 [.ref m] (md_H h m μ) (.inl (some (.int (nI u)))) (md_H h m (md_si (md_si (md_sa μ 4 r) 0 (nI 0)) 18 (nI u))) := by
  refine ax_met q3225 q142 (by decide +kernel) (by decide) hA (Nat.le_of_ble_eq_true rfl) (fun Γ G E => ?_)
  show ax_W Ω Γ 0 0 (md_H h m μ) 0 [some (.ref m)] []
  refine ax_aload_n (pc := 0) G dX10_undo_0 rfl rfl ?_
  refine ax_aload_n (pc := 1) G dX10_undo_1 rfl rfl ?_
  refine md_get (pc := 2) (v := .int (μ.1 18)) G flX10_197_8 dX10_undo_2 rfl ?_
  refine ax_top (show Value.int (μ.1 18) = .int (nI (u + 1)) from congrArg Value.int (h18)) ?_
  refine ax_if_ne (pc := 5) (tgt := 12) G dX10_undo_5 rfl (fun _ => ?_) (fun c9 => absurd c9 (nI_ne0 (by omega) (by omega)))
  refine ax_iconst (pc := 12) (v := nI 0) G dX10_undo_12 ic_0 ?_
  refine md_put (pc := 13) G flX10_45_8 dX10_undo_13 hm (by decide) (rfl) rfl rfl ?_
  refine ax_aload_n (pc := 16) G dX10_undo_16 rfl rfl ?_
  refine md_get (pc := 17) (v := .int (nI 0)) G flX10_45_8 dX10_undo_17 rfl ?_
  refine ax_if_le (pc := 20) (tgt := 25) G dX10_undo_20 rfl (fun _ => ?_) (fun c9 => absurd (by decide) c9)
  refine ax_aload_n (pc := 25) G dX10_undo_25 rfl rfl ?_
  refine ax_dup (pc := 26) G dX10_undo_26 rfl ?_
  refine md_get (pc := 27) (v := .int (μ.1 18)) G flX10_197_8 dX10_undo_27 rfl ?_
  refine ax_top (show Value.int (μ.1 18) = .int (nI (u + 1)) from congrArg Value.int (h18)) ?_
  refine ax_iconst (pc := 30) (v := nI 1) G dX10_undo_30 ic_1 ?_
  refine ax_isubN (pc := 31) G dX10_undo_31 (by omega) ?_
  rw [show u + 1 - 1 = u from by omega]
  refine md_put (pc := 32) G flX10_197_8 dX10_undo_32 hm (by decide) (rfl) rfl rfl ?_
  refine ax_aload_n (pc := 35) G dX10_undo_35 rfl rfl ?_
  refine md_get (pc := 36) (v := .ref (m + 7)) G flX10_32_8 dX10_undo_36 rfl ?_
  refine ax_sipush (pc := 39) (v := nI 627) G dX10_undo_39 is_627 ?_
  refine ax_aload_n (pc := 42) G dX10_undo_42 rfl rfl ?_
  refine md_get (pc := 43) (v := .int (nI u)) G flX10_197_8 dX10_undo_43 rfl ?_
  refine ax_imulN (pc := 46) G dX10_undo_46 ?_
  refine ax_aload_n (pc := 47) G dX10_undo_47 rfl rfl ?_
  refine md_get (pc := 48) (v := .ref (m + 4)) G flX10_23_8 dX10_undo_48 rfl ?_
  refine ax_iconst (pc := 51) (v := nI 0) G dX10_undo_51 ic_0 ?_
  refine ax_cS0 (pc := 52) (kb := 0) (nb := 0) G (mt_copy_7_4 hA (h := h) (m := m) (μ := (md_si (md_si μ 0 (nI 0)) 18 (nI u))) hm (627 * u) 0 (by omega) (by omega)) lSX10_189 dX10_undo_52 rfl (by decide) (Nat.le_of_ble_eq_true rfl) rfl ?_
  show ax_W Ω Γ _ _ (md_H h m (md_sa (md_si (md_si μ 0 (nI 0)) 18 (nI u)) 4 (pPut (μ.2 4) (fun z9 => (μ.2 7) ((627 * u) + z9)) 0 627))) _ _ _
  refine ax_W_le (md_le (μ := (md_si (md_si μ 0 (nI 0)) 18 (nI u))) (j := 4) (f := (pPut (μ.2 4) (fun z9 => (μ.2 7) ((627 * u) + z9)) 0 627)) (g := r) (by decide) (by decide) (fun i hi => by unfold pPut; rw [if_pos ⟨Nat.zero_le _, by simpa [md_len] using hi⟩]; simp only [Nat.sub_zero]; exact hr i (by simpa [md_len] using hi))) ?_
  refine ax_aload_n (pc := 55) G dX10_undo_55 rfl rfl ?_
  refine md_get (pc := 56) (v := .int (nI u)) G flX10_197_8 dX10_undo_56 rfl ?_
  exact ax_iretE (pc := 59) G E rfl (rfl) dX10_undo_59 (rfl) (rfl)

theorem mq_undo_N {Ω : ax_O} (hA : ax_Amb Ω) {h : ax_H} {m : Nat} {μ : md_S} (hm : Ω.2.1.heap.size ≤ m) (h18 : μ.1 18 = nI 0) : ax_Met Ω yX10_undo 14 0 0 [.ref m] (md_H h m μ) (.inl (some (.int (nI 0)))) (md_H h m (md_si μ 0 (nI 1))) := by
  refine ax_met q3225 q142 (by decide +kernel) (by decide) hA (Nat.le_of_ble_eq_true rfl) (fun Γ G E => ?_)
  show ax_W Ω Γ 0 0 (md_H h m μ) 0 [some (.ref m)] []
  refine ax_aload_n (pc := 0) G dX10_undo_0 rfl rfl ?_
  refine ax_aload_n (pc := 1) G dX10_undo_1 rfl rfl ?_
  refine md_get (pc := 2) (v := .int (μ.1 18)) G flX10_197_8 dX10_undo_2 rfl ?_
  refine ax_top (show Value.int (μ.1 18) = .int (nI 0) from congrArg Value.int (h18)) ?_
  refine ax_if_ne (pc := 5) (tgt := 12) G dX10_undo_5 rfl (fun c9 => absurd rfl c9) (fun _ => ?_)
  refine ax_iconst (pc := 8) (v := nI 1) G dX10_undo_8 ic_1 ?_
  refine ax_goto (pc := 9) (tgt := 13) G dX10_undo_9 rfl ?_
  refine md_put (pc := 13) G flX10_45_8 dX10_undo_13 hm (by decide) (rfl) rfl rfl ?_
  refine ax_aload_n (pc := 16) G dX10_undo_16 rfl rfl ?_
  refine md_get (pc := 17) (v := .int (nI 1)) G flX10_45_8 dX10_undo_17 rfl ?_
  refine ax_if_le (pc := 20) (tgt := 25) G dX10_undo_20 rfl (fun c9 => absurd c9 (by decide)) (fun _ => ?_)
  refine ax_iconst (pc := 23) (v := nI 0) G dX10_undo_23 ic_0 ?_
  exact ax_iretE (pc := 24) G E rfl (rfl) dX10_undo_24 (rfl) (rfl)

theorem mq_save_Y {Ω : ax_O} (hA : ax_Amb Ω) {h : ax_H} {m : Nat} {μ : md_S} (hm : Ω.2.1.heap.size ≤ m) (h19 : μ.1 19 = nI 1) {P V O A : Nat} (hp : pWP (μ.2 2) P V O) (hs : pWS (μ.2 4) A) (k : Nat) (hk : k ≤ 1) : ax_Met Ω yX10_save 14 0 0 [.ref m, .int (nI k)] (md_H h m μ) (.inl (some (.int ((μ.2 4) 0)))) (md_H h m (md_si (md_sa (md_sa μ 8 (pPut (μ.2 8) (fun i => (μ.2 4) (0 + i)) (627 * k) 627)) 9 (upd (μ.2 9) k (bI true))) 0 (nI 0))) := by
  refine ax_met q3233 q142 (by decide +kernel) (by decide) hA (Nat.le_of_ble_eq_true rfl) (fun Γ G E => ?_)
  show ax_W Ω Γ 0 0 (md_H h m μ) 0 [some (.ref m), some (.int (nI k))] []
  refine ax_aload_n (pc := 0) G dX10_save_0 rfl rfl ?_
  refine ax_iload_n (pc := 1) G dX10_save_1 rfl rfl ?_
  refine ax_iconst (pc := 2) (v := nI 0) G dX10_save_2 ic_0 ?_
  refine ax_iconst (pc := 3) (v := nI 1) G dX10_save_3 ic_1 ?_
  refine ax_cS1 (pc := 4) (kb := 0) (nb := 0) G (mt_in hA (nI k) (nI 0) (nI 1)) lSX10_74 dX10_save_4 rfl (by decide) (Nat.le_of_ble_eq_true rfl) rfl ?_
  refine ax_top (show Value.int (bI (pIn (nI k) (nI 0) (nI 1))) = .int (nI 1) from congrArg Value.int (by rw [pIn_c (Nat.zero_le _) hk (by decide)]; rfl)) ?_
  refine ax_cV1 (pc := 7) (kb := 0) (nb := 0) G (mt_mayAskY hA (μ := μ) hm h19) lVX10_368_8 dX10_save_7 md_obj rfl (by decide) (Nat.le_of_ble_eq_true rfl) rfl ?_
  show ax_W Ω Γ _ _ (md_H h m (md_si μ 0 (nI 0))) _ _ _
  refine ax_if_ne (pc := 10) (tgt := 15) G dX10_save_10 rfl (fun _ => ?_) (fun c9 => absurd c9 (by decide))
  refine ax_aload_n (pc := 15) G dX10_save_15 rfl rfl ?_
  refine md_get (pc := 16) (v := .ref (m + 4)) G flX10_23_8 dX10_save_16 rfl ?_
  refine ax_iconst (pc := 19) (v := nI 0) G dX10_save_19 ic_0 ?_
  refine ax_aload_n (pc := 20) G dX10_save_20 rfl rfl ?_
  refine md_get (pc := 21) (v := .ref (m + 8)) G flX10_35_8 dX10_save_21 rfl ?_
  refine ax_sipush (pc := 24) (v := nI 627) G dX10_save_24 is_627 ?_
  refine ax_iload_n (pc := 27) G dX10_save_27 rfl rfl ?_
  refine ax_imulN (pc := 28) G dX10_save_28 ?_
  refine ax_cS0 (pc := 29) (kb := 0) (nb := 0) G (mt_copy_4_8 hA (h := h) (m := m) (μ := (md_si μ 0 (nI 0))) hm 0 (627 * k) (by omega) (by omega)) lSX10_189 dX10_save_29 rfl (by decide) (Nat.le_of_ble_eq_true rfl) rfl ?_
  show ax_W Ω Γ _ _ (md_H h m (md_sa (md_si μ 0 (nI 0)) 8 (pPut (μ.2 8) (fun z9 => (μ.2 4) (0 + z9)) (627 * k) 627))) _ _ _
  refine ax_aload_n (pc := 32) G dX10_save_32 rfl rfl ?_
  refine md_get (pc := 33) (v := .ref (m + 9)) G flX10_38_8 dX10_save_33 rfl ?_
  refine ax_iload_n (pc := 36) G dX10_save_36 rfl rfl ?_
  refine ax_iconst (pc := 37) (v := nI 1) G dX10_save_37 ic_1 ?_
  refine md_zst (pc := 38) (i := k) (b := true) G dX10_save_38 hm rfl (by omega) ?_
  show ax_W Ω Γ _ _ (md_H h m (md_sa (md_sa (md_si μ 0 (nI 0)) 8 (pPut (μ.2 8) (fun z9 => (μ.2 4) (0 + z9)) (627 * k) 627)) 9 (upd (μ.2 9) k (bI true)))) _ _ _
  refine ax_aload_n (pc := 39) G dX10_save_39 rfl rfl ?_
  refine md_get (pc := 40) (v := .ref (m + 4)) G flX10_23_8 dX10_save_40 rfl ?_
  refine ax_iconst (pc := 43) (v := nI 0) G dX10_save_43 ic_0 ?_
  refine md_ld (pc := 44) (i := 0) (j := 4) G 627 dX10_save_44 (by decide) (by decide) rfl rfl rfl (by omega) (by decide) ?_
  exact ax_iretE (pc := 45) G E rfl (rfl) dX10_save_45 (rfl) (rfl)

theorem mq_save_N {Ω : ax_O} (hA : ax_Amb Ω) {h : ax_H} {m : Nat} {μ : md_S} (hm : Ω.2.1.heap.size ≤ m) (h19 : μ.1 19 = nI 0) (k : Int32)  : ax_Met Ω yX10_save 14 0 0 [.ref m, .int k] (md_H h m μ) (.inl (some (.int (nI 0)))) (md_H h m (md_si μ 0 (nI 1))) := by
  refine ax_met q3233 q142 (by decide +kernel) (by decide) hA (Nat.le_of_ble_eq_true rfl) (fun Γ G E => ?_)
  show ax_W Ω Γ 0 0 (md_H h m μ) 0 [some (.ref m), some (.int k)] []
  refine ax_aload_n (pc := 0) G dX10_save_0 rfl rfl ?_
  refine ax_iload_n (pc := 1) G dX10_save_1 rfl rfl ?_
  refine ax_iconst (pc := 2) (v := nI 0) G dX10_save_2 ic_0 ?_
  refine ax_iconst (pc := 3) (v := nI 1) G dX10_save_3 ic_1 ?_
  refine ax_cS1 (pc := 4) (kb := 0) (nb := 0) G (mt_in hA k (nI 0) (nI 1)) lSX10_74 dX10_save_4 rfl (by decide) (Nat.le_of_ble_eq_true rfl) rfl ?_
  refine ax_cV1 (pc := 7) (kb := 0) (nb := 0) G (mt_mayAskN hA (μ := μ) hm h19 (pIn k (nI 0) (nI 1))) lVX10_368_8 dX10_save_7 md_obj rfl (by decide) (Nat.le_of_ble_eq_true rfl) rfl ?_
  show ax_W Ω Γ _ _ (md_H h m (md_si μ 0 (nI 1))) _ _ _
  refine ax_if_ne (pc := 10) (tgt := 15) G dX10_save_10 rfl (fun c9 => absurd rfl c9) (fun _ => ?_)
  refine ax_iconst (pc := 13) (v := nI 0) G dX10_save_13 ic_0 ?_
  exact ax_iretE (pc := 14) G E rfl (rfl) dX10_save_14 (rfl) (rfl)

theorem mq_save_B {Ω : ax_O} (hA : ax_Amb Ω) {h : ax_H} {m : Nat} {μ : md_S} (hm : Ω.2.1.heap.size ≤ m) (h19 : μ.1 19 = nI 1) (k : Int32) (hb : pIn k (nI 0) (nI 1) = false) : ax_Met Ω yX10_save 14 0 0 [.ref m, .int k] (md_H h m μ) (.inl (some (.int (nI 0)))) (md_H h m (md_si μ 0 (nI 2))) := by
  refine ax_met q3233 q142 (by decide +kernel) (by decide) hA (Nat.le_of_ble_eq_true rfl) (fun Γ G E => ?_)
  show ax_W Ω Γ 0 0 (md_H h m μ) 0 [some (.ref m), some (.int k)] []
  refine ax_aload_n (pc := 0) G dX10_save_0 rfl rfl ?_
  refine ax_iload_n (pc := 1) G dX10_save_1 rfl rfl ?_
  refine ax_iconst (pc := 2) (v := nI 0) G dX10_save_2 ic_0 ?_
  refine ax_iconst (pc := 3) (v := nI 1) G dX10_save_3 ic_1 ?_
  refine ax_cS1 (pc := 4) (kb := 0) (nb := 0) G (mt_in hA k (nI 0) (nI 1)) lSX10_74 dX10_save_4 rfl (by decide) (Nat.le_of_ble_eq_true rfl) rfl ?_
  refine ax_top (show Value.int (bI (pIn k (nI 0) (nI 1))) = .int (nI 0) from congrArg Value.int (by rw [hb]; rfl)) ?_
  refine ax_cV1 (pc := 7) (kb := 0) (nb := 0) G (mt_mayAskB hA (μ := μ) hm h19) lVX10_368_8 dX10_save_7 md_obj rfl (by decide) (Nat.le_of_ble_eq_true rfl) rfl ?_
  show ax_W Ω Γ _ _ (md_H h m (md_si μ 0 (nI 2))) _ _ _
  refine ax_if_ne (pc := 10) (tgt := 15) G dX10_save_10 rfl (fun c9 => absurd rfl c9) (fun _ => ?_)
  refine ax_iconst (pc := 13) (v := nI 0) G dX10_save_13 ic_0 ?_
  exact ax_iretE (pc := 14) G E rfl (rfl) dX10_save_14 (rfl) (rfl)

theorem mq_restore_Y {Ω : ax_O} (hA : ax_Amb Ω) {h : ax_H} {m : Nat} {μ : md_S} (hm : Ω.2.1.heap.size ≤ m) (k : Nat) (hk : k ≤ 1) (hst : (μ.2 9) k = nI 1) (r : pR) (hr : ∀ i, i < 627 → (μ.2 8) (627 * k + i) = r i) : ax_Met Ω yX10_restore 14 0 0 [.ref m, .int (nI k)] (md_H h m μ) (.inl (some (.int (r 0)))) (md_H h m (md_si (md_si (md_sa μ 4 r) 0 (nI 0)) 18 (nI 0))) := by
  refine ax_met q3237 q142 (by decide +kernel) (by decide) hA (Nat.le_of_ble_eq_true rfl) (fun Γ G E => ?_)
  show ax_W Ω Γ 0 0 (md_H h m μ) 0 [some (.ref m), some (.int (nI k))] []
  refine ax_aload_n (pc := 0) G dX10_restore_0 rfl rfl ?_
  refine ax_iload_n (pc := 1) G dX10_restore_1 rfl rfl ?_
  refine ax_iconst (pc := 2) (v := nI 0) G dX10_restore_2 ic_0 ?_
  refine ax_iconst (pc := 3) (v := nI 1) G dX10_restore_3 ic_1 ?_
  refine ax_cS1 (pc := 4) (kb := 0) (nb := 0) G (mt_in hA (nI k) (nI 0) (nI 1)) lSX10_74 dX10_restore_4 rfl (by decide) (Nat.le_of_ble_eq_true rfl) rfl ?_
  refine ax_top (show Value.int (bI (pIn (nI k) (nI 0) (nI 1))) = .int (nI 1) from congrArg Value.int (by rw [pIn_c (Nat.zero_le _) hk (by decide)]; rfl)) ?_
  refine ax_if_ne (pc := 7) (tgt := 14) G dX10_restore_7 rfl (fun _ => ?_) (fun c9 => absurd c9 (by decide))
  refine ax_aload_n (pc := 14) G dX10_restore_14 rfl rfl ?_
  refine md_get (pc := 15) (v := .ref (m + 9)) G flX10_38_8 dX10_restore_15 rfl ?_
  refine ax_iload_n (pc := 18) G dX10_restore_18 rfl rfl ?_
  refine md_zld (pc := 19) (i := k) G dX10_restore_19 rfl (by omega) ?_
  refine ax_top (show Value.int ((μ.2 9) k) = .int (nI 1) from congrArg Value.int (hst)) ?_
  refine ax_if_eq (pc := 20) (tgt := 27) G dX10_restore_20 rfl (fun c9 => absurd c9 (by decide)) (fun _ => ?_)
  refine ax_iconst (pc := 23) (v := nI 0) G dX10_restore_23 ic_0 ?_
  refine ax_goto (pc := 24) (tgt := 28) G dX10_restore_24 rfl ?_
  refine md_put (pc := 28) G flX10_45_8 dX10_restore_28 hm (by decide) (rfl) rfl rfl ?_
  refine ax_aload_n (pc := 31) G dX10_restore_31 rfl rfl ?_
  refine md_get (pc := 32) (v := .int (nI 0)) G flX10_45_8 dX10_restore_32 rfl ?_
  refine ax_if_le (pc := 35) (tgt := 40) G dX10_restore_35 rfl (fun _ => ?_) (fun c9 => absurd (by decide) c9)
  refine ax_aload_n (pc := 40) G dX10_restore_40 rfl rfl ?_
  refine md_get (pc := 41) (v := .ref (m + 8)) G flX10_35_8 dX10_restore_41 rfl ?_
  refine ax_sipush (pc := 44) (v := nI 627) G dX10_restore_44 is_627 ?_
  refine ax_iload_n (pc := 47) G dX10_restore_47 rfl rfl ?_
  refine ax_imulN (pc := 48) G dX10_restore_48 ?_
  refine ax_aload_n (pc := 49) G dX10_restore_49 rfl rfl ?_
  refine md_get (pc := 50) (v := .ref (m + 4)) G flX10_23_8 dX10_restore_50 rfl ?_
  refine ax_iconst (pc := 53) (v := nI 0) G dX10_restore_53 ic_0 ?_
  refine ax_cS0 (pc := 54) (kb := 0) (nb := 0) G (mt_copy_8_4 hA (h := h) (m := m) (μ := (md_si μ 0 (nI 0))) hm (627 * k) 0 (by omega) (by omega)) lSX10_189 dX10_restore_54 rfl (by decide) (Nat.le_of_ble_eq_true rfl) rfl ?_
  show ax_W Ω Γ _ _ (md_H h m (md_sa (md_si μ 0 (nI 0)) 4 (pPut (μ.2 4) (fun z9 => (μ.2 8) ((627 * k) + z9)) 0 627))) _ _ _
  refine ax_W_le (md_le (μ := (md_si μ 0 (nI 0))) (j := 4) (f := (pPut (μ.2 4) (fun z9 => (μ.2 8) ((627 * k) + z9)) 0 627)) (g := r) (by decide) (by decide) (fun i hi => by unfold pPut; rw [if_pos ⟨Nat.zero_le _, by simpa [md_len] using hi⟩]; simp only [Nat.sub_zero]; exact hr i (by simpa [md_len] using hi))) ?_
  refine ax_aload_n (pc := 57) G dX10_restore_57 rfl rfl ?_
  refine ax_iconst (pc := 58) (v := nI 0) G dX10_restore_58 ic_0 ?_
  refine md_put (pc := 59) G flX10_197_8 dX10_restore_59 hm (by decide) (rfl) rfl rfl ?_
  refine ax_aload_n (pc := 62) G dX10_restore_62 rfl rfl ?_
  refine md_get (pc := 63) (v := .ref (m + 4)) G flX10_23_8 dX10_restore_63 rfl ?_
  refine ax_iconst (pc := 66) (v := nI 0) G dX10_restore_66 ic_0 ?_
  refine md_ld (pc := 67) (i := 0) (j := 4) G 627 dX10_restore_67 (by decide) (by decide) rfl rfl rfl (by omega) (by decide) ?_
  exact ax_iretE (pc := 68) G E rfl (rfl) dX10_restore_68 (rfl) (rfl)

theorem mq_restore_N {Ω : ax_O} (hA : ax_Amb Ω) {h : ax_H} {m : Nat} {μ : md_S} (hm : Ω.2.1.heap.size ≤ m) (k : Int32) (hb : pIn k (nI 0) (nI 1) = false) : ax_Met Ω yX10_restore 14 0 0 [.ref m, .int k] (md_H h m μ) (.inl (some (.int (nI 0)))) (md_H h m (md_si μ 0 (nI 1))) := by
  refine ax_met q3237 q142 (by decide +kernel) (by decide) hA (Nat.le_of_ble_eq_true rfl) (fun Γ G E => ?_)
  show ax_W Ω Γ 0 0 (md_H h m μ) 0 [some (.ref m), some (.int k)] []
  refine ax_aload_n (pc := 0) G dX10_restore_0 rfl rfl ?_
  refine ax_iload_n (pc := 1) G dX10_restore_1 rfl rfl ?_
  refine ax_iconst (pc := 2) (v := nI 0) G dX10_restore_2 ic_0 ?_
  refine ax_iconst (pc := 3) (v := nI 1) G dX10_restore_3 ic_1 ?_
  refine ax_cS1 (pc := 4) (kb := 0) (nb := 0) G (mt_in hA k (nI 0) (nI 1)) lSX10_74 dX10_restore_4 rfl (by decide) (Nat.le_of_ble_eq_true rfl) rfl ?_
  refine ax_top (show Value.int (bI (pIn k (nI 0) (nI 1))) = .int (nI 0) from congrArg Value.int (by rw [hb]; rfl)) ?_
  refine ax_if_ne (pc := 7) (tgt := 14) G dX10_restore_7 rfl (fun c9 => absurd rfl c9) (fun _ => ?_)
  refine ax_iconst (pc := 10) (v := nI 1) G dX10_restore_10 ic_1 ?_
  refine ax_goto (pc := 11) (tgt := 28) G dX10_restore_11 rfl ?_
  refine md_put (pc := 28) G flX10_45_8 dX10_restore_28 hm (by decide) (rfl) rfl rfl ?_
  refine ax_aload_n (pc := 31) G dX10_restore_31 rfl rfl ?_
  refine md_get (pc := 32) (v := .int (nI 1)) G flX10_45_8 dX10_restore_32 rfl ?_
  refine ax_if_le (pc := 35) (tgt := 40) G dX10_restore_35 rfl (fun c9 => absurd c9 (by decide)) (fun _ => ?_)
  refine ax_iconst (pc := 38) (v := nI 0) G dX10_restore_38 ic_0 ?_
  exact ax_iretE (pc := 39) G E rfl (rfl) dX10_restore_39 (rfl) (rfl)

theorem mq_restore_B {Ω : ax_O} (hA : ax_Amb Ω) {h : ax_H} {m : Nat} {μ : md_S} (hm : Ω.2.1.heap.size ≤ m) (k : Nat) (hk : k ≤ 1) (hst : (μ.2 9) k = nI 0) : ax_Met Ω yX10_restore 14 0 0 [.ref m, .int (nI k)] (md_H h m μ) (.inl (some (.int (nI 0)))) (md_H h m (md_si μ 0 (nI 2))) := by
  refine ax_met q3237 q142 (by decide +kernel) (by decide) hA (Nat.le_of_ble_eq_true rfl) (fun Γ G E => ?_)
  show ax_W Ω Γ 0 0 (md_H h m μ) 0 [some (.ref m), some (.int (nI k))] []
  refine ax_aload_n (pc := 0) G dX10_restore_0 rfl rfl ?_
  refine ax_iload_n (pc := 1) G dX10_restore_1 rfl rfl ?_
  refine ax_iconst (pc := 2) (v := nI 0) G dX10_restore_2 ic_0 ?_
  refine ax_iconst (pc := 3) (v := nI 1) G dX10_restore_3 ic_1 ?_
  refine ax_cS1 (pc := 4) (kb := 0) (nb := 0) G (mt_in hA (nI k) (nI 0) (nI 1)) lSX10_74 dX10_restore_4 rfl (by decide) (Nat.le_of_ble_eq_true rfl) rfl ?_
  refine ax_top (show Value.int (bI (pIn (nI k) (nI 0) (nI 1))) = .int (nI 1) from congrArg Value.int (by rw [pIn_c (Nat.zero_le _) hk (by decide)]; rfl)) ?_
  refine ax_if_ne (pc := 7) (tgt := 14) G dX10_restore_7 rfl (fun _ => ?_) (fun c9 => absurd c9 (by decide))
  refine ax_aload_n (pc := 14) G dX10_restore_14 rfl rfl ?_
  refine md_get (pc := 15) (v := .ref (m + 9)) G flX10_38_8 dX10_restore_15 rfl ?_
  refine ax_iload_n (pc := 18) G dX10_restore_18 rfl rfl ?_
  refine md_zld (pc := 19) (i := k) G dX10_restore_19 rfl (by omega) ?_
  refine ax_top (show Value.int ((μ.2 9) k) = .int (nI 0) from congrArg Value.int (hst)) ?_
  refine ax_if_eq (pc := 20) (tgt := 27) G dX10_restore_20 rfl (fun _ => ?_) (fun c9 => absurd rfl c9)
  refine ax_iconst (pc := 27) (v := nI 2) G dX10_restore_27 ic_2 ?_
  refine md_put (pc := 28) G flX10_45_8 dX10_restore_28 hm (by decide) (rfl) rfl rfl ?_
  refine ax_aload_n (pc := 31) G dX10_restore_31 rfl rfl ?_
  refine md_get (pc := 32) (v := .int (nI 2)) G flX10_45_8 dX10_restore_32 rfl ?_
  refine ax_if_le (pc := 35) (tgt := 40) G dX10_restore_35 rfl (fun c9 => absurd c9 (by decide)) (fun _ => ?_)
  refine ax_iconst (pc := 38) (v := nI 0) G dX10_restore_38 ic_0 ?_
  exact ax_iretE (pc := 39) G E rfl (rfl) dX10_restore_39 (rfl) (rfl)

