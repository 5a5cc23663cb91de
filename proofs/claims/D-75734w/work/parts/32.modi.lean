/-! THE MODEL: what if, changes -/
theorem mt_sets {Ω : ax_O} (hA : ax_Amb Ω) {h : ax_H} {m : Nat} {μ : md_S} (hm : Ω.2.1.heap.size ≤ m) (u : Nat) (hu : u ≤ 8) (h18 : μ.1 18 = nI u) (a : Nat) (ha : a < 627) (v : Int32) : ax_Met Ω yX10_sets 3 0 0 [.ref m, .int (nI a), .int v] (md_H h m μ) (.inl (some (.int ((μ.2 4) a)))) (md_H h m (md_sa (md_si (md_sa μ 7 (pRem (μ.2 7) (μ.2 4) u)) 18 (nI (pU u))) 4 (upd (μ.2 4) a v))) := by
  refine ax_met q3189 q142 (by decide +kernel) (by decide) hA (Nat.le_of_ble_eq_true rfl) (fun Γ G E => ?_)
  show ax_W Ω Γ 0 0 (md_H h m μ) 0 [some (.ref m), some (.int (nI a)), some (.int v), none] []
  refine ax_aload_n (pc := 0) G dX10_sets_0 rfl rfl ?_
  refine ax_cV0 (pc := 1) (kb := 0) (nb := 0) G (mt_rem hA (h := h) (m := m) (μ := μ) hm u hu h18) lVX10_414_8 dX10_sets_1 md_obj rfl (by decide) (Nat.le_of_ble_eq_true rfl) rfl ?_
  show ax_W Ω Γ _ _ (md_H h m (md_si (md_sa μ 7 (pRem (μ.2 7) (μ.2 4) u)) 18 (nI (pU u)))) _ _ _
  refine ax_aload_n (pc := 4) G dX10_sets_4 rfl rfl ?_
  refine md_get (pc := 5) (v := .ref (m + 4)) G flX10_23_8 dX10_sets_5 rfl ?_
  refine ax_iload_n (pc := 8) G dX10_sets_8 rfl rfl ?_
  refine md_ld (pc := 9) (i := a) (j := 4) G 627 dX10_sets_9 (by decide) (by decide) rfl rfl rfl (by omega) (by decide) ?_
  refine ax_istore_n (pc := 10) G dX10_sets_10 rfl (Nat.le_of_ble_eq_true rfl) rfl ?_
  refine ax_aload_n (pc := 11) G dX10_sets_11 rfl rfl ?_
  refine md_get (pc := 12) (v := .ref (m + 4)) G flX10_23_8 dX10_sets_12 rfl ?_
  refine ax_iload_n (pc := 15) G dX10_sets_15 rfl rfl ?_
  refine ax_iload_n (pc := 16) G dX10_sets_16 rfl rfl ?_
  refine md_st (pc := 17) (i := a) (j := 4) G 627 dX10_sets_17 hm (by decide) (by decide) rfl rfl rfl (by omega) (by decide) ?_
  show ax_W Ω Γ _ _ (md_H h m (md_sa (md_si (md_sa μ 7 (pRem (μ.2 7) (μ.2 4) u)) 18 (nI (pU u))) 4 (upd (μ.2 4) a v))) _ _ _
  refine ax_iload_n (pc := 18) G dX10_sets_18 rfl rfl ?_
  exact ax_iretE (pc := 19) G E rfl (rfl) dX10_sets_19 (rfl) (rfl)

theorem mt_toEnd {Ω : ax_O} (hA : ax_Amb Ω) {h : ax_H} {m : Nat} {μ : md_S} (hm : Ω.2.1.heap.size ≤ m) {P V O A : Nat} (hp : pWP (μ.2 2) P V O) (hs : pWS (μ.2 4) A) (p c : Int32) : ax_Met Ω yX10_toEnd 12 0 0 [.ref m, .int p, .int c] (md_H h m μ) (.inl none) (md_H h m (mEnd μ V A p c)) := by
  refine ax_met q3135 q142 (by decide +kernel) (by decide) hA (Nat.le_of_ble_eq_true rfl) (fun Γ G E => ?_)
  show ax_W Ω Γ 0 0 (md_H h m μ) 0 [some (.ref m), some (.int p), some (.int c), none] []
  refine ax_aload_n (pc := 0) G dX10_toEnd_0 rfl rfl ?_
  refine md_get (pc := 1) (v := .ref (m + 4)) G flX10_23_8 dX10_toEnd_1 rfl ?_
  refine ax_iconst (pc := 4) (v := nI 0) G dX10_toEnd_4 ic_0 ?_
  refine ax_aload_n (pc := 5) G dX10_toEnd_5 rfl rfl ?_
  refine md_get (pc := 6) (v := .ref (m + 6)) G flX10_29_8 dX10_toEnd_6 rfl ?_
  refine ax_iconst (pc := 9) (v := nI 0) G dX10_toEnd_9 ic_0 ?_
  refine ax_cS0 (pc := 10) (kb := 0) (nb := 0) G (mt_copy_4_6 hA (h := h) (m := m) (μ := μ) hm 0 0 (by omega) (by omega)) lSX10_189 dX10_toEnd_10 rfl (by decide) (Nat.le_of_ble_eq_true rfl) rfl ?_
  show ax_W Ω Γ _ _ (md_H h m (md_sa μ 6 (pPut (μ.2 6) (fun z9 => (μ.2 4) (0 + z9)) 0 627))) _ _ _
  refine ax_W_le (md_le (μ := μ) (j := 6) (f := (pPut (μ.2 6) (fun z9 => (μ.2 4) (0 + z9)) 0 627)) (g := μ.2 4) (by decide) (by decide) (fun i hi => pPut_all (by simpa [md_len] using hi))) ?_
  refine ax_aload_n (pc := 13) G dX10_toEnd_13 rfl rfl ?_
  refine md_get (pc := 14) (v := .ref (m + 6)) G flX10_29_8 dX10_toEnd_14 rfl ?_
  refine ax_iconst (pc := 17) (v := nI 5) G dX10_toEnd_17 ic_5 ?_
  refine ax_iload_n (pc := 18) G dX10_toEnd_18 rfl rfl ?_
  refine md_st (pc := 19) (i := 5) (j := 6) G 627 dX10_toEnd_19 hm (by decide) (by decide) rfl rfl rfl (by omega) (by decide) ?_
  show ax_W Ω Γ _ _ (md_H h m (md_sa (md_sa μ 6 (μ.2 4)) 6 (upd (μ.2 4) 5 p))) _ _ _
  rw [md_saa]
  show ax_W Ω Γ _ _ (md_H h m (md_sa μ 6 (upd (μ.2 4) 5 p))) _ _ _
  refine ax_aload_n (pc := 20) G dX10_toEnd_20 rfl rfl ?_
  refine md_get (pc := 21) (v := .ref (m + 6)) G flX10_29_8 dX10_toEnd_21 rfl ?_
  refine ax_bipush (pc := 24) (v := nI 15) G dX10_toEnd_24 ib_15 ?_
  refine ax_iload_n (pc := 26) G dX10_toEnd_26 rfl rfl ?_
  refine md_st (pc := 27) (i := 15) (j := 6) G 627 dX10_toEnd_27 hm (by decide) (by decide) rfl rfl rfl (by omega) (by decide) ?_
  show ax_W Ω Γ _ _ (md_H h m (md_sa (md_sa μ 6 (upd (μ.2 4) 5 p)) 6 (upd (upd (μ.2 4) 5 p) 15 c))) _ _ _
  rw [md_saa]
  show ax_W Ω Γ _ _ (md_H h m (md_sa μ 6 (upd (upd (μ.2 4) 5 p) 15 c))) _ _ _
  refine ax_aload_n (pc := 28) G dX10_toEnd_28 rfl rfl ?_
  refine ax_aload_n (pc := 29) G dX10_toEnd_29 rfl rfl ?_
  refine md_get (pc := 30) (v := .ref (m + 6)) G flX10_29_8 dX10_toEnd_30 rfl ?_
  refine ax_sipush (pc := 33) (v := nI 4000) G dX10_toEnd_33 is_4000 ?_
  refine ax_cV1 (pc := 36) (kb := 0) (nb := 0) G (mt_stepsManyR hA (h := h) (m := m) (μ := (md_sa μ 6 (upd (upd (μ.2 4) 5 p) 15 c))) hm (j := 6) (Or.inr rfl) hp (((hs).up _ (by omega) (by omega) (fun _ _ => by omega)).up _ (by omega) (by omega) (fun _ _ => by omega)) 4000 (by omega)) lVX10_352_8 dX10_toEnd_36 md_obj rfl (by decide) (Nat.le_of_ble_eq_true rfl) rfl ?_
  show ax_W Ω Γ _ _ (md_H h m (md_sa (mAs (md_sa μ 6 (upd (upd (μ.2 4) 5 p) 15 c)) (pManyT (μ.2 2) V A 4000 (upd (upd (μ.2 4) 5 p) 15 c) (mOwn (md_sa μ 6 (upd (upd (μ.2 4) 5 p) 15 c))))) 6 (pMany (μ.2 2) V A 4000 (upd (upd (μ.2 4) 5 p) 15 c)).1)) _ _ _
  refine ax_istore_n (pc := 39) G dX10_toEnd_39 rfl (Nat.le_of_ble_eq_true rfl) rfl ?_
  exact ax_vretE (pc := 40) G E rfl dX10_toEnd_40 (by rfl)

theorem mq_nextKind_E {Ω : ax_O} (hA : ax_Amb Ω) {h : ax_H} {m : Nat} {μ : md_S} (hm : Ω.2.1.heap.size ≤ m) (h19 : μ.1 19 = nI 1) {P V O A : Nat} (hp : pWP (μ.2 2) P V O) (hs : pWS (μ.2 4) A) (he : μ.2 4 0 = μ.2 2 0) : ax_Met Ω yX10_nextKind 12 0 0 [.ref m] (md_H h m μ) (.inl (some (.int (-1)))) (md_H h m (md_si μ 0 (nI 0))) := by
  refine ax_met q3010 q142 (by decide +kernel) (by decide) hA (Nat.le_of_ble_eq_true rfl) (fun Γ G E => ?_)
  show ax_W Ω Γ 0 0 (md_H h m μ) 0 [some (.ref m)] []
  refine ax_aload_n (pc := 0) G dX10_nextKind_0 rfl rfl ?_
  refine ax_iconst (pc := 1) (v := nI 1) G dX10_nextKind_1 ic_1 ?_
  refine ax_cV1 (pc := 2) (kb := 0) (nb := 0) G (mt_mayAskY hA (μ := μ) hm h19) lVX10_368_8 dX10_nextKind_2 md_obj rfl (by decide) (Nat.le_of_ble_eq_true rfl) rfl ?_
  show ax_W Ω Γ _ _ (md_H h m (md_si μ 0 (nI 0))) _ _ _
  refine ax_if_ne (pc := 5) (tgt := 10) G dX10_nextKind_5 rfl (fun _ => ?_) (fun c9 => absurd c9 (by decide))
  refine ax_aload_n (pc := 10) G dX10_nextKind_10 rfl rfl ?_
  refine md_get (pc := 11) (v := .ref (m + 4)) G flX10_23_8 dX10_nextKind_11 rfl ?_
  refine ax_iconst (pc := 14) (v := nI 0) G dX10_nextKind_14 ic_0 ?_
  refine md_ld (pc := 15) (i := 0) (j := 4) G 627 dX10_nextKind_15 (by decide) (by decide) rfl rfl rfl (by omega) (by decide) ?_
  refine ax_aload_n (pc := 16) G dX10_nextKind_16 rfl rfl ?_
  refine md_get (pc := 17) (v := .ref (m + 2)) G flX10_17_8 dX10_nextKind_17 rfl ?_
  refine ax_iconst (pc := 20) (v := nI 0) G dX10_nextKind_20 ic_0 ?_
  refine md_ld (pc := 21) (i := 0) (j := 2) G 235 dX10_nextKind_21 (by decide) (by decide) rfl rfl rfl (by omega) (by decide) ?_
  refine ax_icmp_ne (pc := 22) (tgt := 27) G dX10_nextKind_22 rfl (fun c9 => absurd c9 (fun z => z he)) (fun _ => ?_)
  refine ax_iconst (pc := 25) (v := (-1)) G dX10_nextKind_25 (by decide) ?_
  exact ax_iretE (pc := 26) G E rfl (rfl) dX10_nextKind_26 (rfl) (rfl)

theorem mq_nextKind_Y {Ω : ax_O} (hA : ax_Amb Ω) {h : ax_H} {m : Nat} {μ : md_S} (hm : Ω.2.1.heap.size ≤ m) (h19 : μ.1 19 = nI 1) {P V O A : Nat} (hp : pWP (μ.2 2) P V O) (hs : pWS (μ.2 4) A) (he : ¬ μ.2 4 0 = μ.2 2 0) : ax_Met Ω yX10_nextKind 12 0 0 [.ref m] (md_H h m μ) (.inl (some (.int ((pStep (μ.2 2) (μ.2 4) V A).2)))) (md_H h m (md_sa (mAs (md_si (md_sa μ 6 (μ.2 4)) 0 (nI 0)) (pStT (μ.2 2) (μ.2 4) V A (mOwn (md_si (md_sa μ 6 (μ.2 4)) 0 (nI 0))))) 6 (pStep (μ.2 2) (μ.2 4) V A).1)) := by
  refine ax_met q3010 q142 (by decide +kernel) (by decide) hA (Nat.le_of_ble_eq_true rfl) (fun Γ G E => ?_)
  show ax_W Ω Γ 0 0 (md_H h m μ) 0 [some (.ref m)] []
  refine ax_aload_n (pc := 0) G dX10_nextKind_0 rfl rfl ?_
  refine ax_iconst (pc := 1) (v := nI 1) G dX10_nextKind_1 ic_1 ?_
  refine ax_cV1 (pc := 2) (kb := 0) (nb := 0) G (mt_mayAskY hA (μ := μ) hm h19) lVX10_368_8 dX10_nextKind_2 md_obj rfl (by decide) (Nat.le_of_ble_eq_true rfl) rfl ?_
  show ax_W Ω Γ _ _ (md_H h m (md_si μ 0 (nI 0))) _ _ _
  refine ax_if_ne (pc := 5) (tgt := 10) G dX10_nextKind_5 rfl (fun _ => ?_) (fun c9 => absurd c9 (by decide))
  refine ax_aload_n (pc := 10) G dX10_nextKind_10 rfl rfl ?_
  refine md_get (pc := 11) (v := .ref (m + 4)) G flX10_23_8 dX10_nextKind_11 rfl ?_
  refine ax_iconst (pc := 14) (v := nI 0) G dX10_nextKind_14 ic_0 ?_
  refine md_ld (pc := 15) (i := 0) (j := 4) G 627 dX10_nextKind_15 (by decide) (by decide) rfl rfl rfl (by omega) (by decide) ?_
  refine ax_aload_n (pc := 16) G dX10_nextKind_16 rfl rfl ?_
  refine md_get (pc := 17) (v := .ref (m + 2)) G flX10_17_8 dX10_nextKind_17 rfl ?_
  refine ax_iconst (pc := 20) (v := nI 0) G dX10_nextKind_20 ic_0 ?_
  refine md_ld (pc := 21) (i := 0) (j := 2) G 235 dX10_nextKind_21 (by decide) (by decide) rfl rfl rfl (by omega) (by decide) ?_
  refine ax_icmp_ne (pc := 22) (tgt := 27) G dX10_nextKind_22 rfl (fun _ => ?_) (fun c9 => absurd c9 he)
  refine ax_aload_n (pc := 27) G dX10_nextKind_27 rfl rfl ?_
  refine md_get (pc := 28) (v := .ref (m + 4)) G flX10_23_8 dX10_nextKind_28 rfl ?_
  refine ax_iconst (pc := 31) (v := nI 0) G dX10_nextKind_31 ic_0 ?_
  refine ax_aload_n (pc := 32) G dX10_nextKind_32 rfl rfl ?_
  refine md_get (pc := 33) (v := .ref (m + 6)) G flX10_29_8 dX10_nextKind_33 rfl ?_
  refine ax_iconst (pc := 36) (v := nI 0) G dX10_nextKind_36 ic_0 ?_
  refine ax_cS0 (pc := 37) (kb := 0) (nb := 0) G (mt_copy_4_6 hA (h := h) (m := m) (μ := (md_si μ 0 (nI 0))) hm 0 0 (by omega) (by omega)) lSX10_189 dX10_nextKind_37 rfl (by decide) (Nat.le_of_ble_eq_true rfl) rfl ?_
  show ax_W Ω Γ _ _ (md_H h m (md_sa (md_si μ 0 (nI 0)) 6 (pPut (μ.2 6) (fun z9 => (μ.2 4) (0 + z9)) 0 627))) _ _ _
  refine ax_W_le (md_le (μ := (md_si μ 0 (nI 0))) (j := 6) (f := (pPut (μ.2 6) (fun z9 => (μ.2 4) (0 + z9)) 0 627)) (g := μ.2 4) (by decide) (by decide) (fun i hi => pPut_all (by simpa [md_len] using hi))) ?_
  refine ax_aload_n (pc := 40) G dX10_nextKind_40 rfl rfl ?_
  refine ax_aload_n (pc := 41) G dX10_nextKind_41 rfl rfl ?_
  refine md_get (pc := 42) (v := .ref (m + 6)) G flX10_29_8 dX10_nextKind_42 rfl ?_
  refine ax_cV1 (pc := 45) (kb := 0) (nb := 0) G (mt_stepsR hA (h := h) (m := m) (μ := (md_sa (md_si μ 0 (nI 0)) 6 (μ.2 4))) hm (j := 6) (Or.inr rfl) hp hs) lVX10_349_8 dX10_nextKind_45 md_obj rfl (by decide) (Nat.le_of_ble_eq_true rfl) rfl ?_
  show ax_W Ω Γ _ _ (md_H h m (md_sa (mAs (md_sa (md_si μ 0 (nI 0)) 6 (μ.2 4)) (pStT (μ.2 2) (μ.2 4) V A (mOwn (md_sa (md_si μ 0 (nI 0)) 6 (μ.2 4))))) 6 (pStep (μ.2 2) (μ.2 4) V A).1)) _ _ _
  exact ax_iretE (pc := 48) G E rfl (rfl) dX10_nextKind_48 (rfl) (rfl)

theorem mq_nextKind_N {Ω : ax_O} (hA : ax_Amb Ω) {h : ax_H} {m : Nat} {μ : md_S} (hm : Ω.2.1.heap.size ≤ m) (h19 : μ.1 19 = nI 0)  : ax_Met Ω yX10_nextKind 12 0 0 [.ref m] (md_H h m μ) (.inl (some (.int (nI 0)))) (md_H h m (md_si μ 0 (nI 1))) := by
  refine ax_met q3010 q142 (by decide +kernel) (by decide) hA (Nat.le_of_ble_eq_true rfl) (fun Γ G E => ?_)
  show ax_W Ω Γ 0 0 (md_H h m μ) 0 [some (.ref m)] []
  refine ax_aload_n (pc := 0) G dX10_nextKind_0 rfl rfl ?_
  refine ax_iconst (pc := 1) (v := nI 1) G dX10_nextKind_1 ic_1 ?_
  refine ax_cV1 (pc := 2) (kb := 0) (nb := 0) G (mt_mayAskN hA (μ := μ) hm h19 true) lVX10_368_8 dX10_nextKind_2 md_obj rfl (by decide) (Nat.le_of_ble_eq_true rfl) rfl ?_
  show ax_W Ω Γ _ _ (md_H h m (md_si μ 0 (nI 1))) _ _ _
  refine ax_if_ne (pc := 5) (tgt := 10) G dX10_nextKind_5 rfl (fun c9 => absurd rfl c9) (fun _ => ?_)
  refine ax_iconst (pc := 8) (v := nI 0) G dX10_nextKind_8 ic_0 ?_
  exact ax_iretE (pc := 9) G E rfl (rfl) dX10_nextKind_9 (rfl) (rfl)

theorem mq_usedIn_Y {Ω : ax_O} (hA : ax_Amb Ω) {h : ax_H} {m : Nat} {μ : md_S} (hm : Ω.2.1.heap.size ≤ m) (h19 : μ.1 19 = nI 1) {P V O A : Nat} (hp : pWP (μ.2 2) P V O) (hs : pWS (μ.2 4) A) (k : Nat) (hka : 1 ≤ k) (hk : k ≤ 300) : ax_Met Ω yX10_usedIn 14 0 0 [.ref m, .int (nI k)] (md_H h m μ) (.inl (some (.int ((pMany (μ.2 2) V A k (μ.2 4)).1 6 - (μ.2 4) 6)))) (md_H h m (md_sa (mAs (md_si (md_sa μ 6 (μ.2 4)) 0 (nI 0)) (pManyT (μ.2 2) V A k (μ.2 4) (mOwn (md_si (md_sa μ 6 (μ.2 4)) 0 (nI 0))))) 6 (pMany (μ.2 2) V A k (μ.2 4)).1)) := by
  refine ax_met q3123 q142 (by decide +kernel) (by decide) hA (Nat.le_of_ble_eq_true rfl) (fun Γ G E => ?_)
  show ax_W Ω Γ 0 0 (md_H h m μ) 0 [some (.ref m), some (.int (nI k)), none] []
  refine ax_aload_n (pc := 0) G dX10_usedIn_0 rfl rfl ?_
  refine ax_iload_n (pc := 1) G dX10_usedIn_1 rfl rfl ?_
  refine ax_iconst (pc := 2) (v := nI 1) G dX10_usedIn_2 ic_1 ?_
  refine ax_sipush (pc := 3) (v := nI 300) G dX10_usedIn_3 is_300 ?_
  refine ax_cS1 (pc := 6) (kb := 0) (nb := 0) G (mt_in hA (nI k) (nI 1) (nI 300)) lSX10_74 dX10_usedIn_6 rfl (by decide) (Nat.le_of_ble_eq_true rfl) rfl ?_
  refine ax_top (show Value.int (bI (pIn (nI k) (nI 1) (nI 300))) = .int (nI 1) from congrArg Value.int (by rw [pIn_c hka hk (by decide)]; rfl)) ?_
  refine ax_cV1 (pc := 9) (kb := 0) (nb := 0) G (mt_mayAskY hA (μ := μ) hm h19) lVX10_368_8 dX10_usedIn_9 md_obj rfl (by decide) (Nat.le_of_ble_eq_true rfl) rfl ?_
  show ax_W Ω Γ _ _ (md_H h m (md_si μ 0 (nI 0))) _ _ _
  refine ax_if_ne (pc := 12) (tgt := 17) G dX10_usedIn_12 rfl (fun _ => ?_) (fun c9 => absurd c9 (by decide))
  refine ax_aload_n (pc := 17) G dX10_usedIn_17 rfl rfl ?_
  refine md_get (pc := 18) (v := .ref (m + 4)) G flX10_23_8 dX10_usedIn_18 rfl ?_
  refine ax_iconst (pc := 21) (v := nI 0) G dX10_usedIn_21 ic_0 ?_
  refine ax_aload_n (pc := 22) G dX10_usedIn_22 rfl rfl ?_
  refine md_get (pc := 23) (v := .ref (m + 6)) G flX10_29_8 dX10_usedIn_23 rfl ?_
  refine ax_iconst (pc := 26) (v := nI 0) G dX10_usedIn_26 ic_0 ?_
  refine ax_cS0 (pc := 27) (kb := 0) (nb := 0) G (mt_copy_4_6 hA (h := h) (m := m) (μ := (md_si μ 0 (nI 0))) hm 0 0 (by omega) (by omega)) lSX10_189 dX10_usedIn_27 rfl (by decide) (Nat.le_of_ble_eq_true rfl) rfl ?_
  show ax_W Ω Γ _ _ (md_H h m (md_sa (md_si μ 0 (nI 0)) 6 (pPut (μ.2 6) (fun z9 => (μ.2 4) (0 + z9)) 0 627))) _ _ _
  refine ax_W_le (md_le (μ := (md_si μ 0 (nI 0))) (j := 6) (f := (pPut (μ.2 6) (fun z9 => (μ.2 4) (0 + z9)) 0 627)) (g := μ.2 4) (by decide) (by decide) (fun i hi => pPut_all (by simpa [md_len] using hi))) ?_
  refine ax_aload_n (pc := 30) G dX10_usedIn_30 rfl rfl ?_
  refine ax_aload_n (pc := 31) G dX10_usedIn_31 rfl rfl ?_
  refine md_get (pc := 32) (v := .ref (m + 6)) G flX10_29_8 dX10_usedIn_32 rfl ?_
  refine ax_iload_n (pc := 35) G dX10_usedIn_35 rfl rfl ?_
  refine ax_cV1 (pc := 36) (kb := 0) (nb := 0) G (mt_stepsManyR hA (h := h) (m := m) (μ := (md_sa (md_si μ 0 (nI 0)) 6 (μ.2 4))) hm (j := 6) (Or.inr rfl) hp hs k (by omega)) lVX10_352_8 dX10_usedIn_36 md_obj rfl (by decide) (Nat.le_of_ble_eq_true rfl) rfl ?_
  show ax_W Ω Γ _ _ (md_H h m (md_sa (mAs (md_sa (md_si μ 0 (nI 0)) 6 (μ.2 4)) (pManyT (μ.2 2) V A k (μ.2 4) (mOwn (md_sa (md_si μ 0 (nI 0)) 6 (μ.2 4))))) 6 (pMany (μ.2 2) V A k (μ.2 4)).1)) _ _ _
  refine ax_istore_n (pc := 39) G dX10_usedIn_39 rfl (Nat.le_of_ble_eq_true rfl) rfl ?_
  refine ax_aload_n (pc := 40) G dX10_usedIn_40 rfl rfl ?_
  refine md_get (pc := 41) (v := .ref (m + 6)) G flX10_29_8 dX10_usedIn_41 rfl ?_
  refine ax_bipush (pc := 44) (v := nI 6) G dX10_usedIn_44 ib_6 ?_
  refine md_ld (pc := 46) (i := 6) (j := 6) G 627 dX10_usedIn_46 (by decide) (by decide) rfl rfl rfl (by omega) (by decide) ?_
  refine ax_aload_n (pc := 47) G dX10_usedIn_47 rfl rfl ?_
  refine md_get (pc := 48) (v := .ref (m + 4)) G flX10_23_8 dX10_usedIn_48 rfl ?_
  refine ax_bipush (pc := 51) (v := nI 6) G dX10_usedIn_51 ib_6 ?_
  refine md_ld (pc := 53) (i := 6) (j := 4) G 627 dX10_usedIn_53 (by decide) (by decide) rfl rfl rfl (by omega) (by decide) ?_
  refine ax_isub (pc := 54) G dX10_usedIn_54 ?_
  exact ax_iretE (pc := 55) G E rfl (rfl) dX10_usedIn_55 (rfl) (rfl)

theorem mq_usedIn_N {Ω : ax_O} (hA : ax_Amb Ω) {h : ax_H} {m : Nat} {μ : md_S} (hm : Ω.2.1.heap.size ≤ m) (h19 : μ.1 19 = nI 0) (k : Int32)  : ax_Met Ω yX10_usedIn 14 0 0 [.ref m, .int k] (md_H h m μ) (.inl (some (.int (nI 0)))) (md_H h m (md_si μ 0 (nI 1))) := by
  refine ax_met q3123 q142 (by decide +kernel) (by decide) hA (Nat.le_of_ble_eq_true rfl) (fun Γ G E => ?_)
  show ax_W Ω Γ 0 0 (md_H h m μ) 0 [some (.ref m), some (.int k), none] []
  refine ax_aload_n (pc := 0) G dX10_usedIn_0 rfl rfl ?_
  refine ax_iload_n (pc := 1) G dX10_usedIn_1 rfl rfl ?_
  refine ax_iconst (pc := 2) (v := nI 1) G dX10_usedIn_2 ic_1 ?_
  refine ax_sipush (pc := 3) (v := nI 300) G dX10_usedIn_3 is_300 ?_
  refine ax_cS1 (pc := 6) (kb := 0) (nb := 0) G (mt_in hA k (nI 1) (nI 300)) lSX10_74 dX10_usedIn_6 rfl (by decide) (Nat.le_of_ble_eq_true rfl) rfl ?_
  refine ax_cV1 (pc := 9) (kb := 0) (nb := 0) G (mt_mayAskN hA (μ := μ) hm h19 (pIn k (nI 1) (nI 300))) lVX10_368_8 dX10_usedIn_9 md_obj rfl (by decide) (Nat.le_of_ble_eq_true rfl) rfl ?_
  show ax_W Ω Γ _ _ (md_H h m (md_si μ 0 (nI 1))) _ _ _
  refine ax_if_ne (pc := 12) (tgt := 17) G dX10_usedIn_12 rfl (fun c9 => absurd rfl c9) (fun _ => ?_)
  refine ax_iconst (pc := 15) (v := nI 0) G dX10_usedIn_15 ic_0 ?_
  exact ax_iretE (pc := 16) G E rfl (rfl) dX10_usedIn_16 (rfl) (rfl)

theorem mq_usedIn_B {Ω : ax_O} (hA : ax_Amb Ω) {h : ax_H} {m : Nat} {μ : md_S} (hm : Ω.2.1.heap.size ≤ m) (h19 : μ.1 19 = nI 1) (k : Int32) (hb : pIn k (nI 1) (nI 300) = false) : ax_Met Ω yX10_usedIn 14 0 0 [.ref m, .int k] (md_H h m μ) (.inl (some (.int (nI 0)))) (md_H h m (md_si μ 0 (nI 2))) := by
  refine ax_met q3123 q142 (by decide +kernel) (by decide) hA (Nat.le_of_ble_eq_true rfl) (fun Γ G E => ?_)
  show ax_W Ω Γ 0 0 (md_H h m μ) 0 [some (.ref m), some (.int k), none] []
  refine ax_aload_n (pc := 0) G dX10_usedIn_0 rfl rfl ?_
  refine ax_iload_n (pc := 1) G dX10_usedIn_1 rfl rfl ?_
  refine ax_iconst (pc := 2) (v := nI 1) G dX10_usedIn_2 ic_1 ?_
  refine ax_sipush (pc := 3) (v := nI 300) G dX10_usedIn_3 is_300 ?_
  refine ax_cS1 (pc := 6) (kb := 0) (nb := 0) G (mt_in hA k (nI 1) (nI 300)) lSX10_74 dX10_usedIn_6 rfl (by decide) (Nat.le_of_ble_eq_true rfl) rfl ?_
  refine ax_top (show Value.int (bI (pIn k (nI 1) (nI 300))) = .int (nI 0) from congrArg Value.int (by rw [hb]; rfl)) ?_
  refine ax_cV1 (pc := 9) (kb := 0) (nb := 0) G (mt_mayAskB hA (μ := μ) hm h19) lVX10_368_8 dX10_usedIn_9 md_obj rfl (by decide) (Nat.le_of_ble_eq_true rfl) rfl ?_
  show ax_W Ω Γ _ _ (md_H h m (md_si μ 0 (nI 2))) _ _ _
  refine ax_if_ne (pc := 12) (tgt := 17) G dX10_usedIn_12 rfl (fun c9 => absurd rfl c9) (fun _ => ?_)
  refine ax_iconst (pc := 15) (v := nI 0) G dX10_usedIn_15 ic_0 ?_
  exact ax_iretE (pc := 16) G E rfl (rfl) dX10_usedIn_16 (rfl) (rfl)

theorem mq_doneBy_Y {Ω : ax_O} (hA : ax_Amb Ω) {h : ax_H} {m : Nat} {μ : md_S} (hm : Ω.2.1.heap.size ≤ m) (h19 : μ.1 19 = nI 1) {P V O A : Nat} (hp : pWP (μ.2 2) P V O) (hs : pWS (μ.2 4) A) (k : Nat) (hk : k ≤ 3) : ax_Met Ω yX10_doneBy 14 0 0 [.ref m, .int (nI k)] (md_H h m μ) (.inl (some (.int (pDoneN (pEnd (μ.2 2) (μ.2 4) V A (nI k) ((μ.2 4) 15)) V)))) (md_H h m (mEnd (md_si μ 0 (nI 0)) V A (nI k) ((μ.2 4) 15))) := by
  refine ax_met q3131 q142 (by decide +kernel) (by decide) hA (Nat.le_of_ble_eq_true rfl) (fun Γ G E => ?_)
  have hV9 := hp.lV
  have LL : ∀ (n i : Nat), i + n = V → ax_W Ω Γ 0 0 (md_H h m (mEnd (md_si μ 0 (nI 0)) V A (nI k) ((μ.2 4) 15))) 31 [some (.ref m), some (.int (nI k)), some (.int (pDoneN (pEnd (μ.2 2) (μ.2 4) V A (nI k) ((μ.2 4) 15)) i)), some (.int (nI i))] [] := by
    intro n
    induction n with
    | zero =>
      intro i hi
      have hi9 : V = i := by omega
      subst hi9
      refine ax_iload_n (pc := 31) G dX10_doneBy_31 rfl rfl ?_
      refine ax_aload_n (pc := 32) G dX10_doneBy_32 rfl rfl ?_
      refine md_get (pc := 33) (v := .ref (m + 2)) G flX10_17_8 dX10_doneBy_33 rfl ?_
      refine ax_bipush (pc := 36) (v := nI 65) G dX10_doneBy_36 ib_65 ?_
      refine md_ld (pc := 38) (i := 65) (j := 2) G 235 dX10_doneBy_38 (by decide) (by decide) rfl rfl rfl (by omega) (by decide) ?_
      refine ax_top (show Value.int ((μ.2 2) 65) = .int (nI V) from congrArg Value.int (hp.hV)) ?_
      refine ax_icmp_geN (pc := 39) (tgt := 69) G dX10_doneBy_39 rfl (by omega) (by omega) (fun c39 => ?_) (fun c39 => ?_)
      · refine ax_iload_n (pc := 69) G dX10_doneBy_69 rfl rfl ?_
        exact ax_iretE (pc := 70) G E rfl (rfl) dX10_doneBy_70 (rfl) (rfl)
      · omega
    | succ n ih =>
      intro i hi
      refine ax_iload_n (pc := 31) G dX10_doneBy_31 rfl rfl ?_
      refine ax_aload_n (pc := 32) G dX10_doneBy_32 rfl rfl ?_
      refine md_get (pc := 33) (v := .ref (m + 2)) G flX10_17_8 dX10_doneBy_33 rfl ?_
      refine ax_bipush (pc := 36) (v := nI 65) G dX10_doneBy_36 ib_65 ?_
      refine md_ld (pc := 38) (i := 65) (j := 2) G 235 dX10_doneBy_38 (by decide) (by decide) rfl rfl rfl (by omega) (by decide) ?_
      refine ax_top (show Value.int ((μ.2 2) 65) = .int (nI V) from congrArg Value.int (hp.hV)) ?_
      refine ax_icmp_geN (pc := 39) (tgt := 69) G dX10_doneBy_39 rfl (by omega) (by omega) (fun c39 => ?_) (fun c39 => ?_)
      · omega
      · refine ax_iload_n (pc := 42) G dX10_doneBy_42 rfl rfl ?_
        refine ax_aload_n (pc := 43) G dX10_doneBy_43 rfl rfl ?_
        refine md_get (pc := 44) (v := .ref (m + 6)) G flX10_29_8 dX10_doneBy_44 rfl ?_
        refine ax_bipush (pc := 47) (v := nI 47) G dX10_doneBy_47 ib_47 ?_
        refine ax_iload_n (pc := 49) G dX10_doneBy_49 rfl rfl ?_
        refine ax_iaddN (pc := 50) G dX10_doneBy_50 ?_
        refine md_ld (pc := 51) (i := 47 + i) (j := 6) G 627 dX10_doneBy_51 (by decide) (by decide) rfl rfl rfl (by omega) (by decide) ?_
        refine ax_iconst (pc := 52) (v := nI 1) G dX10_doneBy_52 ic_1 ?_
        refine ax_icmp_ne (pc := 53) (tgt := 60) G dX10_doneBy_53 rfl (fun c53 => ?_) (fun c53 => ?_)
        · replace c53 : ¬ ((pEnd (μ.2 2) (μ.2 4) V A (nI k) ((μ.2 4) 15)) (47 + i)) = (nI 1) := c53
          refine ax_iconst (pc := 60) (v := nI 0) G dX10_doneBy_60 ic_0 ?_
          refine ax_iadd (pc := 61) G dX10_doneBy_61 ?_
          refine ax_istore_n (pc := 62) G dX10_doneBy_62 rfl (Nat.le_of_ble_eq_true rfl) rfl ?_
          refine ax_iincN (pc := 63) (n := 1) G dX10_doneBy_63 rfl rfl ic_1 ?_
          refine ax_goto (pc := 66) (tgt := 31) G dX10_doneBy_66 rfl ?_
          have q9 := ih (i + 1) (by omega)
          rw [show pDoneN (pEnd (μ.2 2) (μ.2 4) V A (nI k) ((μ.2 4) 15)) (i + 1) = (pDoneN (pEnd (μ.2 2) (μ.2 4) V A (nI k) ((μ.2 4) 15)) i) + (nI 0) from by first | (simp only [pDoneN, c39, c53, if_true, if_false, Bool.false_eq_true, not_false_eq_true, not_true_eq_false, decide_true, decide_false, Bool.and_true, Bool.true_and, Bool.and_false, Bool.false_and, Bool.or_true, Bool.true_or, Bool.or_false, Bool.false_or, and_self, and_true, true_and, and_false, false_and, or_true, true_or, or_false, false_or, ne_eq]; done) | (simp only [pDoneN, c39, c53, if_true, if_false, Bool.false_eq_true, not_false_eq_true, not_true_eq_false, decide_true, decide_false, Bool.and_true, Bool.true_and, Bool.and_false, Bool.false_and, Bool.or_true, Bool.true_or, Bool.or_false, Bool.false_or, and_self, and_true, true_and, and_false, false_and, or_true, true_or, or_false, false_or, ne_eq]; rfl)] at q9
          exact q9
        · replace c53 : ((pEnd (μ.2 2) (μ.2 4) V A (nI k) ((μ.2 4) 15)) (47 + i)) = (nI 1) := c53
          refine ax_iconst (pc := 56) (v := nI 1) G dX10_doneBy_56 ic_1 ?_
          refine ax_goto (pc := 57) (tgt := 61) G dX10_doneBy_57 rfl ?_
          refine ax_iadd (pc := 61) G dX10_doneBy_61 ?_
          refine ax_istore_n (pc := 62) G dX10_doneBy_62 rfl (Nat.le_of_ble_eq_true rfl) rfl ?_
          refine ax_iincN (pc := 63) (n := 1) G dX10_doneBy_63 rfl rfl ic_1 ?_
          refine ax_goto (pc := 66) (tgt := 31) G dX10_doneBy_66 rfl ?_
          have q9 := ih (i + 1) (by omega)
          rw [show pDoneN (pEnd (μ.2 2) (μ.2 4) V A (nI k) ((μ.2 4) 15)) (i + 1) = (pDoneN (pEnd (μ.2 2) (μ.2 4) V A (nI k) ((μ.2 4) 15)) i) + (nI 1) from by first | (simp only [pDoneN, c39, c53, if_true, if_false, Bool.false_eq_true, not_false_eq_true, not_true_eq_false, decide_true, decide_false, Bool.and_true, Bool.true_and, Bool.and_false, Bool.false_and, Bool.or_true, Bool.true_or, Bool.or_false, Bool.false_or, and_self, and_true, true_and, and_false, false_and, or_true, true_or, or_false, false_or, ne_eq]; done) | (simp only [pDoneN, c39, c53, if_true, if_false, Bool.false_eq_true, not_false_eq_true, not_true_eq_false, decide_true, decide_false, Bool.and_true, Bool.true_and, Bool.and_false, Bool.false_and, Bool.or_true, Bool.true_or, Bool.or_false, Bool.false_or, and_self, and_true, true_and, and_false, false_and, or_true, true_or, or_false, false_or, ne_eq]; rfl) | (simp only [pDoneN, c39, if_pos c53, decide_eq_true c53, if_true, if_false, Bool.false_eq_true, not_false_eq_true, not_true_eq_false, decide_true, decide_false, Bool.and_true, Bool.true_and, Bool.and_false, Bool.false_and, Bool.or_true, Bool.true_or, Bool.or_false, Bool.false_or, and_self, and_true, true_and, and_false, false_and, or_true, true_or, or_false, false_or, ne_eq]; done) | (simp only [pDoneN, c39, if_pos c53, decide_eq_true c53, if_true, if_false, Bool.false_eq_true, not_false_eq_true, not_true_eq_false, decide_true, decide_false, Bool.and_true, Bool.true_and, Bool.and_false, Bool.false_and, Bool.or_true, Bool.true_or, Bool.or_false, Bool.false_or, and_self, and_true, true_and, and_false, false_and, or_true, true_or, or_false, false_or, ne_eq]; rfl)] at q9
          exact q9
  show ax_W Ω Γ 0 0 (md_H h m μ) 0 [some (.ref m), some (.int (nI k)), none, none] []
  refine ax_aload_n (pc := 0) G dX10_doneBy_0 rfl rfl ?_
  refine ax_iload_n (pc := 1) G dX10_doneBy_1 rfl rfl ?_
  refine ax_iconst (pc := 2) (v := nI 0) G dX10_doneBy_2 ic_0 ?_
  refine ax_iconst (pc := 3) (v := nI 3) G dX10_doneBy_3 ic_3 ?_
  refine ax_cS1 (pc := 4) (kb := 0) (nb := 0) G (mt_in hA (nI k) (nI 0) (nI 3)) lSX10_74 dX10_doneBy_4 rfl (by decide) (Nat.le_of_ble_eq_true rfl) rfl ?_
  refine ax_top (show Value.int (bI (pIn (nI k) (nI 0) (nI 3))) = .int (nI 1) from congrArg Value.int (by rw [pIn_c (Nat.zero_le _) hk (by decide)]; rfl)) ?_
  refine ax_cV1 (pc := 7) (kb := 0) (nb := 0) G (mt_mayAskY hA (μ := μ) hm h19) lVX10_368_8 dX10_doneBy_7 md_obj rfl (by decide) (Nat.le_of_ble_eq_true rfl) rfl ?_
  show ax_W Ω Γ _ _ (md_H h m (md_si μ 0 (nI 0))) _ _ _
  refine ax_if_ne (pc := 10) (tgt := 15) G dX10_doneBy_10 rfl (fun _ => ?_) (fun c9 => absurd c9 (by decide))
  refine ax_aload_n (pc := 15) G dX10_doneBy_15 rfl rfl ?_
  refine ax_iload_n (pc := 16) G dX10_doneBy_16 rfl rfl ?_
  refine ax_aload_n (pc := 17) G dX10_doneBy_17 rfl rfl ?_
  refine md_get (pc := 18) (v := .ref (m + 4)) G flX10_23_8 dX10_doneBy_18 rfl ?_
  refine ax_bipush (pc := 21) (v := nI 15) G dX10_doneBy_21 ib_15 ?_
  refine md_ld (pc := 23) (i := 15) (j := 4) G 627 dX10_doneBy_23 (by decide) (by decide) rfl rfl rfl (by omega) (by decide) ?_
  refine ax_cV0 (pc := 24) (kb := 0) (nb := 0) G (mt_toEnd hA (h := h) (m := m) (μ := (md_si μ 0 (nI 0))) hm hp hs (nI k) ((μ.2 4) 15)) lVX10_394_8 dX10_doneBy_24 md_obj rfl (by decide) (Nat.le_of_ble_eq_true rfl) rfl ?_
  show ax_W Ω Γ _ _ (md_H h m (mEnd (md_si μ 0 (nI 0)) V A (nI k) ((μ.2 4) 15))) _ _ _
  refine ax_iconst (pc := 27) (v := nI 0) G dX10_doneBy_27 ic_0 ?_
  refine ax_istore_n (pc := 28) G dX10_doneBy_28 rfl (Nat.le_of_ble_eq_true rfl) rfl ?_
  refine ax_iconst (pc := 29) (v := nI 0) G dX10_doneBy_29 ic_0 ?_
  refine ax_istore_n (pc := 30) G dX10_doneBy_30 rfl (Nat.le_of_ble_eq_true rfl) rfl ?_
  exact LL V 0 (by omega)

theorem mq_doneBy_N {Ω : ax_O} (hA : ax_Amb Ω) {h : ax_H} {m : Nat} {μ : md_S} (hm : Ω.2.1.heap.size ≤ m) (h19 : μ.1 19 = nI 0) (k : Int32)  : ax_Met Ω yX10_doneBy 14 0 0 [.ref m, .int k] (md_H h m μ) (.inl (some (.int (nI 0)))) (md_H h m (md_si μ 0 (nI 1))) := by
  refine ax_met q3131 q142 (by decide +kernel) (by decide) hA (Nat.le_of_ble_eq_true rfl) (fun Γ G E => ?_)
  show ax_W Ω Γ 0 0 (md_H h m μ) 0 [some (.ref m), some (.int k), none, none] []
  refine ax_aload_n (pc := 0) G dX10_doneBy_0 rfl rfl ?_
  refine ax_iload_n (pc := 1) G dX10_doneBy_1 rfl rfl ?_
  refine ax_iconst (pc := 2) (v := nI 0) G dX10_doneBy_2 ic_0 ?_
  refine ax_iconst (pc := 3) (v := nI 3) G dX10_doneBy_3 ic_3 ?_
  refine ax_cS1 (pc := 4) (kb := 0) (nb := 0) G (mt_in hA k (nI 0) (nI 3)) lSX10_74 dX10_doneBy_4 rfl (by decide) (Nat.le_of_ble_eq_true rfl) rfl ?_
  refine ax_cV1 (pc := 7) (kb := 0) (nb := 0) G (mt_mayAskN hA (μ := μ) hm h19 (pIn k (nI 0) (nI 3))) lVX10_368_8 dX10_doneBy_7 md_obj rfl (by decide) (Nat.le_of_ble_eq_true rfl) rfl ?_
  show ax_W Ω Γ _ _ (md_H h m (md_si μ 0 (nI 1))) _ _ _
  refine ax_if_ne (pc := 10) (tgt := 15) G dX10_doneBy_10 rfl (fun c9 => absurd rfl c9) (fun _ => ?_)
  refine ax_iconst (pc := 13) (v := nI 0) G dX10_doneBy_13 ic_0 ?_
  exact ax_iretE (pc := 14) G E rfl (rfl) dX10_doneBy_14 (rfl) (rfl)

theorem mq_doneBy_B {Ω : ax_O} (hA : ax_Amb Ω) {h : ax_H} {m : Nat} {μ : md_S} (hm : Ω.2.1.heap.size ≤ m) (h19 : μ.1 19 = nI 1) (k : Int32) (hb : pIn k (nI 0) (nI 3) = false) : ax_Met Ω yX10_doneBy 14 0 0 [.ref m, .int k] (md_H h m μ) (.inl (some (.int (nI 0)))) (md_H h m (md_si μ 0 (nI 2))) := by
  refine ax_met q3131 q142 (by decide +kernel) (by decide) hA (Nat.le_of_ble_eq_true rfl) (fun Γ G E => ?_)
  show ax_W Ω Γ 0 0 (md_H h m μ) 0 [some (.ref m), some (.int k), none, none] []
  refine ax_aload_n (pc := 0) G dX10_doneBy_0 rfl rfl ?_
  refine ax_iload_n (pc := 1) G dX10_doneBy_1 rfl rfl ?_
  refine ax_iconst (pc := 2) (v := nI 0) G dX10_doneBy_2 ic_0 ?_
  refine ax_iconst (pc := 3) (v := nI 3) G dX10_doneBy_3 ic_3 ?_
  refine ax_cS1 (pc := 4) (kb := 0) (nb := 0) G (mt_in hA k (nI 0) (nI 3)) lSX10_74 dX10_doneBy_4 rfl (by decide) (Nat.le_of_ble_eq_true rfl) rfl ?_
  refine ax_top (show Value.int (bI (pIn k (nI 0) (nI 3))) = .int (nI 0) from congrArg Value.int (by rw [hb]; rfl)) ?_
  refine ax_cV1 (pc := 7) (kb := 0) (nb := 0) G (mt_mayAskB hA (μ := μ) hm h19) lVX10_368_8 dX10_doneBy_7 md_obj rfl (by decide) (Nat.le_of_ble_eq_true rfl) rfl ?_
  show ax_W Ω Γ _ _ (md_H h m (md_si μ 0 (nI 2))) _ _ _
  refine ax_if_ne (pc := 10) (tgt := 15) G dX10_doneBy_10 rfl (fun c9 => absurd rfl c9) (fun _ => ?_)
  refine ax_iconst (pc := 13) (v := nI 0) G dX10_doneBy_13 ic_0 ?_
  exact ax_iretE (pc := 14) G E rfl (rfl) dX10_doneBy_14 (rfl) (rfl)

theorem mq_usedWith_Y {Ω : ax_O} (hA : ax_Amb Ω) {h : ax_H} {m : Nat} {μ : md_S} (hm : Ω.2.1.heap.size ≤ m) (h19 : μ.1 19 = nI 1) {P V O A : Nat} (hp : pWP (μ.2 2) P V O) (hs : pWS (μ.2 4) A) (k : Nat) (hka : 10 ≤ k) (hk : k ≤ 2000) : ax_Met Ω yX10_usedWith 14 0 0 [.ref m, .int (nI k)] (md_H h m μ) (.inl (some (.int (pEnd (μ.2 2) (μ.2 4) V A ((μ.2 4) 5) (nI k) 6)))) (md_H h m (mEnd (md_si μ 0 (nI 0)) V A ((μ.2 4) 5) (nI k))) := by
  refine ax_met q3143 q142 (by decide +kernel) (by decide) hA (Nat.le_of_ble_eq_true rfl) (fun Γ G E => ?_)
  show ax_W Ω Γ 0 0 (md_H h m μ) 0 [some (.ref m), some (.int (nI k))] []
  refine ax_aload_n (pc := 0) G dX10_usedWith_0 rfl rfl ?_
  refine ax_iload_n (pc := 1) G dX10_usedWith_1 rfl rfl ?_
  refine ax_bipush (pc := 2) (v := nI 10) G dX10_usedWith_2 ib_10 ?_
  refine ax_sipush (pc := 4) (v := nI 2000) G dX10_usedWith_4 is_2000 ?_
  refine ax_cS1 (pc := 7) (kb := 0) (nb := 0) G (mt_in hA (nI k) (nI 10) (nI 2000)) lSX10_74 dX10_usedWith_7 rfl (by decide) (Nat.le_of_ble_eq_true rfl) rfl ?_
  refine ax_top (show Value.int (bI (pIn (nI k) (nI 10) (nI 2000))) = .int (nI 1) from congrArg Value.int (by rw [pIn_c hka hk (by decide)]; rfl)) ?_
  refine ax_cV1 (pc := 10) (kb := 0) (nb := 0) G (mt_mayAskY hA (μ := μ) hm h19) lVX10_368_8 dX10_usedWith_10 md_obj rfl (by decide) (Nat.le_of_ble_eq_true rfl) rfl ?_
  show ax_W Ω Γ _ _ (md_H h m (md_si μ 0 (nI 0))) _ _ _
  refine ax_if_ne (pc := 13) (tgt := 18) G dX10_usedWith_13 rfl (fun _ => ?_) (fun c9 => absurd c9 (by decide))
  refine ax_aload_n (pc := 18) G dX10_usedWith_18 rfl rfl ?_
  refine ax_aload_n (pc := 19) G dX10_usedWith_19 rfl rfl ?_
  refine md_get (pc := 20) (v := .ref (m + 4)) G flX10_23_8 dX10_usedWith_20 rfl ?_
  refine ax_iconst (pc := 23) (v := nI 5) G dX10_usedWith_23 ic_5 ?_
  refine md_ld (pc := 24) (i := 5) (j := 4) G 627 dX10_usedWith_24 (by decide) (by decide) rfl rfl rfl (by omega) (by decide) ?_
  refine ax_iload_n (pc := 25) G dX10_usedWith_25 rfl rfl ?_
  refine ax_cV0 (pc := 26) (kb := 0) (nb := 0) G (mt_toEnd hA (h := h) (m := m) (μ := (md_si μ 0 (nI 0))) hm hp hs ((μ.2 4) 5) (nI k)) lVX10_394_8 dX10_usedWith_26 md_obj rfl (by decide) (Nat.le_of_ble_eq_true rfl) rfl ?_
  show ax_W Ω Γ _ _ (md_H h m (mEnd (md_si μ 0 (nI 0)) V A ((μ.2 4) 5) (nI k))) _ _ _
  refine ax_aload_n (pc := 29) G dX10_usedWith_29 rfl rfl ?_
  refine md_get (pc := 30) (v := .ref (m + 6)) G flX10_29_8 dX10_usedWith_30 rfl ?_
  refine ax_bipush (pc := 33) (v := nI 6) G dX10_usedWith_33 ib_6 ?_
  refine md_ld (pc := 35) (i := 6) (j := 6) G 627 dX10_usedWith_35 (by decide) (by decide) rfl rfl rfl (by omega) (by decide) ?_
  exact ax_iretE (pc := 36) G E rfl (rfl) dX10_usedWith_36 (rfl) (rfl)

theorem mq_usedWith_N {Ω : ax_O} (hA : ax_Amb Ω) {h : ax_H} {m : Nat} {μ : md_S} (hm : Ω.2.1.heap.size ≤ m) (h19 : μ.1 19 = nI 0) (k : Int32)  : ax_Met Ω yX10_usedWith 14 0 0 [.ref m, .int k] (md_H h m μ) (.inl (some (.int (nI 0)))) (md_H h m (md_si μ 0 (nI 1))) := by
  refine ax_met q3143 q142 (by decide +kernel) (by decide) hA (Nat.le_of_ble_eq_true rfl) (fun Γ G E => ?_)
  show ax_W Ω Γ 0 0 (md_H h m μ) 0 [some (.ref m), some (.int k)] []
  refine ax_aload_n (pc := 0) G dX10_usedWith_0 rfl rfl ?_
  refine ax_iload_n (pc := 1) G dX10_usedWith_1 rfl rfl ?_
  refine ax_bipush (pc := 2) (v := nI 10) G dX10_usedWith_2 ib_10 ?_
  refine ax_sipush (pc := 4) (v := nI 2000) G dX10_usedWith_4 is_2000 ?_
  refine ax_cS1 (pc := 7) (kb := 0) (nb := 0) G (mt_in hA k (nI 10) (nI 2000)) lSX10_74 dX10_usedWith_7 rfl (by decide) (Nat.le_of_ble_eq_true rfl) rfl ?_
  refine ax_cV1 (pc := 10) (kb := 0) (nb := 0) G (mt_mayAskN hA (μ := μ) hm h19 (pIn k (nI 10) (nI 2000))) lVX10_368_8 dX10_usedWith_10 md_obj rfl (by decide) (Nat.le_of_ble_eq_true rfl) rfl ?_
  show ax_W Ω Γ _ _ (md_H h m (md_si μ 0 (nI 1))) _ _ _
  refine ax_if_ne (pc := 13) (tgt := 18) G dX10_usedWith_13 rfl (fun c9 => absurd rfl c9) (fun _ => ?_)
  refine ax_iconst (pc := 16) (v := nI 0) G dX10_usedWith_16 ic_0 ?_
  exact ax_iretE (pc := 17) G E rfl (rfl) dX10_usedWith_17 (rfl) (rfl)

theorem mq_usedWith_B {Ω : ax_O} (hA : ax_Amb Ω) {h : ax_H} {m : Nat} {μ : md_S} (hm : Ω.2.1.heap.size ≤ m) (h19 : μ.1 19 = nI 1) (k : Int32) (hb : pIn k (nI 10) (nI 2000) = false) : ax_Met Ω yX10_usedWith 14 0 0 [.ref m, .int k] (md_H h m μ) (.inl (some (.int (nI 0)))) (md_H h m (md_si μ 0 (nI 2))) := by
  refine ax_met q3143 q142 (by decide +kernel) (by decide) hA (Nat.le_of_ble_eq_true rfl) (fun Γ G E => ?_)
  show ax_W Ω Γ 0 0 (md_H h m μ) 0 [some (.ref m), some (.int k)] []
  refine ax_aload_n (pc := 0) G dX10_usedWith_0 rfl rfl ?_
  refine ax_iload_n (pc := 1) G dX10_usedWith_1 rfl rfl ?_
  refine ax_bipush (pc := 2) (v := nI 10) G dX10_usedWith_2 ib_10 ?_
  refine ax_sipush (pc := 4) (v := nI 2000) G dX10_usedWith_4 is_2000 ?_
  refine ax_cS1 (pc := 7) (kb := 0) (nb := 0) G (mt_in hA k (nI 10) (nI 2000)) lSX10_74 dX10_usedWith_7 rfl (by decide) (Nat.le_of_ble_eq_true rfl) rfl ?_
  refine ax_top (show Value.int (bI (pIn k (nI 10) (nI 2000))) = .int (nI 0) from congrArg Value.int (by rw [hb]; rfl)) ?_
  refine ax_cV1 (pc := 10) (kb := 0) (nb := 0) G (mt_mayAskB hA (μ := μ) hm h19) lVX10_368_8 dX10_usedWith_10 md_obj rfl (by decide) (Nat.le_of_ble_eq_true rfl) rfl ?_
  show ax_W Ω Γ _ _ (md_H h m (md_si μ 0 (nI 2))) _ _ _
  refine ax_if_ne (pc := 13) (tgt := 18) G dX10_usedWith_13 rfl (fun c9 => absurd rfl c9) (fun _ => ?_)
  refine ax_iconst (pc := 16) (v := nI 0) G dX10_usedWith_16 ic_0 ?_
  exact ax_iretE (pc := 17) G E rfl (rfl) dX10_usedWith_17 (rfl) (rfl)

theorem mq_shortfall_Y {Ω : ax_O} (hA : ax_Amb Ω) {h : ax_H} {m : Nat} {μ : md_S} (hm : Ω.2.1.heap.size ≤ m) (h19 : μ.1 19 = nI 1) {P V O A : Nat} (hp : pWP (μ.2 2) P V O) (hs : pWS (μ.2 4) A) (k : Nat) (hk : k < P) : ax_Met Ω yX10_shortfall 14 0 0 [.ref m, .int (nI k)] (md_H h m μ) (.inl (some (.int (pLeft (pEnd (μ.2 2) (μ.2 4) V A ((μ.2 4) 5) ((μ.2 4) 15)) k)))) (md_H h m (mEnd (md_si μ 0 (nI 0)) V A ((μ.2 4) 5) ((μ.2 4) 15))) := by
  refine ax_met q3147 q142 (by decide +kernel) (by decide) hA (Nat.le_of_ble_eq_true rfl) (fun Γ G E => ?_)
  have hP9 := hp.lP
  show ax_W Ω Γ 0 0 (md_H h m μ) 0 [some (.ref m), some (.int (nI k))] []
  refine ax_aload_n (pc := 0) G dX10_shortfall_0 rfl rfl ?_
  refine ax_aload_n (pc := 1) G dX10_shortfall_1 rfl rfl ?_
  refine ax_iload_n (pc := 2) G dX10_shortfall_2 rfl rfl ?_
  refine ax_cV1 (pc := 3) (kb := 0) (nb := 0) G (mt_isProposal hA (μ := μ) (nI k)) lVX10_358_8 dX10_shortfall_3 md_obj rfl (by decide) (Nat.le_of_ble_eq_true rfl) rfl ?_
  refine ax_top (show Value.int (bI (pIn (nI k) (nI 0) ((μ.2 2) 10 - nI 1))) = .int (nI 1) from congrArg Value.int (by rw [pIn_k hp.hP hk (by have := hp.lP; omega)]; rfl)) ?_
  refine ax_cV1 (pc := 6) (kb := 0) (nb := 0) G (mt_mayAskY hA (μ := μ) hm h19) lVX10_368_8 dX10_shortfall_6 md_obj rfl (by decide) (Nat.le_of_ble_eq_true rfl) rfl ?_
  show ax_W Ω Γ _ _ (md_H h m (md_si μ 0 (nI 0))) _ _ _
  refine ax_if_ne (pc := 9) (tgt := 14) G dX10_shortfall_9 rfl (fun _ => ?_) (fun c9 => absurd c9 (by decide))
  refine ax_aload_n (pc := 14) G dX10_shortfall_14 rfl rfl ?_
  refine ax_aload_n (pc := 15) G dX10_shortfall_15 rfl rfl ?_
  refine md_get (pc := 16) (v := .ref (m + 4)) G flX10_23_8 dX10_shortfall_16 rfl ?_
  refine ax_iconst (pc := 19) (v := nI 5) G dX10_shortfall_19 ic_5 ?_
  refine md_ld (pc := 20) (i := 5) (j := 4) G 627 dX10_shortfall_20 (by decide) (by decide) rfl rfl rfl (by omega) (by decide) ?_
  refine ax_aload_n (pc := 21) G dX10_shortfall_21 rfl rfl ?_
  refine md_get (pc := 22) (v := .ref (m + 4)) G flX10_23_8 dX10_shortfall_22 rfl ?_
  refine ax_bipush (pc := 25) (v := nI 15) G dX10_shortfall_25 ib_15 ?_
  refine md_ld (pc := 27) (i := 15) (j := 4) G 627 dX10_shortfall_27 (by decide) (by decide) rfl rfl rfl (by omega) (by decide) ?_
  refine ax_cV0 (pc := 28) (kb := 0) (nb := 0) G (mt_toEnd hA (h := h) (m := m) (μ := (md_si μ 0 (nI 0))) hm hp hs ((μ.2 4) 5) ((μ.2 4) 15)) lVX10_394_8 dX10_shortfall_28 md_obj rfl (by decide) (Nat.le_of_ble_eq_true rfl) rfl ?_
  show ax_W Ω Γ _ _ (md_H h m (mEnd (md_si μ 0 (nI 0)) V A ((μ.2 4) 5) ((μ.2 4) 15))) _ _ _
  refine ax_aload_n (pc := 31) G dX10_shortfall_31 rfl rfl ?_
  refine md_get (pc := 32) (v := .ref (m + 6)) G flX10_29_8 dX10_shortfall_32 rfl ?_
  refine ax_iload_n (pc := 35) G dX10_shortfall_35 rfl rfl ?_
  refine ax_cS1 (pc := 36) (kb := 0) (nb := 0) G (md_ro (mt_leftTo hA (μ := (mEnd (md_si μ 0 (nI 0)) V A ((μ.2 4) 5) ((μ.2 4) 15))) (s := pEnd (μ.2 2) (μ.2 4) V A ((μ.2 4) 5) ((μ.2 4) 15)) (j := 6) (Or.inr rfl) k (by omega))) lSX10_259 dX10_shortfall_36 rfl (by decide) (Nat.le_of_ble_eq_true rfl) rfl ?_
  exact ax_iretE (pc := 39) G E rfl (rfl) dX10_shortfall_39 (rfl) (rfl)

theorem mq_shortfall_N {Ω : ax_O} (hA : ax_Amb Ω) {h : ax_H} {m : Nat} {μ : md_S} (hm : Ω.2.1.heap.size ≤ m) (h19 : μ.1 19 = nI 0) (k : Int32)  : ax_Met Ω yX10_shortfall 14 0 0 [.ref m, .int k] (md_H h m μ) (.inl (some (.int (nI 0)))) (md_H h m (md_si μ 0 (nI 1))) := by
  refine ax_met q3147 q142 (by decide +kernel) (by decide) hA (Nat.le_of_ble_eq_true rfl) (fun Γ G E => ?_)
  show ax_W Ω Γ 0 0 (md_H h m μ) 0 [some (.ref m), some (.int k)] []
  refine ax_aload_n (pc := 0) G dX10_shortfall_0 rfl rfl ?_
  refine ax_aload_n (pc := 1) G dX10_shortfall_1 rfl rfl ?_
  refine ax_iload_n (pc := 2) G dX10_shortfall_2 rfl rfl ?_
  refine ax_cV1 (pc := 3) (kb := 0) (nb := 0) G (mt_isProposal hA (μ := μ) k) lVX10_358_8 dX10_shortfall_3 md_obj rfl (by decide) (Nat.le_of_ble_eq_true rfl) rfl ?_
  refine ax_cV1 (pc := 6) (kb := 0) (nb := 0) G (mt_mayAskN hA (μ := μ) hm h19 (pIn k (nI 0) ((μ.2 2) 10 - nI 1))) lVX10_368_8 dX10_shortfall_6 md_obj rfl (by decide) (Nat.le_of_ble_eq_true rfl) rfl ?_
  show ax_W Ω Γ _ _ (md_H h m (md_si μ 0 (nI 1))) _ _ _
  refine ax_if_ne (pc := 9) (tgt := 14) G dX10_shortfall_9 rfl (fun c9 => absurd rfl c9) (fun _ => ?_)
  refine ax_iconst (pc := 12) (v := nI 0) G dX10_shortfall_12 ic_0 ?_
  exact ax_iretE (pc := 13) G E rfl (rfl) dX10_shortfall_13 (rfl) (rfl)

theorem mq_shortfall_B {Ω : ax_O} (hA : ax_Amb Ω) {h : ax_H} {m : Nat} {μ : md_S} (hm : Ω.2.1.heap.size ≤ m) (h19 : μ.1 19 = nI 1) (k : Int32) (hb : pIn k (nI 0) ((μ.2 2) 10 - nI 1) = false) : ax_Met Ω yX10_shortfall 14 0 0 [.ref m, .int k] (md_H h m μ) (.inl (some (.int (nI 0)))) (md_H h m (md_si μ 0 (nI 2))) := by
  refine ax_met q3147 q142 (by decide +kernel) (by decide) hA (Nat.le_of_ble_eq_true rfl) (fun Γ G E => ?_)
  show ax_W Ω Γ 0 0 (md_H h m μ) 0 [some (.ref m), some (.int k)] []
  refine ax_aload_n (pc := 0) G dX10_shortfall_0 rfl rfl ?_
  refine ax_aload_n (pc := 1) G dX10_shortfall_1 rfl rfl ?_
  refine ax_iload_n (pc := 2) G dX10_shortfall_2 rfl rfl ?_
  refine ax_cV1 (pc := 3) (kb := 0) (nb := 0) G (mt_isProposal hA (μ := μ) k) lVX10_358_8 dX10_shortfall_3 md_obj rfl (by decide) (Nat.le_of_ble_eq_true rfl) rfl ?_
  refine ax_top (show Value.int (bI (pIn k (nI 0) ((μ.2 2) 10 - nI 1))) = .int (nI 0) from congrArg Value.int (by rw [hb]; rfl)) ?_
  refine ax_cV1 (pc := 6) (kb := 0) (nb := 0) G (mt_mayAskB hA (μ := μ) hm h19) lVX10_368_8 dX10_shortfall_6 md_obj rfl (by decide) (Nat.le_of_ble_eq_true rfl) rfl ?_
  show ax_W Ω Γ _ _ (md_H h m (md_si μ 0 (nI 2))) _ _ _
  refine ax_if_ne (pc := 9) (tgt := 14) G dX10_shortfall_9 rfl (fun c9 => absurd rfl c9) (fun _ => ?_)
  refine ax_iconst (pc := 12) (v := nI 0) G dX10_shortfall_12 ic_0 ?_
  exact ax_iretE (pc := 13) G E rfl (rfl) dX10_shortfall_13 (rfl) (rfl)

theorem mq_run_Y {Ω : ax_O} (hA : ax_Amb Ω) {h : ax_H} {m : Nat} {μ : md_S} (hm : Ω.2.1.heap.size ≤ m) (h19 : μ.1 19 = nI 1) {P V O A : Nat} (hp : pWP (μ.2 2) P V O) (hs : pWS (μ.2 4) A) (u : Nat) (hu : u ≤ 8) (h18 : μ.1 18 = nI u) (k : Nat) (hka : 1 ≤ k) (hk : k ≤ 300) : ax_Met Ω yX10_run 14 0 0 [.ref m, .int (nI k)] (md_H h m μ) (.inl (some (.int (nI (pMany (μ.2 2) V A k (μ.2 4)).2)))) (md_H h m (md_sa (mAs (md_si (md_sa (md_si μ 0 (nI 0)) 7 (pRem (μ.2 7) (μ.2 4) u)) 18 (nI (pU u))) (pManyT (μ.2 2) V A k (μ.2 4) (mOwn (md_si (md_sa (md_si μ 0 (nI 0)) 7 (pRem (μ.2 7) (μ.2 4) u)) 18 (nI (pU u)))))) 4 (pMany (μ.2 2) V A k (μ.2 4)).1)) := by
  refine ax_met q3177 q142 (by decide +kernel) (by decide) hA (Nat.le_of_ble_eq_true rfl) (fun Γ G E => ?_)
  show ax_W Ω Γ 0 0 (md_H h m μ) 0 [some (.ref m), some (.int (nI k))] []
  refine ax_aload_n (pc := 0) G dX10_run_0 rfl rfl ?_
  refine ax_iload_n (pc := 1) G dX10_run_1 rfl rfl ?_
  refine ax_iconst (pc := 2) (v := nI 1) G dX10_run_2 ic_1 ?_
  refine ax_sipush (pc := 3) (v := nI 300) G dX10_run_3 is_300 ?_
  refine ax_cS1 (pc := 6) (kb := 0) (nb := 0) G (mt_in hA (nI k) (nI 1) (nI 300)) lSX10_74 dX10_run_6 rfl (by decide) (Nat.le_of_ble_eq_true rfl) rfl ?_
  refine ax_top (show Value.int (bI (pIn (nI k) (nI 1) (nI 300))) = .int (nI 1) from congrArg Value.int (by rw [pIn_c hka hk (by decide)]; rfl)) ?_
  refine ax_cV1 (pc := 9) (kb := 0) (nb := 0) G (mt_mayAskY hA (μ := μ) hm h19) lVX10_368_8 dX10_run_9 md_obj rfl (by decide) (Nat.le_of_ble_eq_true rfl) rfl ?_
  show ax_W Ω Γ _ _ (md_H h m (md_si μ 0 (nI 0))) _ _ _
  refine ax_if_ne (pc := 12) (tgt := 17) G dX10_run_12 rfl (fun _ => ?_) (fun c9 => absurd c9 (by decide))
  refine ax_aload_n (pc := 17) G dX10_run_17 rfl rfl ?_
  refine ax_cV0 (pc := 18) (kb := 0) (nb := 0) G (mt_rem hA (h := h) (m := m) (μ := (md_si μ 0 (nI 0))) hm u hu h18) lVX10_414_8 dX10_run_18 md_obj rfl (by decide) (Nat.le_of_ble_eq_true rfl) rfl ?_
  show ax_W Ω Γ _ _ (md_H h m (md_si (md_sa (md_si μ 0 (nI 0)) 7 (pRem (μ.2 7) (μ.2 4) u)) 18 (nI (pU u)))) _ _ _
  refine ax_aload_n (pc := 21) G dX10_run_21 rfl rfl ?_
  refine ax_aload_n (pc := 22) G dX10_run_22 rfl rfl ?_
  refine md_get (pc := 23) (v := .ref (m + 4)) G flX10_23_8 dX10_run_23 rfl ?_
  refine ax_iload_n (pc := 26) G dX10_run_26 rfl rfl ?_
  refine ax_cV1 (pc := 27) (kb := 0) (nb := 0) G (mt_stepsManyR hA (h := h) (m := m) (μ := (md_si (md_sa (md_si μ 0 (nI 0)) 7 (pRem (μ.2 7) (μ.2 4) u)) 18 (nI (pU u)))) hm (j := 4) (Or.inl rfl) hp hs k (by omega)) lVX10_352_8 dX10_run_27 md_obj rfl (by decide) (Nat.le_of_ble_eq_true rfl) rfl ?_
  show ax_W Ω Γ _ _ (md_H h m (md_sa (mAs (md_si (md_sa (md_si μ 0 (nI 0)) 7 (pRem (μ.2 7) (μ.2 4) u)) 18 (nI (pU u))) (pManyT (μ.2 2) V A k (μ.2 4) (mOwn (md_si (md_sa (md_si μ 0 (nI 0)) 7 (pRem (μ.2 7) (μ.2 4) u)) 18 (nI (pU u)))))) 4 (pMany (μ.2 2) V A k (μ.2 4)).1)) _ _ _
  exact ax_iretE (pc := 30) G E rfl (rfl) dX10_run_30 (rfl) (rfl)

theorem mq_run_N {Ω : ax_O} (hA : ax_Amb Ω) {h : ax_H} {m : Nat} {μ : md_S} (hm : Ω.2.1.heap.size ≤ m) (h19 : μ.1 19 = nI 0) (k : Int32)  : ax_Met Ω yX10_run 14 0 0 [.ref m, .int k] (md_H h m μ) (.inl (some (.int (nI 0)))) (md_H h m (md_si μ 0 (nI 1))) := by
  refine ax_met q3177 q142 (by decide +kernel) (by decide) hA (Nat.le_of_ble_eq_true rfl) (fun Γ G E => ?_)
  show ax_W Ω Γ 0 0 (md_H h m μ) 0 [some (.ref m), some (.int k)] []
  refine ax_aload_n (pc := 0) G dX10_run_0 rfl rfl ?_
  refine ax_iload_n (pc := 1) G dX10_run_1 rfl rfl ?_
  refine ax_iconst (pc := 2) (v := nI 1) G dX10_run_2 ic_1 ?_
  refine ax_sipush (pc := 3) (v := nI 300) G dX10_run_3 is_300 ?_
  refine ax_cS1 (pc := 6) (kb := 0) (nb := 0) G (mt_in hA k (nI 1) (nI 300)) lSX10_74 dX10_run_6 rfl (by decide) (Nat.le_of_ble_eq_true rfl) rfl ?_
  refine ax_cV1 (pc := 9) (kb := 0) (nb := 0) G (mt_mayAskN hA (μ := μ) hm h19 (pIn k (nI 1) (nI 300))) lVX10_368_8 dX10_run_9 md_obj rfl (by decide) (Nat.le_of_ble_eq_true rfl) rfl ?_
  show ax_W Ω Γ _ _ (md_H h m (md_si μ 0 (nI 1))) _ _ _
  refine ax_if_ne (pc := 12) (tgt := 17) G dX10_run_12 rfl (fun c9 => absurd rfl c9) (fun _ => ?_)
  refine ax_iconst (pc := 15) (v := nI 0) G dX10_run_15 ic_0 ?_
  exact ax_iretE (pc := 16) G E rfl (rfl) dX10_run_16 (rfl) (rfl)

theorem mq_run_B {Ω : ax_O} (hA : ax_Amb Ω) {h : ax_H} {m : Nat} {μ : md_S} (hm : Ω.2.1.heap.size ≤ m) (h19 : μ.1 19 = nI 1) (k : Int32) (hb : pIn k (nI 1) (nI 300) = false) : ax_Met Ω yX10_run 14 0 0 [.ref m, .int k] (md_H h m μ) (.inl (some (.int (nI 0)))) (md_H h m (md_si μ 0 (nI 2))) := by
  refine ax_met q3177 q142 (by decide +kernel) (by decide) hA (Nat.le_of_ble_eq_true rfl) (fun Γ G E => ?_)
  show ax_W Ω Γ 0 0 (md_H h m μ) 0 [some (.ref m), some (.int k)] []
  refine ax_aload_n (pc := 0) G dX10_run_0 rfl rfl ?_
  refine ax_iload_n (pc := 1) G dX10_run_1 rfl rfl ?_
  refine ax_iconst (pc := 2) (v := nI 1) G dX10_run_2 ic_1 ?_
  refine ax_sipush (pc := 3) (v := nI 300) G dX10_run_3 is_300 ?_
  refine ax_cS1 (pc := 6) (kb := 0) (nb := 0) G (mt_in hA k (nI 1) (nI 300)) lSX10_74 dX10_run_6 rfl (by decide) (Nat.le_of_ble_eq_true rfl) rfl ?_
  refine ax_top (show Value.int (bI (pIn k (nI 1) (nI 300))) = .int (nI 0) from congrArg Value.int (by rw [hb]; rfl)) ?_
  refine ax_cV1 (pc := 9) (kb := 0) (nb := 0) G (mt_mayAskB hA (μ := μ) hm h19) lVX10_368_8 dX10_run_9 md_obj rfl (by decide) (Nat.le_of_ble_eq_true rfl) rfl ?_
  show ax_W Ω Γ _ _ (md_H h m (md_si μ 0 (nI 2))) _ _ _
  refine ax_if_ne (pc := 12) (tgt := 17) G dX10_run_12 rfl (fun c9 => absurd rfl c9) (fun _ => ?_)
  refine ax_iconst (pc := 15) (v := nI 0) G dX10_run_15 ic_0 ?_
  exact ax_iretE (pc := 16) G E rfl (rfl) dX10_run_16 (rfl) (rfl)

theorem mq_setPolicy_Y {Ω : ax_O} (hA : ax_Amb Ω) {h : ax_H} {m : Nat} {μ : md_S} (hm : Ω.2.1.heap.size ≤ m) (h19 : μ.1 19 = nI 1) {P V O A : Nat} (hp : pWP (μ.2 2) P V O) (hs : pWS (μ.2 4) A) (u : Nat) (hu : u ≤ 8) (h18 : μ.1 18 = nI u) (k : Nat) (hk : k ≤ 3) : ax_Met Ω yX10_setPolicy 14 0 0 [.ref m, .int (nI k)] (md_H h m μ) (.inl (some (.int ((μ.2 4) 5)))) (md_H h m (md_sa (md_si (md_sa (md_si μ 0 (nI 0)) 7 (pRem (μ.2 7) (μ.2 4) u)) 18 (nI (pU u))) 4 (upd (μ.2 4) 5 (nI k)))) := by
  refine ax_met q3185 q142 (by decide +kernel) (by decide) hA (Nat.le_of_ble_eq_true rfl) (fun Γ G E => ?_)
  show ax_W Ω Γ 0 0 (md_H h m μ) 0 [some (.ref m), some (.int (nI k))] []
  refine ax_aload_n (pc := 0) G dX10_setPolicy_0 rfl rfl ?_
  refine ax_iload_n (pc := 1) G dX10_setPolicy_1 rfl rfl ?_
  refine ax_iconst (pc := 2) (v := nI 0) G dX10_setPolicy_2 ic_0 ?_
  refine ax_iconst (pc := 3) (v := nI 3) G dX10_setPolicy_3 ic_3 ?_
  refine ax_cS1 (pc := 4) (kb := 0) (nb := 0) G (mt_in hA (nI k) (nI 0) (nI 3)) lSX10_74 dX10_setPolicy_4 rfl (by decide) (Nat.le_of_ble_eq_true rfl) rfl ?_
  refine ax_top (show Value.int (bI (pIn (nI k) (nI 0) (nI 3))) = .int (nI 1) from congrArg Value.int (by rw [pIn_c (Nat.zero_le _) hk (by decide)]; rfl)) ?_
  refine ax_cV1 (pc := 7) (kb := 0) (nb := 0) G (mt_mayAskY hA (μ := μ) hm h19) lVX10_368_8 dX10_setPolicy_7 md_obj rfl (by decide) (Nat.le_of_ble_eq_true rfl) rfl ?_
  show ax_W Ω Γ _ _ (md_H h m (md_si μ 0 (nI 0))) _ _ _
  refine ax_if_eq (pc := 10) (tgt := 22) G dX10_setPolicy_10 rfl (fun c9 => absurd c9 (by decide)) (fun _ => ?_)
  refine ax_aload_n (pc := 13) G dX10_setPolicy_13 rfl rfl ?_
  refine ax_iconst (pc := 14) (v := nI 5) G dX10_setPolicy_14 ic_5 ?_
  refine ax_iload_n (pc := 15) G dX10_setPolicy_15 rfl rfl ?_
  refine ax_cV1 (pc := 16) (kb := 0) (nb := 0) G (mt_sets hA (h := h) (m := m) (μ := (md_si μ 0 (nI 0))) hm u hu h18 5 (by omega) (nI k)) lVX10_417_8 dX10_setPolicy_16 md_obj rfl (by decide) (Nat.le_of_ble_eq_true rfl) rfl ?_
  show ax_W Ω Γ _ _ (md_H h m (md_sa (md_si (md_sa (md_si μ 0 (nI 0)) 7 (pRem (μ.2 7) (μ.2 4) u)) 18 (nI (pU u))) 4 (upd (μ.2 4) 5 (nI k)))) _ _ _
  refine ax_goto (pc := 19) (tgt := 23) G dX10_setPolicy_19 rfl ?_
  exact ax_iretE (pc := 23) G E rfl (rfl) dX10_setPolicy_23 (rfl) (rfl)

theorem mq_setPolicy_N {Ω : ax_O} (hA : ax_Amb Ω) {h : ax_H} {m : Nat} {μ : md_S} (hm : Ω.2.1.heap.size ≤ m) (h19 : μ.1 19 = nI 0) (k : Int32)  : ax_Met Ω yX10_setPolicy 14 0 0 [.ref m, .int k] (md_H h m μ) (.inl (some (.int (nI 0)))) (md_H h m (md_si μ 0 (nI 1))) := by
  refine ax_met q3185 q142 (by decide +kernel) (by decide) hA (Nat.le_of_ble_eq_true rfl) (fun Γ G E => ?_)
  show ax_W Ω Γ 0 0 (md_H h m μ) 0 [some (.ref m), some (.int k)] []
  refine ax_aload_n (pc := 0) G dX10_setPolicy_0 rfl rfl ?_
  refine ax_iload_n (pc := 1) G dX10_setPolicy_1 rfl rfl ?_
  refine ax_iconst (pc := 2) (v := nI 0) G dX10_setPolicy_2 ic_0 ?_
  refine ax_iconst (pc := 3) (v := nI 3) G dX10_setPolicy_3 ic_3 ?_
  refine ax_cS1 (pc := 4) (kb := 0) (nb := 0) G (mt_in hA k (nI 0) (nI 3)) lSX10_74 dX10_setPolicy_4 rfl (by decide) (Nat.le_of_ble_eq_true rfl) rfl ?_
  refine ax_cV1 (pc := 7) (kb := 0) (nb := 0) G (mt_mayAskN hA (μ := μ) hm h19 (pIn k (nI 0) (nI 3))) lVX10_368_8 dX10_setPolicy_7 md_obj rfl (by decide) (Nat.le_of_ble_eq_true rfl) rfl ?_
  show ax_W Ω Γ _ _ (md_H h m (md_si μ 0 (nI 1))) _ _ _
  refine ax_if_eq (pc := 10) (tgt := 22) G dX10_setPolicy_10 rfl (fun _ => ?_) (fun c9 => absurd rfl c9)
  refine ax_iconst (pc := 22) (v := nI 0) G dX10_setPolicy_22 ic_0 ?_
  exact ax_iretE (pc := 23) G E rfl (rfl) dX10_setPolicy_23 (rfl) (rfl)

theorem mq_setPolicy_B {Ω : ax_O} (hA : ax_Amb Ω) {h : ax_H} {m : Nat} {μ : md_S} (hm : Ω.2.1.heap.size ≤ m) (h19 : μ.1 19 = nI 1) (k : Int32) (hb : pIn k (nI 0) (nI 3) = false) : ax_Met Ω yX10_setPolicy 14 0 0 [.ref m, .int k] (md_H h m μ) (.inl (some (.int (nI 0)))) (md_H h m (md_si μ 0 (nI 2))) := by
  refine ax_met q3185 q142 (by decide +kernel) (by decide) hA (Nat.le_of_ble_eq_true rfl) (fun Γ G E => ?_)
  show ax_W Ω Γ 0 0 (md_H h m μ) 0 [some (.ref m), some (.int k)] []
  refine ax_aload_n (pc := 0) G dX10_setPolicy_0 rfl rfl ?_
  refine ax_iload_n (pc := 1) G dX10_setPolicy_1 rfl rfl ?_
  refine ax_iconst (pc := 2) (v := nI 0) G dX10_setPolicy_2 ic_0 ?_
  refine ax_iconst (pc := 3) (v := nI 3) G dX10_setPolicy_3 ic_3 ?_
  refine ax_cS1 (pc := 4) (kb := 0) (nb := 0) G (mt_in hA k (nI 0) (nI 3)) lSX10_74 dX10_setPolicy_4 rfl (by decide) (Nat.le_of_ble_eq_true rfl) rfl ?_
  refine ax_top (show Value.int (bI (pIn k (nI 0) (nI 3))) = .int (nI 0) from congrArg Value.int (by rw [hb]; rfl)) ?_
  refine ax_cV1 (pc := 7) (kb := 0) (nb := 0) G (mt_mayAskB hA (μ := μ) hm h19) lVX10_368_8 dX10_setPolicy_7 md_obj rfl (by decide) (Nat.le_of_ble_eq_true rfl) rfl ?_
  show ax_W Ω Γ _ _ (md_H h m (md_si μ 0 (nI 2))) _ _ _
  refine ax_if_eq (pc := 10) (tgt := 22) G dX10_setPolicy_10 rfl (fun _ => ?_) (fun c9 => absurd rfl c9)
  refine ax_iconst (pc := 22) (v := nI 0) G dX10_setPolicy_22 ic_0 ?_
  exact ax_iretE (pc := 23) G E rfl (rfl) dX10_setPolicy_23 (rfl) (rfl)

theorem mq_setPriority_Y {Ω : ax_O} (hA : ax_Amb Ω) {h : ax_H} {m : Nat} {μ : md_S} (hm : Ω.2.1.heap.size ≤ m) (h19 : μ.1 19 = nI 1) {P V O A : Nat} (hp : pWP (μ.2 2) P V O) (hs : pWS (μ.2 4) A) (u : Nat) (hu : u ≤ 8) (h18 : μ.1 18 = nI u) (k : Nat) (hk : k < V) (w : Nat) (hwa : 1 ≤ w) (hw : w ≤ 9) : ax_Met Ω yX10_setPriority 14 0 0 [.ref m, .int (nI k), .int (nI w)] (md_H h m μ) (.inl (some (.int ((μ.2 4) (107 + k))))) (md_H h m (md_sa (md_si (md_sa (md_si μ 0 (nI 0)) 7 (pRem (μ.2 7) (μ.2 4) u)) 18 (nI (pU u))) 4 (upd (μ.2 4) (107 + k) (nI w)))) := by
  refine ax_met q3205 q142 (by decide +kernel) (by decide) hA (Nat.le_of_ble_eq_true rfl) (fun Γ G E => ?_)
  have hV9 := hp.lV
  show ax_W Ω Γ 0 0 (md_H h m μ) 0 [some (.ref m), some (.int (nI k)), some (.int (nI w))] []
  refine ax_aload_n (pc := 0) G dX10_setPriority_0 rfl rfl ?_
  refine ax_aload_n (pc := 1) G dX10_setPriority_1 rfl rfl ?_
  refine ax_iload_n (pc := 2) G dX10_setPriority_2 rfl rfl ?_
  refine ax_cV1 (pc := 3) (kb := 0) (nb := 0) G (mt_isVisit hA (μ := μ) (nI k)) lVX10_372_8 dX10_setPriority_3 md_obj rfl (by decide) (Nat.le_of_ble_eq_true rfl) rfl ?_
  refine ax_top (show Value.int (bI (pIn (nI k) (nI 0) ((μ.2 2) 65 - nI 1))) = .int (nI 1) from congrArg Value.int (by rw [pIn_k hp.hV hk (by have := hp.lV; omega)]; rfl)) ?_
  refine ax_iload_n (pc := 6) G dX10_setPriority_6 rfl rfl ?_
  refine ax_iconst (pc := 7) (v := nI 1) G dX10_setPriority_7 ic_1 ?_
  refine ax_bipush (pc := 8) (v := nI 9) G dX10_setPriority_8 ib_9 ?_
  refine ax_cS1 (pc := 10) (kb := 0) (nb := 0) G (mt_in hA (nI w) (nI 1) (nI 9)) lSX10_74 dX10_setPriority_10 rfl (by decide) (Nat.le_of_ble_eq_true rfl) rfl ?_
  refine ax_top (show Value.int (bI (pIn (nI w) (nI 1) (nI 9))) = .int (nI 1) from congrArg Value.int (by rw [pIn_c hwa hw (by decide)]; rfl)) ?_
  refine ax_cV1 (pc := 13) (kb := 0) (nb := 0) G (mt_mayAskForY hA (μ := μ) hm h19) lVX10_361_8 dX10_setPriority_13 md_obj rfl (by decide) (Nat.le_of_ble_eq_true rfl) rfl ?_
  show ax_W Ω Γ _ _ (md_H h m (md_si μ 0 (nI 0))) _ _ _
  refine ax_if_eq (pc := 16) (tgt := 31) G dX10_setPriority_16 rfl (fun c9 => absurd c9 (by decide)) (fun _ => ?_)
  refine ax_aload_n (pc := 19) G dX10_setPriority_19 rfl rfl ?_
  refine ax_bipush (pc := 20) (v := nI 107) G dX10_setPriority_20 ib_107 ?_
  refine ax_iload_n (pc := 22) G dX10_setPriority_22 rfl rfl ?_
  refine ax_iaddN (pc := 23) G dX10_setPriority_23 ?_
  refine ax_iload_n (pc := 24) G dX10_setPriority_24 rfl rfl ?_
  refine ax_cV1 (pc := 25) (kb := 0) (nb := 0) G (mt_sets hA (h := h) (m := m) (μ := (md_si μ 0 (nI 0))) hm u hu h18 (107 + k) (by omega) (nI w)) lVX10_417_8 dX10_setPriority_25 md_obj rfl (by decide) (Nat.le_of_ble_eq_true rfl) rfl ?_
  show ax_W Ω Γ _ _ (md_H h m (md_sa (md_si (md_sa (md_si μ 0 (nI 0)) 7 (pRem (μ.2 7) (μ.2 4) u)) 18 (nI (pU u))) 4 (upd (μ.2 4) (107 + k) (nI w)))) _ _ _
  refine ax_goto (pc := 28) (tgt := 32) G dX10_setPriority_28 rfl ?_
  exact ax_iretE (pc := 32) G E rfl (rfl) dX10_setPriority_32 (rfl) (rfl)

theorem mq_setPriority_N {Ω : ax_O} (hA : ax_Amb Ω) {h : ax_H} {m : Nat} {μ : md_S} (hm : Ω.2.1.heap.size ≤ m) (h19 : μ.1 19 = nI 0) (k : Int32) (w : Int32)  : ax_Met Ω yX10_setPriority 14 0 0 [.ref m, .int k, .int w] (md_H h m μ) (.inl (some (.int (nI 0)))) (md_H h m (md_si μ 0 (nI 1))) := by
  refine ax_met q3205 q142 (by decide +kernel) (by decide) hA (Nat.le_of_ble_eq_true rfl) (fun Γ G E => ?_)
  show ax_W Ω Γ 0 0 (md_H h m μ) 0 [some (.ref m), some (.int k), some (.int w)] []
  refine ax_aload_n (pc := 0) G dX10_setPriority_0 rfl rfl ?_
  refine ax_aload_n (pc := 1) G dX10_setPriority_1 rfl rfl ?_
  refine ax_iload_n (pc := 2) G dX10_setPriority_2 rfl rfl ?_
  refine ax_cV1 (pc := 3) (kb := 0) (nb := 0) G (mt_isVisit hA (μ := μ) k) lVX10_372_8 dX10_setPriority_3 md_obj rfl (by decide) (Nat.le_of_ble_eq_true rfl) rfl ?_
  refine ax_iload_n (pc := 6) G dX10_setPriority_6 rfl rfl ?_
  refine ax_iconst (pc := 7) (v := nI 1) G dX10_setPriority_7 ic_1 ?_
  refine ax_bipush (pc := 8) (v := nI 9) G dX10_setPriority_8 ib_9 ?_
  refine ax_cS1 (pc := 10) (kb := 0) (nb := 0) G (mt_in hA w (nI 1) (nI 9)) lSX10_74 dX10_setPriority_10 rfl (by decide) (Nat.le_of_ble_eq_true rfl) rfl ?_
  refine ax_cV1 (pc := 13) (kb := 0) (nb := 0) G (mt_mayAskForN hA (μ := μ) hm h19 (pIn k (nI 0) ((μ.2 2) 65 - nI 1)) (pIn w (nI 1) (nI 9))) lVX10_361_8 dX10_setPriority_13 md_obj rfl (by decide) (Nat.le_of_ble_eq_true rfl) rfl ?_
  show ax_W Ω Γ _ _ (md_H h m (md_si μ 0 (nI 1))) _ _ _
  refine ax_if_eq (pc := 16) (tgt := 31) G dX10_setPriority_16 rfl (fun _ => ?_) (fun c9 => absurd rfl c9)
  refine ax_iconst (pc := 31) (v := nI 0) G dX10_setPriority_31 ic_0 ?_
  exact ax_iretE (pc := 32) G E rfl (rfl) dX10_setPriority_32 (rfl) (rfl)

theorem mq_setPriority_B {Ω : ax_O} (hA : ax_Amb Ω) {h : ax_H} {m : Nat} {μ : md_S} (hm : Ω.2.1.heap.size ≤ m) (h19 : μ.1 19 = nI 1) (k w : Int32) (hb : pIn k (nI 0) ((μ.2 2) 65 - nI 1) = false) : ax_Met Ω yX10_setPriority 14 0 0 [.ref m, .int k, .int w] (md_H h m μ) (.inl (some (.int (nI 0)))) (md_H h m (md_si μ 0 (nI 2))) := by
  refine ax_met q3205 q142 (by decide +kernel) (by decide) hA (Nat.le_of_ble_eq_true rfl) (fun Γ G E => ?_)
  show ax_W Ω Γ 0 0 (md_H h m μ) 0 [some (.ref m), some (.int k), some (.int w)] []
  refine ax_aload_n (pc := 0) G dX10_setPriority_0 rfl rfl ?_
  refine ax_aload_n (pc := 1) G dX10_setPriority_1 rfl rfl ?_
  refine ax_iload_n (pc := 2) G dX10_setPriority_2 rfl rfl ?_
  refine ax_cV1 (pc := 3) (kb := 0) (nb := 0) G (mt_isVisit hA (μ := μ) k) lVX10_372_8 dX10_setPriority_3 md_obj rfl (by decide) (Nat.le_of_ble_eq_true rfl) rfl ?_
  refine ax_top (show Value.int (bI (pIn k (nI 0) ((μ.2 2) 65 - nI 1))) = .int (nI 0) from congrArg Value.int (by rw [hb]; rfl)) ?_
  refine ax_iload_n (pc := 6) G dX10_setPriority_6 rfl rfl ?_
  refine ax_iconst (pc := 7) (v := nI 1) G dX10_setPriority_7 ic_1 ?_
  refine ax_bipush (pc := 8) (v := nI 9) G dX10_setPriority_8 ib_9 ?_
  refine ax_cS1 (pc := 10) (kb := 0) (nb := 0) G (mt_in hA w (nI 1) (nI 9)) lSX10_74 dX10_setPriority_10 rfl (by decide) (Nat.le_of_ble_eq_true rfl) rfl ?_
  refine ax_cV1 (pc := 13) (kb := 0) (nb := 0) G (mt_mayAskForB hA (μ := μ) hm h19 (pIn w (nI 1) (nI 9))) lVX10_361_8 dX10_setPriority_13 md_obj rfl (by decide) (Nat.le_of_ble_eq_true rfl) rfl ?_
  show ax_W Ω Γ _ _ (md_H h m (md_si μ 0 (nI 2))) _ _ _
  refine ax_if_eq (pc := 16) (tgt := 31) G dX10_setPriority_16 rfl (fun _ => ?_) (fun c9 => absurd rfl c9)
  refine ax_iconst (pc := 31) (v := nI 0) G dX10_setPriority_31 ic_0 ?_
  exact ax_iretE (pc := 32) G E rfl (rfl) dX10_setPriority_32 (rfl) (rfl)

theorem mq_setPriority_C {Ω : ax_O} (hA : ax_Amb Ω) {h : ax_H} {m : Nat} {μ : md_S} (hm : Ω.2.1.heap.size ≤ m) (h19 : μ.1 19 = nI 1) {P V O A : Nat} (hp : pWP (μ.2 2) P V O) (hs : pWS (μ.2 4) A) (k : Nat) (hk : k < V) (w : Int32) (hb : pIn w (nI 1) (nI 9) = false) : ax_Met Ω yX10_setPriority 14 0 0 [.ref m, .int (nI k), .int w] (md_H h m μ) (.inl (some (.int (nI 0)))) (md_H h m (md_si μ 0 (nI 3))) := by
  refine ax_met q3205 q142 (by decide +kernel) (by decide) hA (Nat.le_of_ble_eq_true rfl) (fun Γ G E => ?_)
  show ax_W Ω Γ 0 0 (md_H h m μ) 0 [some (.ref m), some (.int (nI k)), some (.int w)] []
  refine ax_aload_n (pc := 0) G dX10_setPriority_0 rfl rfl ?_
  refine ax_aload_n (pc := 1) G dX10_setPriority_1 rfl rfl ?_
  refine ax_iload_n (pc := 2) G dX10_setPriority_2 rfl rfl ?_
  refine ax_cV1 (pc := 3) (kb := 0) (nb := 0) G (mt_isVisit hA (μ := μ) (nI k)) lVX10_372_8 dX10_setPriority_3 md_obj rfl (by decide) (Nat.le_of_ble_eq_true rfl) rfl ?_
  refine ax_top (show Value.int (bI (pIn (nI k) (nI 0) ((μ.2 2) 65 - nI 1))) = .int (nI 1) from congrArg Value.int (by rw [pIn_k hp.hV hk (by have := hp.lV; omega)]; rfl)) ?_
  refine ax_iload_n (pc := 6) G dX10_setPriority_6 rfl rfl ?_
  refine ax_iconst (pc := 7) (v := nI 1) G dX10_setPriority_7 ic_1 ?_
  refine ax_bipush (pc := 8) (v := nI 9) G dX10_setPriority_8 ib_9 ?_
  refine ax_cS1 (pc := 10) (kb := 0) (nb := 0) G (mt_in hA w (nI 1) (nI 9)) lSX10_74 dX10_setPriority_10 rfl (by decide) (Nat.le_of_ble_eq_true rfl) rfl ?_
  refine ax_top (show Value.int (bI (pIn w (nI 1) (nI 9))) = .int (nI 0) from congrArg Value.int (by rw [hb]; rfl)) ?_
  refine ax_cV1 (pc := 13) (kb := 0) (nb := 0) G (mt_mayAskForC hA (μ := μ) hm h19) lVX10_361_8 dX10_setPriority_13 md_obj rfl (by decide) (Nat.le_of_ble_eq_true rfl) rfl ?_
  show ax_W Ω Γ _ _ (md_H h m (md_si μ 0 (nI 3))) _ _ _
  refine ax_if_eq (pc := 16) (tgt := 31) G dX10_setPriority_16 rfl (fun _ => ?_) (fun c9 => absurd rfl c9)
  refine ax_iconst (pc := 31) (v := nI 0) G dX10_setPriority_31 ic_0 ?_
  exact ax_iretE (pc := 32) G E rfl (rfl) dX10_setPriority_32 (rfl) (rfl)

theorem mt_turns0_Y {Ω : ax_O} (hA : ax_Amb Ω) {h : ax_H} {m : Nat} {μ : md_S} (hm : Ω.2.1.heap.size ≤ m) (h19 : μ.1 19 = nI 1) {P V O A : Nat} (hp : pWP (μ.2 2) P V O) (hs : pWS (μ.2 4) A) (u : Nat) (hu : u ≤ 8) (h18 : μ.1 18 = nI u) (k : Nat) (hk : k < V) (hst : (μ.2 4) (47 + k) = nI 0) : ax_Met Ω yX10_turns 10 0 0 [.ref m, .int (nI k), .int (nI 0), .int (nI 2)] (md_H h m μ) (.inl (some (.int (nI 1)))) (md_H h m (md_sa (md_si (md_sa (md_si μ 0 (nI 0)) 7 (pRem (μ.2 7) (μ.2 4) u)) 18 (nI (pU u))) 4 (upd (μ.2 4) (47 + k) (nI 2)))) := by
  refine ax_met q3197 q142 (by decide +kernel) (by decide) hA (Nat.le_of_ble_eq_true rfl) (fun Γ G E => ?_)
  have hV9 := hp.lV
  show ax_W Ω Γ 0 0 (md_H h m μ) 0 [some (.ref m), some (.int (nI k)), some (.int (nI 0)), some (.int (nI 2))] []
  refine ax_aload_n (pc := 0) G dX10_turns_0 rfl rfl ?_
  refine ax_aload_n (pc := 1) G dX10_turns_1 rfl rfl ?_
  refine ax_iload_n (pc := 2) G dX10_turns_2 rfl rfl ?_
  refine ax_cV1 (pc := 3) (kb := 0) (nb := 0) G (mt_isVisit hA (μ := μ) (nI k)) lVX10_372_8 dX10_turns_3 md_obj rfl (by decide) (Nat.le_of_ble_eq_true rfl) rfl ?_
  refine ax_top (show Value.int (bI (pIn (nI k) (nI 0) ((μ.2 2) 65 - nI 1))) = .int (nI 1) from congrArg Value.int (by rw [pIn_k hp.hV hk (by have := hp.lV; omega)]; rfl)) ?_
  refine ax_cV1 (pc := 6) (kb := 0) (nb := 0) G (mt_mayAskY hA (μ := μ) hm h19) lVX10_368_8 dX10_turns_6 md_obj rfl (by decide) (Nat.le_of_ble_eq_true rfl) rfl ?_
  show ax_W Ω Γ _ _ (md_H h m (md_si μ 0 (nI 0))) _ _ _
  refine ax_if_eq (pc := 9) (tgt := 42) G dX10_turns_9 rfl (fun c9 => absurd c9 (by decide)) (fun _ => ?_)
  refine ax_aload_n (pc := 12) G dX10_turns_12 rfl rfl ?_
  refine md_get (pc := 13) (v := .ref (m + 4)) G flX10_23_8 dX10_turns_13 rfl ?_
  refine ax_bipush (pc := 16) (v := nI 47) G dX10_turns_16 ib_47 ?_
  refine ax_iload_n (pc := 18) G dX10_turns_18 rfl rfl ?_
  refine ax_iaddN (pc := 19) G dX10_turns_19 ?_
  refine md_ld (pc := 20) (i := 47 + k) (j := 4) G 627 dX10_turns_20 (by decide) (by decide) rfl rfl rfl (by omega) (by decide) ?_
  refine ax_top (show Value.int ((μ.2 4) (47 + k)) = .int (nI 0) from congrArg Value.int (hst)) ?_
  refine ax_iload_n (pc := 21) G dX10_turns_21 rfl rfl ?_
  refine ax_icmp_ne (pc := 22) (tgt := 42) G dX10_turns_22 rfl (fun c9 => absurd c9 (by decide)) (fun _ => ?_)
  refine ax_aload_n (pc := 25) G dX10_turns_25 rfl rfl ?_
  refine ax_bipush (pc := 26) (v := nI 47) G dX10_turns_26 ib_47 ?_
  refine ax_iload_n (pc := 28) G dX10_turns_28 rfl rfl ?_
  refine ax_iaddN (pc := 29) G dX10_turns_29 ?_
  refine ax_iload_n (pc := 30) G dX10_turns_30 rfl rfl ?_
  refine ax_cV1 (pc := 31) (kb := 0) (nb := 0) G (mt_sets hA (h := h) (m := m) (μ := (md_si μ 0 (nI 0))) hm u hu h18 (47 + k) (by omega) (nI 2)) lVX10_417_8 dX10_turns_31 md_obj rfl (by decide) (Nat.le_of_ble_eq_true rfl) rfl ?_
  show ax_W Ω Γ _ _ (md_H h m (md_sa (md_si (md_sa (md_si μ 0 (nI 0)) 7 (pRem (μ.2 7) (μ.2 4) u)) 18 (nI (pU u))) 4 (upd (μ.2 4) (47 + k) (nI 2)))) _ _ _
  refine ax_top (show Value.int ((μ.2 4) (47 + k)) = .int (nI 0) from congrArg Value.int (hst)) ?_
  refine ax_iload_n (pc := 34) G dX10_turns_34 rfl rfl ?_
  refine ax_icmp_ne (pc := 35) (tgt := 42) G dX10_turns_35 rfl (fun c9 => absurd c9 (by decide)) (fun _ => ?_)
  refine ax_iconst (pc := 38) (v := nI 1) G dX10_turns_38 ic_1 ?_
  refine ax_goto (pc := 39) (tgt := 43) G dX10_turns_39 rfl ?_
  exact ax_iretE (pc := 43) G E rfl (rfl) dX10_turns_43 (rfl) (rfl)

theorem mt_turns0_O {Ω : ax_O} (hA : ax_Amb Ω) {h : ax_H} {m : Nat} {μ : md_S} (hm : Ω.2.1.heap.size ≤ m) (h19 : μ.1 19 = nI 1) {P V O A : Nat} (hp : pWP (μ.2 2) P V O) (hs : pWS (μ.2 4) A) (k : Nat) (hk : k < V) (hst : ¬ (μ.2 4) (47 + k) = nI 0) : ax_Met Ω yX10_turns 10 0 0 [.ref m, .int (nI k), .int (nI 0), .int (nI 2)] (md_H h m μ) (.inl (some (.int (nI 0)))) (md_H h m (md_si μ 0 (nI 0))) := by
  refine ax_met q3197 q142 (by decide +kernel) (by decide) hA (Nat.le_of_ble_eq_true rfl) (fun Γ G E => ?_)
  have hV9 := hp.lV
  show ax_W Ω Γ 0 0 (md_H h m μ) 0 [some (.ref m), some (.int (nI k)), some (.int (nI 0)), some (.int (nI 2))] []
  refine ax_aload_n (pc := 0) G dX10_turns_0 rfl rfl ?_
  refine ax_aload_n (pc := 1) G dX10_turns_1 rfl rfl ?_
  refine ax_iload_n (pc := 2) G dX10_turns_2 rfl rfl ?_
  refine ax_cV1 (pc := 3) (kb := 0) (nb := 0) G (mt_isVisit hA (μ := μ) (nI k)) lVX10_372_8 dX10_turns_3 md_obj rfl (by decide) (Nat.le_of_ble_eq_true rfl) rfl ?_
  refine ax_top (show Value.int (bI (pIn (nI k) (nI 0) ((μ.2 2) 65 - nI 1))) = .int (nI 1) from congrArg Value.int (by rw [pIn_k hp.hV hk (by have := hp.lV; omega)]; rfl)) ?_
  refine ax_cV1 (pc := 6) (kb := 0) (nb := 0) G (mt_mayAskY hA (μ := μ) hm h19) lVX10_368_8 dX10_turns_6 md_obj rfl (by decide) (Nat.le_of_ble_eq_true rfl) rfl ?_
  show ax_W Ω Γ _ _ (md_H h m (md_si μ 0 (nI 0))) _ _ _
  refine ax_if_eq (pc := 9) (tgt := 42) G dX10_turns_9 rfl (fun c9 => absurd c9 (by decide)) (fun _ => ?_)
  refine ax_aload_n (pc := 12) G dX10_turns_12 rfl rfl ?_
  refine md_get (pc := 13) (v := .ref (m + 4)) G flX10_23_8 dX10_turns_13 rfl ?_
  refine ax_bipush (pc := 16) (v := nI 47) G dX10_turns_16 ib_47 ?_
  refine ax_iload_n (pc := 18) G dX10_turns_18 rfl rfl ?_
  refine ax_iaddN (pc := 19) G dX10_turns_19 ?_
  refine md_ld (pc := 20) (i := 47 + k) (j := 4) G 627 dX10_turns_20 (by decide) (by decide) rfl rfl rfl (by omega) (by decide) ?_
  refine ax_iload_n (pc := 21) G dX10_turns_21 rfl rfl ?_
  refine ax_icmp_ne (pc := 22) (tgt := 42) G dX10_turns_22 rfl (fun _ => ?_) (fun c9 => absurd c9 hst)
  refine ax_iconst (pc := 42) (v := nI 0) G dX10_turns_42 ic_0 ?_
  exact ax_iretE (pc := 43) G E rfl (rfl) dX10_turns_43 (rfl) (rfl)

theorem mt_turns0_N {Ω : ax_O} (hA : ax_Amb Ω) {h : ax_H} {m : Nat} {μ : md_S} (hm : Ω.2.1.heap.size ≤ m) (h19 : μ.1 19 = nI 0) (k : Int32) : ax_Met Ω yX10_turns 10 0 0 [.ref m, .int k, .int (nI 0), .int (nI 2)] (md_H h m μ) (.inl (some (.int (nI 0)))) (md_H h m (md_si μ 0 (nI 1))) := by
  refine ax_met q3197 q142 (by decide +kernel) (by decide) hA (Nat.le_of_ble_eq_true rfl) (fun Γ G E => ?_)
  show ax_W Ω Γ 0 0 (md_H h m μ) 0 [some (.ref m), some (.int k), some (.int (nI 0)), some (.int (nI 2))] []
  refine ax_aload_n (pc := 0) G dX10_turns_0 rfl rfl ?_
  refine ax_aload_n (pc := 1) G dX10_turns_1 rfl rfl ?_
  refine ax_iload_n (pc := 2) G dX10_turns_2 rfl rfl ?_
  refine ax_cV1 (pc := 3) (kb := 0) (nb := 0) G (mt_isVisit hA (μ := μ) k) lVX10_372_8 dX10_turns_3 md_obj rfl (by decide) (Nat.le_of_ble_eq_true rfl) rfl ?_
  refine ax_cV1 (pc := 6) (kb := 0) (nb := 0) G (mt_mayAskN hA (μ := μ) hm h19 (pIn k (nI 0) ((μ.2 2) 65 - nI 1))) lVX10_368_8 dX10_turns_6 md_obj rfl (by decide) (Nat.le_of_ble_eq_true rfl) rfl ?_
  show ax_W Ω Γ _ _ (md_H h m (md_si μ 0 (nI 1))) _ _ _
  refine ax_if_eq (pc := 9) (tgt := 42) G dX10_turns_9 rfl (fun _ => ?_) (fun c9 => absurd rfl c9)
  refine ax_iconst (pc := 42) (v := nI 0) G dX10_turns_42 ic_0 ?_
  exact ax_iretE (pc := 43) G E rfl (rfl) dX10_turns_43 (rfl) (rfl)

theorem mt_turns0_B {Ω : ax_O} (hA : ax_Amb Ω) {h : ax_H} {m : Nat} {μ : md_S} (hm : Ω.2.1.heap.size ≤ m) (h19 : μ.1 19 = nI 1) (k : Int32) (hb : pIn k (nI 0) ((μ.2 2) 65 - nI 1) = false) : ax_Met Ω yX10_turns 10 0 0 [.ref m, .int k, .int (nI 0), .int (nI 2)] (md_H h m μ) (.inl (some (.int (nI 0)))) (md_H h m (md_si μ 0 (nI 2))) := by
  refine ax_met q3197 q142 (by decide +kernel) (by decide) hA (Nat.le_of_ble_eq_true rfl) (fun Γ G E => ?_)
  show ax_W Ω Γ 0 0 (md_H h m μ) 0 [some (.ref m), some (.int k), some (.int (nI 0)), some (.int (nI 2))] []
  refine ax_aload_n (pc := 0) G dX10_turns_0 rfl rfl ?_
  refine ax_aload_n (pc := 1) G dX10_turns_1 rfl rfl ?_
  refine ax_iload_n (pc := 2) G dX10_turns_2 rfl rfl ?_
  refine ax_cV1 (pc := 3) (kb := 0) (nb := 0) G (mt_isVisit hA (μ := μ) k) lVX10_372_8 dX10_turns_3 md_obj rfl (by decide) (Nat.le_of_ble_eq_true rfl) rfl ?_
  refine ax_top (show Value.int (bI (pIn k (nI 0) ((μ.2 2) 65 - nI 1))) = .int (nI 0) from congrArg Value.int (by rw [hb]; rfl)) ?_
  refine ax_cV1 (pc := 6) (kb := 0) (nb := 0) G (mt_mayAskB hA (μ := μ) hm h19) lVX10_368_8 dX10_turns_6 md_obj rfl (by decide) (Nat.le_of_ble_eq_true rfl) rfl ?_
  show ax_W Ω Γ _ _ (md_H h m (md_si μ 0 (nI 2))) _ _ _
  refine ax_if_eq (pc := 9) (tgt := 42) G dX10_turns_9 rfl (fun _ => ?_) (fun c9 => absurd rfl c9)
  refine ax_iconst (pc := 42) (v := nI 0) G dX10_turns_42 ic_0 ?_
  exact ax_iretE (pc := 43) G E rfl (rfl) dX10_turns_43 (rfl) (rfl)

theorem mt_turns2_Y {Ω : ax_O} (hA : ax_Amb Ω) {h : ax_H} {m : Nat} {μ : md_S} (hm : Ω.2.1.heap.size ≤ m) (h19 : μ.1 19 = nI 1) {P V O A : Nat} (hp : pWP (μ.2 2) P V O) (hs : pWS (μ.2 4) A) (u : Nat) (hu : u ≤ 8) (h18 : μ.1 18 = nI u) (k : Nat) (hk : k < V) (hst : (μ.2 4) (47 + k) = nI 2) : ax_Met Ω yX10_turns 10 0 0 [.ref m, .int (nI k), .int (nI 2), .int (nI 0)] (md_H h m μ) (.inl (some (.int (nI 1)))) (md_H h m (md_sa (md_si (md_sa (md_si μ 0 (nI 0)) 7 (pRem (μ.2 7) (μ.2 4) u)) 18 (nI (pU u))) 4 (upd (μ.2 4) (47 + k) (nI 0)))) := by
  refine ax_met q3197 q142 (by decide +kernel) (by decide) hA (Nat.le_of_ble_eq_true rfl) (fun Γ G E => ?_)
  have hV9 := hp.lV
  show ax_W Ω Γ 0 0 (md_H h m μ) 0 [some (.ref m), some (.int (nI k)), some (.int (nI 2)), some (.int (nI 0))] []
  refine ax_aload_n (pc := 0) G dX10_turns_0 rfl rfl ?_
  refine ax_aload_n (pc := 1) G dX10_turns_1 rfl rfl ?_
  refine ax_iload_n (pc := 2) G dX10_turns_2 rfl rfl ?_
  refine ax_cV1 (pc := 3) (kb := 0) (nb := 0) G (mt_isVisit hA (μ := μ) (nI k)) lVX10_372_8 dX10_turns_3 md_obj rfl (by decide) (Nat.le_of_ble_eq_true rfl) rfl ?_
  refine ax_top (show Value.int (bI (pIn (nI k) (nI 0) ((μ.2 2) 65 - nI 1))) = .int (nI 1) from congrArg Value.int (by rw [pIn_k hp.hV hk (by have := hp.lV; omega)]; rfl)) ?_
  refine ax_cV1 (pc := 6) (kb := 0) (nb := 0) G (mt_mayAskY hA (μ := μ) hm h19) lVX10_368_8 dX10_turns_6 md_obj rfl (by decide) (Nat.le_of_ble_eq_true rfl) rfl ?_
  show ax_W Ω Γ _ _ (md_H h m (md_si μ 0 (nI 0))) _ _ _
  refine ax_if_eq (pc := 9) (tgt := 42) G dX10_turns_9 rfl (fun c9 => absurd c9 (by decide)) (fun _ => ?_)
  refine ax_aload_n (pc := 12) G dX10_turns_12 rfl rfl ?_
  refine md_get (pc := 13) (v := .ref (m + 4)) G flX10_23_8 dX10_turns_13 rfl ?_
  refine ax_bipush (pc := 16) (v := nI 47) G dX10_turns_16 ib_47 ?_
  refine ax_iload_n (pc := 18) G dX10_turns_18 rfl rfl ?_
  refine ax_iaddN (pc := 19) G dX10_turns_19 ?_
  refine md_ld (pc := 20) (i := 47 + k) (j := 4) G 627 dX10_turns_20 (by decide) (by decide) rfl rfl rfl (by omega) (by decide) ?_
  refine ax_top (show Value.int ((μ.2 4) (47 + k)) = .int (nI 2) from congrArg Value.int (hst)) ?_
  refine ax_iload_n (pc := 21) G dX10_turns_21 rfl rfl ?_
  refine ax_icmp_ne (pc := 22) (tgt := 42) G dX10_turns_22 rfl (fun c9 => absurd c9 (by decide)) (fun _ => ?_)
  refine ax_aload_n (pc := 25) G dX10_turns_25 rfl rfl ?_
  refine ax_bipush (pc := 26) (v := nI 47) G dX10_turns_26 ib_47 ?_
  refine ax_iload_n (pc := 28) G dX10_turns_28 rfl rfl ?_
  refine ax_iaddN (pc := 29) G dX10_turns_29 ?_
  refine ax_iload_n (pc := 30) G dX10_turns_30 rfl rfl ?_
  refine ax_cV1 (pc := 31) (kb := 0) (nb := 0) G (mt_sets hA (h := h) (m := m) (μ := (md_si μ 0 (nI 0))) hm u hu h18 (47 + k) (by omega) (nI 0)) lVX10_417_8 dX10_turns_31 md_obj rfl (by decide) (Nat.le_of_ble_eq_true rfl) rfl ?_
  show ax_W Ω Γ _ _ (md_H h m (md_sa (md_si (md_sa (md_si μ 0 (nI 0)) 7 (pRem (μ.2 7) (μ.2 4) u)) 18 (nI (pU u))) 4 (upd (μ.2 4) (47 + k) (nI 0)))) _ _ _
  refine ax_top (show Value.int ((μ.2 4) (47 + k)) = .int (nI 2) from congrArg Value.int (hst)) ?_
  refine ax_iload_n (pc := 34) G dX10_turns_34 rfl rfl ?_
  refine ax_icmp_ne (pc := 35) (tgt := 42) G dX10_turns_35 rfl (fun c9 => absurd c9 (by decide)) (fun _ => ?_)
  refine ax_iconst (pc := 38) (v := nI 1) G dX10_turns_38 ic_1 ?_
  refine ax_goto (pc := 39) (tgt := 43) G dX10_turns_39 rfl ?_
  exact ax_iretE (pc := 43) G E rfl (rfl) dX10_turns_43 (rfl) (rfl)

theorem mt_turns2_O {Ω : ax_O} (hA : ax_Amb Ω) {h : ax_H} {m : Nat} {μ : md_S} (hm : Ω.2.1.heap.size ≤ m) (h19 : μ.1 19 = nI 1) {P V O A : Nat} (hp : pWP (μ.2 2) P V O) (hs : pWS (μ.2 4) A) (k : Nat) (hk : k < V) (hst : ¬ (μ.2 4) (47 + k) = nI 2) : ax_Met Ω yX10_turns 10 0 0 [.ref m, .int (nI k), .int (nI 2), .int (nI 0)] (md_H h m μ) (.inl (some (.int (nI 0)))) (md_H h m (md_si μ 0 (nI 0))) := by
  refine ax_met q3197 q142 (by decide +kernel) (by decide) hA (Nat.le_of_ble_eq_true rfl) (fun Γ G E => ?_)
  have hV9 := hp.lV
  show ax_W Ω Γ 0 0 (md_H h m μ) 0 [some (.ref m), some (.int (nI k)), some (.int (nI 2)), some (.int (nI 0))] []
  refine ax_aload_n (pc := 0) G dX10_turns_0 rfl rfl ?_
  refine ax_aload_n (pc := 1) G dX10_turns_1 rfl rfl ?_
  refine ax_iload_n (pc := 2) G dX10_turns_2 rfl rfl ?_
  refine ax_cV1 (pc := 3) (kb := 0) (nb := 0) G (mt_isVisit hA (μ := μ) (nI k)) lVX10_372_8 dX10_turns_3 md_obj rfl (by decide) (Nat.le_of_ble_eq_true rfl) rfl ?_
  refine ax_top (show Value.int (bI (pIn (nI k) (nI 0) ((μ.2 2) 65 - nI 1))) = .int (nI 1) from congrArg Value.int (by rw [pIn_k hp.hV hk (by have := hp.lV; omega)]; rfl)) ?_
  refine ax_cV1 (pc := 6) (kb := 0) (nb := 0) G (mt_mayAskY hA (μ := μ) hm h19) lVX10_368_8 dX10_turns_6 md_obj rfl (by decide) (Nat.le_of_ble_eq_true rfl) rfl ?_
  show ax_W Ω Γ _ _ (md_H h m (md_si μ 0 (nI 0))) _ _ _
  refine ax_if_eq (pc := 9) (tgt := 42) G dX10_turns_9 rfl (fun c9 => absurd c9 (by decide)) (fun _ => ?_)
  refine ax_aload_n (pc := 12) G dX10_turns_12 rfl rfl ?_
  refine md_get (pc := 13) (v := .ref (m + 4)) G flX10_23_8 dX10_turns_13 rfl ?_
  refine ax_bipush (pc := 16) (v := nI 47) G dX10_turns_16 ib_47 ?_
  refine ax_iload_n (pc := 18) G dX10_turns_18 rfl rfl ?_
  refine ax_iaddN (pc := 19) G dX10_turns_19 ?_
  refine md_ld (pc := 20) (i := 47 + k) (j := 4) G 627 dX10_turns_20 (by decide) (by decide) rfl rfl rfl (by omega) (by decide) ?_
  refine ax_iload_n (pc := 21) G dX10_turns_21 rfl rfl ?_
  refine ax_icmp_ne (pc := 22) (tgt := 42) G dX10_turns_22 rfl (fun _ => ?_) (fun c9 => absurd c9 hst)
  refine ax_iconst (pc := 42) (v := nI 0) G dX10_turns_42 ic_0 ?_
  exact ax_iretE (pc := 43) G E rfl (rfl) dX10_turns_43 (rfl) (rfl)

theorem mt_turns2_N {Ω : ax_O} (hA : ax_Amb Ω) {h : ax_H} {m : Nat} {μ : md_S} (hm : Ω.2.1.heap.size ≤ m) (h19 : μ.1 19 = nI 0) (k : Int32) : ax_Met Ω yX10_turns 10 0 0 [.ref m, .int k, .int (nI 2), .int (nI 0)] (md_H h m μ) (.inl (some (.int (nI 0)))) (md_H h m (md_si μ 0 (nI 1))) := by
  refine ax_met q3197 q142 (by decide +kernel) (by decide) hA (Nat.le_of_ble_eq_true rfl) (fun Γ G E => ?_)
  show ax_W Ω Γ 0 0 (md_H h m μ) 0 [some (.ref m), some (.int k), some (.int (nI 2)), some (.int (nI 0))] []
  refine ax_aload_n (pc := 0) G dX10_turns_0 rfl rfl ?_
  refine ax_aload_n (pc := 1) G dX10_turns_1 rfl rfl ?_
  refine ax_iload_n (pc := 2) G dX10_turns_2 rfl rfl ?_
  refine ax_cV1 (pc := 3) (kb := 0) (nb := 0) G (mt_isVisit hA (μ := μ) k) lVX10_372_8 dX10_turns_3 md_obj rfl (by decide) (Nat.le_of_ble_eq_true rfl) rfl ?_
  refine ax_cV1 (pc := 6) (kb := 0) (nb := 0) G (mt_mayAskN hA (μ := μ) hm h19 (pIn k (nI 0) ((μ.2 2) 65 - nI 1))) lVX10_368_8 dX10_turns_6 md_obj rfl (by decide) (Nat.le_of_ble_eq_true rfl) rfl ?_
  show ax_W Ω Γ _ _ (md_H h m (md_si μ 0 (nI 1))) _ _ _
  refine ax_if_eq (pc := 9) (tgt := 42) G dX10_turns_9 rfl (fun _ => ?_) (fun c9 => absurd rfl c9)
  refine ax_iconst (pc := 42) (v := nI 0) G dX10_turns_42 ic_0 ?_
  exact ax_iretE (pc := 43) G E rfl (rfl) dX10_turns_43 (rfl) (rfl)

theorem mt_turns2_B {Ω : ax_O} (hA : ax_Amb Ω) {h : ax_H} {m : Nat} {μ : md_S} (hm : Ω.2.1.heap.size ≤ m) (h19 : μ.1 19 = nI 1) (k : Int32) (hb : pIn k (nI 0) ((μ.2 2) 65 - nI 1) = false) : ax_Met Ω yX10_turns 10 0 0 [.ref m, .int k, .int (nI 2), .int (nI 0)] (md_H h m μ) (.inl (some (.int (nI 0)))) (md_H h m (md_si μ 0 (nI 2))) := by
  refine ax_met q3197 q142 (by decide +kernel) (by decide) hA (Nat.le_of_ble_eq_true rfl) (fun Γ G E => ?_)
  show ax_W Ω Γ 0 0 (md_H h m μ) 0 [some (.ref m), some (.int k), some (.int (nI 2)), some (.int (nI 0))] []
  refine ax_aload_n (pc := 0) G dX10_turns_0 rfl rfl ?_
  refine ax_aload_n (pc := 1) G dX10_turns_1 rfl rfl ?_
  refine ax_iload_n (pc := 2) G dX10_turns_2 rfl rfl ?_
  refine ax_cV1 (pc := 3) (kb := 0) (nb := 0) G (mt_isVisit hA (μ := μ) k) lVX10_372_8 dX10_turns_3 md_obj rfl (by decide) (Nat.le_of_ble_eq_true rfl) rfl ?_
  refine ax_top (show Value.int (bI (pIn k (nI 0) ((μ.2 2) 65 - nI 1))) = .int (nI 0) from congrArg Value.int (by rw [hb]; rfl)) ?_
  refine ax_cV1 (pc := 6) (kb := 0) (nb := 0) G (mt_mayAskB hA (μ := μ) hm h19) lVX10_368_8 dX10_turns_6 md_obj rfl (by decide) (Nat.le_of_ble_eq_true rfl) rfl ?_
  show ax_W Ω Γ _ _ (md_H h m (md_si μ 0 (nI 2))) _ _ _
  refine ax_if_eq (pc := 9) (tgt := 42) G dX10_turns_9 rfl (fun _ => ?_) (fun c9 => absurd rfl c9)
  refine ax_iconst (pc := 42) (v := nI 0) G dX10_turns_42 ic_0 ?_
  exact ax_iretE (pc := 43) G E rfl (rfl) dX10_turns_43 (rfl) (rfl)

theorem mq_cancel_Y {Ω : ax_O} (hA : ax_Amb Ω) {h : ax_H} {m : Nat} {μ : md_S} (hm : Ω.2.1.heap.size ≤ m) (h19 : μ.1 19 = nI 1) {P V O A : Nat} (hp : pWP (μ.2 2) P V O) (hs : pWS (μ.2 4) A) (u : Nat) (hu : u ≤ 8) (h18 : μ.1 18 = nI u) (k : Nat) (hk : k < V) (hst : (μ.2 4) (47 + k) = nI 0) : ax_Met Ω yX10_cancel 14 0 0 [.ref m, .int (nI k)] (md_H h m μ) (.inl (some (.int (nI 1)))) (md_H h m (md_sa (md_si (md_sa (md_si μ 0 (nI 0)) 7 (pRem (μ.2 7) (μ.2 4) u)) 18 (nI (pU u))) 4 (upd (μ.2 4) (47 + k) (nI 2)))) := by
  refine ax_met q3193 q142 (by decide +kernel) (by decide) hA (Nat.le_of_ble_eq_true rfl) (fun Γ G E => ?_)
  show ax_W Ω Γ 0 0 (md_H h m μ) 0 [some (.ref m), some (.int (nI k))] []
  refine ax_aload_n (pc := 0) G dX10_cancel_0 rfl rfl ?_
  refine ax_iload_n (pc := 1) G dX10_cancel_1 rfl rfl ?_
  refine ax_iconst (pc := 2) (v := nI 0) G dX10_cancel_2 ic_0 ?_
  refine ax_iconst (pc := 3) (v := nI 2) G dX10_cancel_3 ic_2 ?_
  refine ax_cV1 (pc := 4) (kb := 0) (nb := 0) G (mt_turns0_Y hA hm h19 hp hs u hu h18 k hk hst) lVX10_420_8 dX10_cancel_4 md_obj rfl (by decide) (Nat.le_of_ble_eq_true rfl) rfl ?_
  show ax_W Ω Γ _ _ (md_H h m (md_sa (md_si (md_sa (md_si μ 0 (nI 0)) 7 (pRem (μ.2 7) (μ.2 4) u)) 18 (nI (pU u))) 4 (upd (μ.2 4) (47 + k) (nI 2)))) _ _ _
  exact ax_iretE (pc := 7) G E rfl (rfl) dX10_cancel_7 (rfl) (rfl)

theorem mq_cancel_O {Ω : ax_O} (hA : ax_Amb Ω) {h : ax_H} {m : Nat} {μ : md_S} (hm : Ω.2.1.heap.size ≤ m) (h19 : μ.1 19 = nI 1) {P V O A : Nat} (hp : pWP (μ.2 2) P V O) (hs : pWS (μ.2 4) A) (k : Nat) (hk : k < V) (hst : ¬ (μ.2 4) (47 + k) = nI 0) : ax_Met Ω yX10_cancel 14 0 0 [.ref m, .int (nI k)] (md_H h m μ) (.inl (some (.int (nI 0)))) (md_H h m (md_si μ 0 (nI 0))) := by
  refine ax_met q3193 q142 (by decide +kernel) (by decide) hA (Nat.le_of_ble_eq_true rfl) (fun Γ G E => ?_)
  show ax_W Ω Γ 0 0 (md_H h m μ) 0 [some (.ref m), some (.int (nI k))] []
  refine ax_aload_n (pc := 0) G dX10_cancel_0 rfl rfl ?_
  refine ax_iload_n (pc := 1) G dX10_cancel_1 rfl rfl ?_
  refine ax_iconst (pc := 2) (v := nI 0) G dX10_cancel_2 ic_0 ?_
  refine ax_iconst (pc := 3) (v := nI 2) G dX10_cancel_3 ic_2 ?_
  refine ax_cV1 (pc := 4) (kb := 0) (nb := 0) G (mt_turns0_O hA hm h19 hp hs k hk hst) lVX10_420_8 dX10_cancel_4 md_obj rfl (by decide) (Nat.le_of_ble_eq_true rfl) rfl ?_
  show ax_W Ω Γ _ _ (md_H h m (md_si μ 0 (nI 0))) _ _ _
  exact ax_iretE (pc := 7) G E rfl (rfl) dX10_cancel_7 (rfl) (rfl)

theorem mq_cancel_N {Ω : ax_O} (hA : ax_Amb Ω) {h : ax_H} {m : Nat} {μ : md_S} (hm : Ω.2.1.heap.size ≤ m) (h19 : μ.1 19 = nI 0) (k : Int32) : ax_Met Ω yX10_cancel 14 0 0 [.ref m, .int k] (md_H h m μ) (.inl (some (.int (nI 0)))) (md_H h m (md_si μ 0 (nI 1))) := by
  refine ax_met q3193 q142 (by decide +kernel) (by decide) hA (Nat.le_of_ble_eq_true rfl) (fun Γ G E => ?_)
  show ax_W Ω Γ 0 0 (md_H h m μ) 0 [some (.ref m), some (.int k)] []
  refine ax_aload_n (pc := 0) G dX10_cancel_0 rfl rfl ?_
  refine ax_iload_n (pc := 1) G dX10_cancel_1 rfl rfl ?_
  refine ax_iconst (pc := 2) (v := nI 0) G dX10_cancel_2 ic_0 ?_
  refine ax_iconst (pc := 3) (v := nI 2) G dX10_cancel_3 ic_2 ?_
  refine ax_cV1 (pc := 4) (kb := 0) (nb := 0) G (mt_turns0_N hA hm h19 k) lVX10_420_8 dX10_cancel_4 md_obj rfl (by decide) (Nat.le_of_ble_eq_true rfl) rfl ?_
  show ax_W Ω Γ _ _ (md_H h m (md_si μ 0 (nI 1))) _ _ _
  exact ax_iretE (pc := 7) G E rfl (rfl) dX10_cancel_7 (rfl) (rfl)

theorem mq_cancel_B {Ω : ax_O} (hA : ax_Amb Ω) {h : ax_H} {m : Nat} {μ : md_S} (hm : Ω.2.1.heap.size ≤ m) (h19 : μ.1 19 = nI 1) (k : Int32) (hb : pIn k (nI 0) ((μ.2 2) 65 - nI 1) = false) : ax_Met Ω yX10_cancel 14 0 0 [.ref m, .int k] (md_H h m μ) (.inl (some (.int (nI 0)))) (md_H h m (md_si μ 0 (nI 2))) := by
  refine ax_met q3193 q142 (by decide +kernel) (by decide) hA (Nat.le_of_ble_eq_true rfl) (fun Γ G E => ?_)
  show ax_W Ω Γ 0 0 (md_H h m μ) 0 [some (.ref m), some (.int k)] []
  refine ax_aload_n (pc := 0) G dX10_cancel_0 rfl rfl ?_
  refine ax_iload_n (pc := 1) G dX10_cancel_1 rfl rfl ?_
  refine ax_iconst (pc := 2) (v := nI 0) G dX10_cancel_2 ic_0 ?_
  refine ax_iconst (pc := 3) (v := nI 2) G dX10_cancel_3 ic_2 ?_
  refine ax_cV1 (pc := 4) (kb := 0) (nb := 0) G (mt_turns0_B hA hm h19 k hb) lVX10_420_8 dX10_cancel_4 md_obj rfl (by decide) (Nat.le_of_ble_eq_true rfl) rfl ?_
  show ax_W Ω Γ _ _ (md_H h m (md_si μ 0 (nI 2))) _ _ _
  exact ax_iretE (pc := 7) G E rfl (rfl) dX10_cancel_7 (rfl) (rfl)

theorem mq_requeue_Y {Ω : ax_O} (hA : ax_Amb Ω) {h : ax_H} {m : Nat} {μ : md_S} (hm : Ω.2.1.heap.size ≤ m) (h19 : μ.1 19 = nI 1) {P V O A : Nat} (hp : pWP (μ.2 2) P V O) (hs : pWS (μ.2 4) A) (u : Nat) (hu : u ≤ 8) (h18 : μ.1 18 = nI u) (k : Nat) (hk : k < V) (hst : (μ.2 4) (47 + k) = nI 2) : ax_Met Ω yX10_requeue 14 0 0 [.ref m, .int (nI k)] (md_H h m μ) (.inl (some (.int (nI 1)))) (md_H h m (md_sa (md_si (md_sa (md_si μ 0 (nI 0)) 7 (pRem (μ.2 7) (μ.2 4) u)) 18 (nI (pU u))) 4 (upd (μ.2 4) (47 + k) (nI 0)))) := by
  refine ax_met q3201 q142 (by decide +kernel) (by decide) hA (Nat.le_of_ble_eq_true rfl) (fun Γ G E => ?_)
  show ax_W Ω Γ 0 0 (md_H h m μ) 0 [some (.ref m), some (.int (nI k))] []
  refine ax_aload_n (pc := 0) G dX10_requeue_0 rfl rfl ?_
  refine ax_iload_n (pc := 1) G dX10_requeue_1 rfl rfl ?_
  refine ax_iconst (pc := 2) (v := nI 2) G dX10_requeue_2 ic_2 ?_
  refine ax_iconst (pc := 3) (v := nI 0) G dX10_requeue_3 ic_0 ?_
  refine ax_cV1 (pc := 4) (kb := 0) (nb := 0) G (mt_turns2_Y hA hm h19 hp hs u hu h18 k hk hst) lVX10_420_8 dX10_requeue_4 md_obj rfl (by decide) (Nat.le_of_ble_eq_true rfl) rfl ?_
  show ax_W Ω Γ _ _ (md_H h m (md_sa (md_si (md_sa (md_si μ 0 (nI 0)) 7 (pRem (μ.2 7) (μ.2 4) u)) 18 (nI (pU u))) 4 (upd (μ.2 4) (47 + k) (nI 0)))) _ _ _
  exact ax_iretE (pc := 7) G E rfl (rfl) dX10_requeue_7 (rfl) (rfl)

theorem mq_requeue_O {Ω : ax_O} (hA : ax_Amb Ω) {h : ax_H} {m : Nat} {μ : md_S} (hm : Ω.2.1.heap.size ≤ m) (h19 : μ.1 19 = nI 1) {P V O A : Nat} (hp : pWP (μ.2 2) P V O) (hs : pWS (μ.2 4) A) (k : Nat) (hk : k < V) (hst : ¬ (μ.2 4) (47 + k) = nI 2) : ax_Met Ω yX10_requeue 14 0 0 [.ref m, .int (nI k)] (md_H h m μ) (.inl (some (.int (nI 0)))) (md_H h m (md_si μ 0 (nI 0))) := by
  refine ax_met q3201 q142 (by decide +kernel) (by decide) hA (Nat.le_of_ble_eq_true rfl) (fun Γ G E => ?_)
  show ax_W Ω Γ 0 0 (md_H h m μ) 0 [some (.ref m), some (.int (nI k))] []
  refine ax_aload_n (pc := 0) G dX10_requeue_0 rfl rfl ?_
  refine ax_iload_n (pc := 1) G dX10_requeue_1 rfl rfl ?_
  refine ax_iconst (pc := 2) (v := nI 2) G dX10_requeue_2 ic_2 ?_
  refine ax_iconst (pc := 3) (v := nI 0) G dX10_requeue_3 ic_0 ?_
  refine ax_cV1 (pc := 4) (kb := 0) (nb := 0) G (mt_turns2_O hA hm h19 hp hs k hk hst) lVX10_420_8 dX10_requeue_4 md_obj rfl (by decide) (Nat.le_of_ble_eq_true rfl) rfl ?_
  show ax_W Ω Γ _ _ (md_H h m (md_si μ 0 (nI 0))) _ _ _
  exact ax_iretE (pc := 7) G E rfl (rfl) dX10_requeue_7 (rfl) (rfl)

theorem mq_requeue_N {Ω : ax_O} (hA : ax_Amb Ω) {h : ax_H} {m : Nat} {μ : md_S} (hm : Ω.2.1.heap.size ≤ m) (h19 : μ.1 19 = nI 0) (k : Int32) : ax_Met Ω yX10_requeue 14 0 0 [.ref m, .int k] (md_H h m μ) (.inl (some (.int (nI 0)))) (md_H h m (md_si μ 0 (nI 1))) := by
  refine ax_met q3201 q142 (by decide +kernel) (by decide) hA (Nat.le_of_ble_eq_true rfl) (fun Γ G E => ?_)
  show ax_W Ω Γ 0 0 (md_H h m μ) 0 [some (.ref m), some (.int k)] []
  refine ax_aload_n (pc := 0) G dX10_requeue_0 rfl rfl ?_
  refine ax_iload_n (pc := 1) G dX10_requeue_1 rfl rfl ?_
  refine ax_iconst (pc := 2) (v := nI 2) G dX10_requeue_2 ic_2 ?_
  refine ax_iconst (pc := 3) (v := nI 0) G dX10_requeue_3 ic_0 ?_
  refine ax_cV1 (pc := 4) (kb := 0) (nb := 0) G (mt_turns2_N hA hm h19 k) lVX10_420_8 dX10_requeue_4 md_obj rfl (by decide) (Nat.le_of_ble_eq_true rfl) rfl ?_
  show ax_W Ω Γ _ _ (md_H h m (md_si μ 0 (nI 1))) _ _ _
  exact ax_iretE (pc := 7) G E rfl (rfl) dX10_requeue_7 (rfl) (rfl)

theorem mq_requeue_B {Ω : ax_O} (hA : ax_Amb Ω) {h : ax_H} {m : Nat} {μ : md_S} (hm : Ω.2.1.heap.size ≤ m) (h19 : μ.1 19 = nI 1) (k : Int32) (hb : pIn k (nI 0) ((μ.2 2) 65 - nI 1) = false) : ax_Met Ω yX10_requeue 14 0 0 [.ref m, .int k] (md_H h m μ) (.inl (some (.int (nI 0)))) (md_H h m (md_si μ 0 (nI 2))) := by
  refine ax_met q3201 q142 (by decide +kernel) (by decide) hA (Nat.le_of_ble_eq_true rfl) (fun Γ G E => ?_)
  show ax_W Ω Γ 0 0 (md_H h m μ) 0 [some (.ref m), some (.int k)] []
  refine ax_aload_n (pc := 0) G dX10_requeue_0 rfl rfl ?_
  refine ax_iload_n (pc := 1) G dX10_requeue_1 rfl rfl ?_
  refine ax_iconst (pc := 2) (v := nI 2) G dX10_requeue_2 ic_2 ?_
  refine ax_iconst (pc := 3) (v := nI 0) G dX10_requeue_3 ic_0 ?_
  refine ax_cV1 (pc := 4) (kb := 0) (nb := 0) G (mt_turns2_B hA hm h19 k hb) lVX10_420_8 dX10_requeue_4 md_obj rfl (by decide) (Nat.le_of_ble_eq_true rfl) rfl ?_
  show ax_W Ω Γ _ _ (md_H h m (md_si μ 0 (nI 2))) _ _ _
  exact ax_iretE (pc := 7) G E rfl (rfl) dX10_requeue_7 (rfl) (rfl)

