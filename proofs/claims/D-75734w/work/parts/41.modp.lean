/-! THE MODEL: tokens -/
theorem mt_byteAt {Ω : ax_O} (hA : ax_Amb Ω) {h : ax_H} {m : Nat} {μ : md_S} {n : Nat} (hend : μ.1 3 = nI n) (hn : n ≤ 1000) (k : Nat) (hk : k ≤ 2000) : ax_Met Ω yX10_byteAt 1 0 0 [.ref m, .int (nI k)] (md_H h m μ) (.inl (some (.int (pAtB (μ.2 1) n k)))) (md_H h m μ) := by
  refine ax_met q2678 q142 (by decide +kernel) (by decide) hA (Nat.le_of_ble_eq_true rfl) (fun Γ G E => ?_)
  show ax_W Ω Γ 0 0 (md_H h m μ) 0 [some (.ref m), some (.int (nI k))] []
  refine ax_iload_n (pc := 0) G dX10_byteAt_0 rfl rfl ?_
  refine ax_aload_n (pc := 1) G dX10_byteAt_1 rfl rfl ?_
  refine md_get (pc := 2) (v := .int (μ.1 3)) G flX10_58_8 dX10_byteAt_2 rfl ?_
  refine ax_top (show Value.int (μ.1 3) = .int (nI n) from congrArg Value.int (hend)) ?_
  refine ax_icmp_geN (pc := 5) (tgt := 17) G dX10_byteAt_5 rfl (by omega) (by omega) (fun c5 => ?_) (fun c5 => ?_)
  · refine ax_iconst (pc := 17) (v := (-1)) G dX10_byteAt_17 (by decide) ?_
    exact ax_iretE (pc := 18) G E rfl (rfl) dX10_byteAt_18 (by rw [pAtB]; first | rw [if_pos (by omega)] | rw [if_neg (by omega)]) (rfl)
  · refine ax_aload_n (pc := 8) G dX10_byteAt_8 rfl rfl ?_
    refine md_get (pc := 9) (v := .ref (m + 1)) G flX10_9_8 dX10_byteAt_9 rfl ?_
    refine ax_iload_n (pc := 12) G dX10_byteAt_12 rfl rfl ?_
    refine md_ld (pc := 13) (i := k) (j := 1) G 1000 dX10_byteAt_13 (by decide) (by decide) rfl rfl rfl (by omega) (by decide) ?_
    refine ax_goto (pc := 14) (tgt := 18) G dX10_byteAt_14 rfl ?_
    exact ax_iretE (pc := 18) G E rfl (rfl) dX10_byteAt_18 (by rw [pAtB]; first | rw [if_pos (by omega)] | rw [if_neg (by omega)]) (rfl)

theorem mt_isSign {Ω : ax_O} (hA : ax_Amb Ω) {h : ax_H} {m : Nat} {μ : md_S} (v : Int32) : ax_Met Ω yX10_isSign 1 0 0 [.int v] (md_H h m μ) (.inl (some (.int (bI (pSign v))))) (md_H h m μ) := by
  refine ax_met q2681 q142 (by decide +kernel) (by decide) hA (Nat.le_of_ble_eq_true rfl) (fun Γ G E => ?_)
  show ax_W Ω Γ 0 0 (md_H h m μ) 0 [some (.int v)] []
  refine ax_iload_n (pc := 0) G dX10_isSign_0 rfl rfl ?_
  refine ax_bipush (pc := 1) (v := nI 59) G dX10_isSign_1 ib_59 ?_
  refine ax_icmp_eq (pc := 3) (tgt := 12) G dX10_isSign_3 rfl (fun c3 => ?_) (fun c3 => ?_)
  · refine ax_iconst (pc := 12) (v := nI 1) G dX10_isSign_12 ic_1 ?_
    refine ax_goto (pc := 13) (tgt := 17) G dX10_isSign_13 rfl ?_
    exact ax_iretE (pc := 17) G E rfl (rfl) dX10_isSign_17 (by first | (simp only [pSign, bI, c3, if_true, if_false, Bool.false_eq_true, not_false_eq_true, not_true_eq_false, decide_true, decide_false, Bool.and_true, Bool.true_and, Bool.and_false, Bool.false_and, Bool.or_true, Bool.true_or, Bool.or_false, Bool.false_or, and_self, and_true, true_and, and_false, false_and, or_true, true_or, or_false, false_or, ne_eq]; done) | (simp only [pSign, bI, c3, if_true, if_false, Bool.false_eq_true, not_false_eq_true, not_true_eq_false, decide_true, decide_false, Bool.and_true, Bool.true_and, Bool.and_false, Bool.false_and, Bool.or_true, Bool.true_or, Bool.or_false, Bool.false_or, and_self, and_true, true_and, and_false, false_and, or_true, true_or, or_false, false_or, ne_eq]; rfl) | (simp only [pSign, bI, if_pos c3, decide_eq_true c3, if_true, if_false, Bool.false_eq_true, not_false_eq_true, not_true_eq_false, decide_true, decide_false, Bool.and_true, Bool.true_and, Bool.and_false, Bool.false_and, Bool.or_true, Bool.true_or, Bool.or_false, Bool.false_or, and_self, and_true, true_and, and_false, false_and, or_true, true_or, or_false, false_or, ne_eq]; done) | (simp only [pSign, bI, if_pos c3, decide_eq_true c3, if_true, if_false, Bool.false_eq_true, not_false_eq_true, not_true_eq_false, decide_true, decide_false, Bool.and_true, Bool.true_and, Bool.and_false, Bool.false_and, Bool.or_true, Bool.true_or, Bool.or_false, Bool.false_or, and_self, and_true, true_and, and_false, false_and, or_true, true_or, or_false, false_or, ne_eq]; rfl)) (by first | (simp only [pSign, bI, c3, if_true, if_false, Bool.false_eq_true, not_false_eq_true, not_true_eq_false, decide_true, decide_false, Bool.and_true, Bool.true_and, Bool.and_false, Bool.false_and, Bool.or_true, Bool.true_or, Bool.or_false, Bool.false_or, and_self, and_true, true_and, and_false, false_and, or_true, true_or, or_false, false_or, ne_eq]; done) | (simp only [pSign, bI, c3, if_true, if_false, Bool.false_eq_true, not_false_eq_true, not_true_eq_false, decide_true, decide_false, Bool.and_true, Bool.true_and, Bool.and_false, Bool.false_and, Bool.or_true, Bool.true_or, Bool.or_false, Bool.false_or, and_self, and_true, true_and, and_false, false_and, or_true, true_or, or_false, false_or, ne_eq]; rfl) | (simp only [pSign, bI, if_pos c3, decide_eq_true c3, if_true, if_false, Bool.false_eq_true, not_false_eq_true, not_true_eq_false, decide_true, decide_false, Bool.and_true, Bool.true_and, Bool.and_false, Bool.false_and, Bool.or_true, Bool.true_or, Bool.or_false, Bool.false_or, and_self, and_true, true_and, and_false, false_and, or_true, true_or, or_false, false_or, ne_eq]; done) | (simp only [pSign, bI, if_pos c3, decide_eq_true c3, if_true, if_false, Bool.false_eq_true, not_false_eq_true, not_true_eq_false, decide_true, decide_false, Bool.and_true, Bool.true_and, Bool.and_false, Bool.false_and, Bool.or_true, Bool.true_or, Bool.or_false, Bool.false_or, and_self, and_true, true_and, and_false, false_and, or_true, true_or, or_false, false_or, ne_eq]; rfl))
  · refine ax_iload_n (pc := 6) G dX10_isSign_6 rfl rfl ?_
    refine ax_bipush (pc := 7) (v := nI 45) G dX10_isSign_7 ib_45 ?_
    refine ax_icmp_ne (pc := 9) (tgt := 16) G dX10_isSign_9 rfl (fun c9 => ?_) (fun c9 => ?_)
    · refine ax_iconst (pc := 16) (v := nI 0) G dX10_isSign_16 ic_0 ?_
      exact ax_iretE (pc := 17) G E rfl (rfl) dX10_isSign_17 (by first | (simp only [pSign, bI, c3, c9, if_true, if_false, Bool.false_eq_true, not_false_eq_true, not_true_eq_false, decide_true, decide_false, Bool.and_true, Bool.true_and, Bool.and_false, Bool.false_and, Bool.or_true, Bool.true_or, Bool.or_false, Bool.false_or, and_self, and_true, true_and, and_false, false_and, or_true, true_or, or_false, false_or, ne_eq]; done) | (simp only [pSign, bI, c3, c9, if_true, if_false, Bool.false_eq_true, not_false_eq_true, not_true_eq_false, decide_true, decide_false, Bool.and_true, Bool.true_and, Bool.and_false, Bool.false_and, Bool.or_true, Bool.true_or, Bool.or_false, Bool.false_or, and_self, and_true, true_and, and_false, false_and, or_true, true_or, or_false, false_or, ne_eq]; rfl)) (by first | (simp only [pSign, bI, c3, c9, if_true, if_false, Bool.false_eq_true, not_false_eq_true, not_true_eq_false, decide_true, decide_false, Bool.and_true, Bool.true_and, Bool.and_false, Bool.false_and, Bool.or_true, Bool.true_or, Bool.or_false, Bool.false_or, and_self, and_true, true_and, and_false, false_and, or_true, true_or, or_false, false_or, ne_eq]; done) | (simp only [pSign, bI, c3, c9, if_true, if_false, Bool.false_eq_true, not_false_eq_true, not_true_eq_false, decide_true, decide_false, Bool.and_true, Bool.true_and, Bool.and_false, Bool.false_and, Bool.or_true, Bool.true_or, Bool.or_false, Bool.false_or, and_self, and_true, true_and, and_false, false_and, or_true, true_or, or_false, false_or, ne_eq]; rfl))
    · refine ax_iconst (pc := 12) (v := nI 1) G dX10_isSign_12 ic_1 ?_
      refine ax_goto (pc := 13) (tgt := 17) G dX10_isSign_13 rfl ?_
      exact ax_iretE (pc := 17) G E rfl (rfl) dX10_isSign_17 (by first | (simp only [pSign, bI, c3, c9, if_true, if_false, Bool.false_eq_true, not_false_eq_true, not_true_eq_false, decide_true, decide_false, Bool.and_true, Bool.true_and, Bool.and_false, Bool.false_and, Bool.or_true, Bool.true_or, Bool.or_false, Bool.false_or, and_self, and_true, true_and, and_false, false_and, or_true, true_or, or_false, false_or, ne_eq]; done) | (simp only [pSign, bI, c3, c9, if_true, if_false, Bool.false_eq_true, not_false_eq_true, not_true_eq_false, decide_true, decide_false, Bool.and_true, Bool.true_and, Bool.and_false, Bool.false_and, Bool.or_true, Bool.true_or, Bool.or_false, Bool.false_or, and_self, and_true, true_and, and_false, false_and, or_true, true_or, or_false, false_or, ne_eq]; rfl) | (simp only [pSign, bI, c3, if_pos c9, decide_eq_true c9, if_true, if_false, Bool.false_eq_true, not_false_eq_true, not_true_eq_false, decide_true, decide_false, Bool.and_true, Bool.true_and, Bool.and_false, Bool.false_and, Bool.or_true, Bool.true_or, Bool.or_false, Bool.false_or, and_self, and_true, true_and, and_false, false_and, or_true, true_or, or_false, false_or, ne_eq]; done) | (simp only [pSign, bI, c3, if_pos c9, decide_eq_true c9, if_true, if_false, Bool.false_eq_true, not_false_eq_true, not_true_eq_false, decide_true, decide_false, Bool.and_true, Bool.true_and, Bool.and_false, Bool.false_and, Bool.or_true, Bool.true_or, Bool.or_false, Bool.false_or, and_self, and_true, true_and, and_false, false_and, or_true, true_or, or_false, false_or, ne_eq]; rfl)) (by first | (simp only [pSign, bI, c3, c9, if_true, if_false, Bool.false_eq_true, not_false_eq_true, not_true_eq_false, decide_true, decide_false, Bool.and_true, Bool.true_and, Bool.and_false, Bool.false_and, Bool.or_true, Bool.true_or, Bool.or_false, Bool.false_or, and_self, and_true, true_and, and_false, false_and, or_true, true_or, or_false, false_or, ne_eq]; done) | (simp only [pSign, bI, c3, c9, if_true, if_false, Bool.false_eq_true, not_false_eq_true, not_true_eq_false, decide_true, decide_false, Bool.and_true, Bool.true_and, Bool.and_false, Bool.false_and, Bool.or_true, Bool.true_or, Bool.or_false, Bool.false_or, and_self, and_true, true_and, and_false, false_and, or_true, true_or, or_false, false_or, ne_eq]; rfl) | (simp only [pSign, bI, c3, if_pos c9, decide_eq_true c9, if_true, if_false, Bool.false_eq_true, not_false_eq_true, not_true_eq_false, decide_true, decide_false, Bool.and_true, Bool.true_and, Bool.and_false, Bool.false_and, Bool.or_true, Bool.true_or, Bool.or_false, Bool.false_or, and_self, and_true, true_and, and_false, false_and, or_true, true_or, or_false, false_or, ne_eq]; done) | (simp only [pSign, bI, c3, if_pos c9, decide_eq_true c9, if_true, if_false, Bool.false_eq_true, not_false_eq_true, not_true_eq_false, decide_true, decide_false, Bool.and_true, Bool.true_and, Bool.and_false, Bool.false_and, Bool.or_true, Bool.true_or, Bool.or_false, Bool.false_or, and_self, and_true, true_and, and_false, false_and, or_true, true_or, or_false, false_or, ne_eq]; rfl))

theorem mt_faults1 {Ω : ax_O} (hA : ax_Amb Ω) {h : ax_H} {m : Nat} {μ : md_S} (hm : Ω.2.1.heap.size ≤ m) (nx tk st : Nat) (vl : Int32) (c : Nat) (p : Int32) (hc : 0 < c) (hc31 : c < 2 ^ 31) (e : Nat) : ax_Met Ω yX10_faults 1 0 0 [.ref m, .int (nI e)] (md_H h m (mK μ (nx, tk, st, vl, c, p))) (.inl none) (md_H h m (mK μ (nx, tk, st, vl, c, p))) := by
  refine ax_met q2704 q142 (by decide +kernel) (by decide) hA (Nat.le_of_ble_eq_true rfl) (fun Γ G E => ?_)
  show ax_W Ω Γ 0 0 (md_H h m (mK μ (nx, tk, st, vl, c, p))) 0 [some (.ref m), some (.int (nI e))] []
  refine ax_aload_n (pc := 0) G dX10_faults_0 rfl rfl ?_
  refine md_get (pc := 1) (v := .int (nI c)) G flX10_55_8 dX10_faults_1 rfl ?_
  refine ax_if_le (pc := 4) (tgt := 8) G dX10_faults_4 rfl (fun c9 => absurd c9 (fun z => absurd z (nI_nle hc hc31))) (fun _ => ?_)
  exact ax_vretE (pc := 7) G E rfl dX10_faults_7 (rfl)

theorem mt_faults0 {Ω : ax_O} (hA : ax_Amb Ω) {h : ax_H} {m : Nat} {μ : md_S} (hm : Ω.2.1.heap.size ≤ m) (nx tk st : Nat) (vl : Int32) (p : Int32) (e : Nat) : ax_Met Ω yX10_faults 1 0 0 [.ref m, .int (nI e)] (md_H h m (mK μ (nx, tk, st, vl, 0, p))) (.inl none) (md_H h m (mK μ (nx, tk, st, vl, e, nI st))) := by
  refine ax_met q2704 q142 (by decide +kernel) (by decide) hA (Nat.le_of_ble_eq_true rfl) (fun Γ G E => ?_)
  show ax_W Ω Γ 0 0 (md_H h m (mK μ (nx, tk, st, vl, 0, p))) 0 [some (.ref m), some (.int (nI e))] []
  refine ax_aload_n (pc := 0) G dX10_faults_0 rfl rfl ?_
  refine md_get (pc := 1) (v := .int (nI 0)) G flX10_55_8 dX10_faults_1 rfl ?_
  refine ax_if_le (pc := 4) (tgt := 8) G dX10_faults_4 rfl (fun _ => ?_) (fun c9 => absurd (by decide) c9)
  refine ax_aload_n (pc := 8) G dX10_faults_8 rfl rfl ?_
  refine ax_iload_n (pc := 9) G dX10_faults_9 rfl rfl ?_
  refine md_put (pc := 10) G flX10_55_8 dX10_faults_10 hm (by decide) (rfl) rfl rfl ?_
  show ax_W Ω Γ _ _ (md_H h m (md_si (mK μ (nx, tk, st, vl, 0, p)) 5 (nI e))) _ _ _
  rw [mK_5]
  show ax_W Ω Γ _ _ (md_H h m (mK μ (nx, tk, st, vl, e, p))) _ _ _
  refine ax_aload_n (pc := 13) G dX10_faults_13 rfl rfl ?_
  refine ax_aload_n (pc := 14) G dX10_faults_14 rfl rfl ?_
  refine md_get (pc := 15) (v := .int (nI st)) G flX10_61_8 dX10_faults_15 rfl ?_
  refine md_put (pc := 18) G flX10_13_8 dX10_faults_18 hm (by decide) (rfl) rfl rfl ?_
  show ax_W Ω Γ _ _ (md_H h m (md_si (mK μ (nx, tk, st, vl, e, p)) 6 (nI st))) _ _ _
  rw [mK_6]
  show ax_W Ω Γ _ _ (md_H h m (mK μ (nx, tk, st, vl, e, nI st))) _ _ _
  exact ax_vretE (pc := 21) G E rfl dX10_faults_21 (rfl)

theorem mt_nextToken1 {Ω : ax_O} (hA : ax_Amb Ω) {h : ax_H} {m : Nat} {μ : md_S} (hm : Ω.2.1.heap.size ≤ m) (nx tk st : Nat) (vl : Int32) (c : Nat) (p : Int32) (hc : 0 < c) (hc31 : c < 2 ^ 31) : ax_Met Ω yX10_nextToken 2 0 0 [.ref m] (md_H h m (mK μ (nx, tk, st, vl, c, p))) (.inl none) (md_H h m (mK μ (nx, tk, st, vl, c, p))) := by
  refine ax_met q2674 q142 (by decide +kernel) (by decide) hA (Nat.le_of_ble_eq_true rfl) (fun Γ G E => ?_)
  show ax_W Ω Γ 0 0 (md_H h m (mK μ (nx, tk, st, vl, c, p))) 0 [some (.ref m)] []
  refine ax_aload_n (pc := 0) G dX10_nextToken_0 rfl rfl ?_
  refine md_get (pc := 1) (v := .int (nI c)) G flX10_55_8 dX10_nextToken_1 rfl ?_
  refine ax_if_le (pc := 4) (tgt := 8) G dX10_nextToken_4 rfl (fun c9 => absurd c9 (fun z => absurd z (nI_nle hc hc31))) (fun _ => ?_)
  exact ax_vretE (pc := 7) G E rfl dX10_nextToken_7 (rfl)

theorem mt_nextToken0 {Ω : ax_O} (hA : ax_Amb Ω) {h : ax_H} {m : Nat} {μ : md_S} (hm : Ω.2.1.heap.size ≤ m) {n : Nat} (hend : μ.1 3 = nI n) (hn : n ≤ 1000) (nx tk st : Nat) (vl p : Int32) (hnx : nx ≤ n) : ax_Met Ω yX10_nextToken 2 0 0 [.ref m] (md_H h m (mK μ (nx, tk, st, vl, 0, p))) (.inl none) (md_H h m (mK μ (pTok (μ.2 1) n nx vl p))) := by
  refine ax_met q2674 q142 (by decide +kernel) (by decide) hA (Nat.le_of_ble_eq_true rfl) (fun Γ G E => ?_)
  have L34 : ∀ (s : Nat), s ≤ n → pTokA (μ.2 1) n s vl p = (pTok (μ.2 1) n nx vl p) → ax_W Ω Γ 0 0 (md_H h m (mK μ (s, tk, st, vl, 0, p))) 34 [some (.ref m)] [] := by
    intro s hs hv
    refine ax_aload_n (pc := 34) G dX10_nextToken_34 rfl rfl ?_
    refine ax_aload_n (pc := 35) G dX10_nextToken_35 rfl rfl ?_
    refine md_get (pc := 36) (v := .int (nI s)) G flX10_64_8 dX10_nextToken_36 rfl ?_
    refine md_put (pc := 39) G flX10_61_8 dX10_nextToken_39 hm (by decide) (rfl) rfl rfl ?_
    show ax_W Ω Γ _ _ (md_H h m (md_si (mK μ (s, tk, st, vl, 0, p)) 8 (nI s))) _ _ _
    rw [mK_8]
    show ax_W Ω Γ _ _ (md_H h m (mK μ (s, tk, s, vl, 0, p))) _ _ _
    refine ax_aload_n (pc := 42) G dX10_nextToken_42 rfl rfl ?_
    refine md_get (pc := 43) (v := .int (nI s)) G flX10_64_8 dX10_nextToken_43 rfl ?_
    refine ax_aload_n (pc := 46) G dX10_nextToken_46 rfl rfl ?_
    refine md_get (pc := 47) (v := .int (μ.1 3)) G flX10_58_8 dX10_nextToken_47 rfl ?_
    refine ax_top (show Value.int (μ.1 3) = .int (nI n) from congrArg Value.int (hend)) ?_
    refine ax_icmp_neN (pc := 50) (tgt := 61) G dX10_nextToken_50 rfl (by omega) (by omega) (fun c50 => ?_) (fun c50 => ?_)
    · refine ax_aload_n (pc := 61) G dX10_nextToken_61 rfl rfl ?_
      refine ax_aload_n (pc := 62) G dX10_nextToken_62 rfl rfl ?_
      refine md_get (pc := 63) (v := .int (nI s)) G flX10_64_8 dX10_nextToken_63 rfl ?_
      refine ax_cV1 (pc := 66) (kb := 0) (nb := 0) G (mt_byteAt hA (h := h) (m := m) (μ := (mK μ (s, tk, s, vl, 0, p))) (n := n) hend hn s (by omega)) lVX10_67_8 dX10_nextToken_66 md_obj rfl (by decide) (Nat.le_of_ble_eq_true rfl) rfl ?_
      refine ax_bipush (pc := 69) (v := nI 97) G dX10_nextToken_69 ib_97 ?_
      refine ax_bipush (pc := 71) (v := nI 122) G dX10_nextToken_71 ib_122 ?_
      refine ax_cS1 (pc := 73) (kb := 0) (nb := 0) G (mt_in hA (pAtB (μ.2 1) n s) (nI 97) (nI 122)) lSX10_74 dX10_nextToken_73 rfl (by decide) (Nat.le_of_ble_eq_true rfl) rfl ?_
      refine ax_if_eq (pc := 76) (tgt := 136) G dX10_nextToken_76 rfl (fun c76 => ?_) (fun c76 => ?_)
      · replace c76 : (bI (pIn (pAtB (μ.2 1) n s) (nI 97) (nI 122))) = 0 := c76
        have c76b := bI_f c76
        refine ax_aload_n (pc := 136) G dX10_nextToken_136 rfl rfl ?_
        refine ax_aload_n (pc := 137) G dX10_nextToken_137 rfl rfl ?_
        refine md_get (pc := 138) (v := .int (nI s)) G flX10_64_8 dX10_nextToken_138 rfl ?_
        refine ax_cV1 (pc := 141) (kb := 0) (nb := 0) G (mt_byteAt hA (h := h) (m := m) (μ := (mK μ (s, tk, s, vl, 0, p))) (n := n) hend hn s (by omega)) lVX10_67_8 dX10_nextToken_141 md_obj rfl (by decide) (Nat.le_of_ble_eq_true rfl) rfl ?_
        refine ax_bipush (pc := 144) (v := nI 48) G dX10_nextToken_144 ib_48 ?_
        refine ax_bipush (pc := 146) (v := nI 57) G dX10_nextToken_146 ib_57 ?_
        refine ax_cS1 (pc := 148) (kb := 0) (nb := 0) G (mt_in hA (pAtB (μ.2 1) n s) (nI 48) (nI 57)) lSX10_74 dX10_nextToken_148 rfl (by decide) (Nat.le_of_ble_eq_true rfl) rfl ?_
        refine ax_if_eq (pc := 151) (tgt := 251) G dX10_nextToken_151 rfl (fun c151 => ?_) (fun c151 => ?_)
        · replace c151 : (bI (pIn (pAtB (μ.2 1) n s) (nI 48) (nI 57))) = 0 := c151
          have c151b := bI_f c151
          refine ax_aload_n (pc := 251) G dX10_nextToken_251 rfl rfl ?_
          refine ax_aload_n (pc := 252) G dX10_nextToken_252 rfl rfl ?_
          refine ax_aload_n (pc := 253) G dX10_nextToken_253 rfl rfl ?_
          refine md_get (pc := 254) (v := .int (nI s)) G flX10_64_8 dX10_nextToken_254 rfl ?_
          refine ax_cV1 (pc := 257) (kb := 0) (nb := 0) G (mt_byteAt hA (h := h) (m := m) (μ := (mK μ (s, tk, s, vl, 0, p))) (n := n) hend hn s (by omega)) lVX10_67_8 dX10_nextToken_257 md_obj rfl (by decide) (Nat.le_of_ble_eq_true rfl) rfl ?_
          refine md_put (pc := 260) G flX10_78_8 dX10_nextToken_260 hm (by decide) (rfl) rfl rfl ?_
          show ax_W Ω Γ _ _ (md_H h m (md_si (mK μ (s, tk, s, vl, 0, p)) 9 (pAtB (μ.2 1) n s))) _ _ _
          rw [mK_9]
          show ax_W Ω Γ _ _ (md_H h m (mK μ (s, tk, s, pAtB (μ.2 1) n s, 0, p))) _ _ _
          refine ax_aload_n (pc := 263) G dX10_nextToken_263 rfl rfl ?_
          refine ax_aload_n (pc := 264) G dX10_nextToken_264 rfl rfl ?_
          refine md_get (pc := 265) (v := .int (pAtB (μ.2 1) n s)) G flX10_78_8 dX10_nextToken_265 rfl ?_
          refine ax_cS1 (pc := 268) (kb := 0) (nb := 0) G (mt_isSign hA (h := h) (m := m) (μ := (mK μ (s, tk, s, pAtB (μ.2 1) n s, 0, p))) (pAtB (μ.2 1) n s)) lSX10_81 dX10_nextToken_268 rfl (by decide) (Nat.le_of_ble_eq_true rfl) rfl ?_
          refine ax_if_eq (pc := 271) (tgt := 278) G dX10_nextToken_271 rfl (fun c271 => ?_) (fun c271 => ?_)
          · replace c271 : (bI (pSign (pAtB (μ.2 1) n s))) = 0 := c271
            have c271b := bI_f c271
            refine ax_iconst (pc := 278) (v := nI 0) G dX10_nextToken_278 ic_0 ?_
            refine md_put (pc := 279) G flX10_71_8 dX10_nextToken_279 hm (by decide) (rfl) rfl rfl ?_
            show ax_W Ω Γ _ _ (md_H h m (md_si (mK μ (s, tk, s, pAtB (μ.2 1) n s, 0, p)) 7 (nI 0))) _ _ _
            rw [mK_7]
            show ax_W Ω Γ _ _ (md_H h m (mK μ (s, 0, s, pAtB (μ.2 1) n s, 0, p))) _ _ _
            refine ax_aload_n (pc := 282) G dX10_nextToken_282 rfl rfl ?_
            refine ax_dup (pc := 283) G dX10_nextToken_283 rfl ?_
            refine md_get (pc := 284) (v := .int (nI s)) G flX10_64_8 dX10_nextToken_284 rfl ?_
            refine ax_iconst (pc := 287) (v := nI 1) G dX10_nextToken_287 ic_1 ?_
            refine ax_iaddN (pc := 288) G dX10_nextToken_288 ?_
            refine md_put (pc := 289) G flX10_64_8 dX10_nextToken_289 hm (by decide) (rfl) rfl rfl ?_
            show ax_W Ω Γ _ _ (md_H h m (md_si (mK μ (s, 0, s, pAtB (μ.2 1) n s, 0, p)) 4 (nI (s + 1)))) _ _ _
            rw [mK_4]
            show ax_W Ω Γ _ _ (md_H h m (mK μ (s + 1, 0, s, pAtB (μ.2 1) n s, 0, p))) _ _ _
            exact ax_vretE (pc := 292) G E rfl dX10_nextToken_292 (by rw [← hv, pTokA, if_neg c50, if_neg (Bool.eq_false_iff.mp c76b), if_neg (Bool.eq_false_iff.mp c151b), if_neg (Bool.eq_false_iff.mp c271b)])
          · replace c271 : ¬ (bI (pSign (pAtB (μ.2 1) n s))) = 0 := c271
            have c271b := bI_t c271
            refine ax_iconst (pc := 274) (v := nI 4) G dX10_nextToken_274 ic_4 ?_
            refine ax_goto (pc := 275) (tgt := 279) G dX10_nextToken_275 rfl ?_
            refine md_put (pc := 279) G flX10_71_8 dX10_nextToken_279 hm (by decide) (rfl) rfl rfl ?_
            show ax_W Ω Γ _ _ (md_H h m (md_si (mK μ (s, tk, s, pAtB (μ.2 1) n s, 0, p)) 7 (nI 4))) _ _ _
            rw [mK_7]
            show ax_W Ω Γ _ _ (md_H h m (mK μ (s, 4, s, pAtB (μ.2 1) n s, 0, p))) _ _ _
            refine ax_aload_n (pc := 282) G dX10_nextToken_282 rfl rfl ?_
            refine ax_dup (pc := 283) G dX10_nextToken_283 rfl ?_
            refine md_get (pc := 284) (v := .int (nI s)) G flX10_64_8 dX10_nextToken_284 rfl ?_
            refine ax_iconst (pc := 287) (v := nI 1) G dX10_nextToken_287 ic_1 ?_
            refine ax_iaddN (pc := 288) G dX10_nextToken_288 ?_
            refine md_put (pc := 289) G flX10_64_8 dX10_nextToken_289 hm (by decide) (rfl) rfl rfl ?_
            show ax_W Ω Γ _ _ (md_H h m (md_si (mK μ (s, 4, s, pAtB (μ.2 1) n s, 0, p)) 4 (nI (s + 1)))) _ _ _
            rw [mK_4]
            show ax_W Ω Γ _ _ (md_H h m (mK μ (s + 1, 4, s, pAtB (μ.2 1) n s, 0, p))) _ _ _
            exact ax_vretE (pc := 292) G E rfl dX10_nextToken_292 (by rw [← hv, pTokA, if_neg c50, if_neg (Bool.eq_false_iff.mp c76b), if_neg (Bool.eq_false_iff.mp c151b), if_pos c271b])
        · replace c151 : ¬ (bI (pIn (pAtB (μ.2 1) n s) (nI 48) (nI 57))) = 0 := c151
          have c151b := bI_t c151
          refine ax_aload_n (pc := 154) G dX10_nextToken_154 rfl rfl ?_
          refine ax_iconst (pc := 155) (v := nI 0) G dX10_nextToken_155 ic_0 ?_
          refine md_put (pc := 156) G flX10_78_8 dX10_nextToken_156 hm (by decide) (rfl) rfl rfl ?_
          show ax_W Ω Γ _ _ (md_H h m (md_si (mK μ (s, tk, s, vl, 0, p)) 9 (nI 0))) _ _ _
          rw [mK_9]
          show ax_W Ω Γ _ _ (md_H h m (mK μ (s, tk, s, nI 0, 0, p))) _ _ _
          have LD : ∀ (f x : Nat) (v : Int32), x + f = n → s ≤ x → pRun (μ.2 1) n (nI 48) (nI 57) f x = pRun (μ.2 1) n (nI 48) (nI 57) (n - s) s → pVal (μ.2 1) n s f x v = pVal (μ.2 1) n s (n - s) s (nI 0) → ax_W Ω Γ 0 0 (md_H h m (mK μ (x, tk, s, v, 0, p))) 159 [some (.ref m)] [] := by
            intro f
            induction f with
            | zero =>
              intro x v hx hs hr hw
              have hx9 : x = n := by omega
              have hr9 : x = pRun (μ.2 1) n (nI 48) (nI 57) (n - s) s := hr
              have hw9 : v = pVal (μ.2 1) n s (n - s) s (nI 0) := hw
              have hb9 : pIn (pAtB (μ.2 1) n x) (nI 48) (nI 57) = false := by rw [hx9]; exact pAtB_n 48 57 (by decide)
              refine ax_aload_n (pc := 159) G dX10_nextToken_159 rfl rfl ?_
              refine ax_aload_n (pc := 160) G dX10_nextToken_160 rfl rfl ?_
              refine md_get (pc := 161) (v := .int (nI x)) G flX10_64_8 dX10_nextToken_161 rfl ?_
              refine ax_cV1 (pc := 164) (kb := 0) (nb := 0) G (mt_byteAt hA (h := h) (m := m) (μ := (mK μ (x, tk, s, v, 0, p))) (n := n) hend hn x (by omega)) lVX10_67_8 dX10_nextToken_164 md_obj rfl (by decide) (Nat.le_of_ble_eq_true rfl) rfl ?_
              refine ax_bipush (pc := 167) (v := nI 48) G dX10_nextToken_167 ib_48 ?_
              refine ax_bipush (pc := 169) (v := nI 57) G dX10_nextToken_169 ib_57 ?_
              refine ax_cS1 (pc := 171) (kb := 0) (nb := 0) G (mt_in hA (pAtB (μ.2 1) n x) (nI 48) (nI 57)) lSX10_74 dX10_nextToken_171 rfl (by decide) (Nat.le_of_ble_eq_true rfl) rfl ?_
              refine ax_top (show Value.int (bI (pIn (pAtB (μ.2 1) n x) (nI 48) (nI 57))) = .int (nI 0) from congrArg Value.int (by rw [hb9]; rfl)) ?_
              refine ax_if_eq (pc := 174) (tgt := 226) G dX10_nextToken_174 rfl (fun _ => ?_) (fun c9 => absurd rfl c9)
              refine ax_aload_n (pc := 226) G dX10_nextToken_226 rfl rfl ?_
              refine ax_aload_n (pc := 227) G dX10_nextToken_227 rfl rfl ?_
              refine md_get (pc := 228) (v := .int (nI x)) G flX10_64_8 dX10_nextToken_228 rfl ?_
              refine ax_aload_n (pc := 231) G dX10_nextToken_231 rfl rfl ?_
              refine md_get (pc := 232) (v := .int (nI s)) G flX10_61_8 dX10_nextToken_232 rfl ?_
              refine ax_isubN (pc := 235) G dX10_nextToken_235 (by omega) ?_
              refine ax_iconst (pc := 236) (v := nI 4) G dX10_nextToken_236 ic_4 ?_
              refine ax_icmp_leN (pc := 237) (tgt := 244) G dX10_nextToken_237 rfl (by omega) (by omega) (fun c237 => ?_) (fun c237 => ?_)
              · refine ax_iconst (pc := 244) (v := nI 3) G dX10_nextToken_244 ic_3 ?_
                refine md_put (pc := 245) G flX10_71_8 dX10_nextToken_245 hm (by decide) (rfl) rfl rfl ?_
                show ax_W Ω Γ _ _ (md_H h m (md_si (mK μ (x, tk, s, v, 0, p)) 7 (nI 3))) _ _ _
                rw [mK_7]
                show ax_W Ω Γ _ _ (md_H h m (mK μ (x, 3, s, v, 0, p))) _ _ _
                refine ax_goto (pc := 248) (tgt := 292) G dX10_nextToken_248 rfl ?_
                exact ax_vretE (pc := 292) G E rfl dX10_nextToken_292 (by rw [← hv, pTokA, if_neg c50, if_neg (Bool.eq_false_iff.mp c76b), if_pos c151b, ← hr9, ← hw9, if_pos c237])
              · refine ax_iconst (pc := 240) (v := nI 0) G dX10_nextToken_240 ic_0 ?_
                refine ax_goto (pc := 241) (tgt := 245) G dX10_nextToken_241 rfl ?_
                refine md_put (pc := 245) G flX10_71_8 dX10_nextToken_245 hm (by decide) (rfl) rfl rfl ?_
                show ax_W Ω Γ _ _ (md_H h m (md_si (mK μ (x, tk, s, v, 0, p)) 7 (nI 0))) _ _ _
                rw [mK_7]
                show ax_W Ω Γ _ _ (md_H h m (mK μ (x, 0, s, v, 0, p))) _ _ _
                refine ax_goto (pc := 248) (tgt := 292) G dX10_nextToken_248 rfl ?_
                exact ax_vretE (pc := 292) G E rfl dX10_nextToken_292 (by rw [← hv, pTokA, if_neg c50, if_neg (Bool.eq_false_iff.mp c76b), if_pos c151b, ← hr9, ← hw9, if_neg (Nat.not_le.mpr c237)])
            | succ f ih =>
              intro x v hx hs hr hw
              refine ax_aload_n (pc := 159) G dX10_nextToken_159 rfl rfl ?_
              refine ax_aload_n (pc := 160) G dX10_nextToken_160 rfl rfl ?_
              refine md_get (pc := 161) (v := .int (nI x)) G flX10_64_8 dX10_nextToken_161 rfl ?_
              refine ax_cV1 (pc := 164) (kb := 0) (nb := 0) G (mt_byteAt hA (h := h) (m := m) (μ := (mK μ (x, tk, s, v, 0, p))) (n := n) hend hn x (by omega)) lVX10_67_8 dX10_nextToken_164 md_obj rfl (by decide) (Nat.le_of_ble_eq_true rfl) rfl ?_
              refine ax_bipush (pc := 167) (v := nI 48) G dX10_nextToken_167 ib_48 ?_
              refine ax_bipush (pc := 169) (v := nI 57) G dX10_nextToken_169 ib_57 ?_
              refine ax_cS1 (pc := 171) (kb := 0) (nb := 0) G (mt_in hA (pAtB (μ.2 1) n x) (nI 48) (nI 57)) lSX10_74 dX10_nextToken_171 rfl (by decide) (Nat.le_of_ble_eq_true rfl) rfl ?_
              refine ax_if_eq (pc := 174) (tgt := 226) G dX10_nextToken_174 rfl (fun c174 => ?_) (fun c174 => ?_)
              · replace c174 : (bI (pIn (pAtB (μ.2 1) n x) (nI 48) (nI 57))) = 0 := c174
                have c174b := bI_f c174
                refine ax_aload_n (pc := 226) G dX10_nextToken_226 rfl rfl ?_
                refine ax_aload_n (pc := 227) G dX10_nextToken_227 rfl rfl ?_
                refine md_get (pc := 228) (v := .int (nI x)) G flX10_64_8 dX10_nextToken_228 rfl ?_
                refine ax_aload_n (pc := 231) G dX10_nextToken_231 rfl rfl ?_
                refine md_get (pc := 232) (v := .int (nI s)) G flX10_61_8 dX10_nextToken_232 rfl ?_
                refine ax_isubN (pc := 235) G dX10_nextToken_235 (by omega) ?_
                refine ax_iconst (pc := 236) (v := nI 4) G dX10_nextToken_236 ic_4 ?_
                refine ax_icmp_leN (pc := 237) (tgt := 244) G dX10_nextToken_237 rfl (by omega) (by omega) (fun c237 => ?_) (fun c237 => ?_)
                · refine ax_iconst (pc := 244) (v := nI 3) G dX10_nextToken_244 ic_3 ?_
                  refine md_put (pc := 245) G flX10_71_8 dX10_nextToken_245 hm (by decide) (rfl) rfl rfl ?_
                  show ax_W Ω Γ _ _ (md_H h m (md_si (mK μ (x, tk, s, v, 0, p)) 7 (nI 3))) _ _ _
                  rw [mK_7]
                  show ax_W Ω Γ _ _ (md_H h m (mK μ (x, 3, s, v, 0, p))) _ _ _
                  refine ax_goto (pc := 248) (tgt := 292) G dX10_nextToken_248 rfl ?_
                  exact ax_vretE (pc := 292) G E rfl dX10_nextToken_292 (by rw [← hv, pTokA, if_neg c50, if_neg (Bool.eq_false_iff.mp c76b), if_pos c151b, ← hr, ← hw, pRun, if_neg (Bool.eq_false_iff.mp c174b), pVal, if_neg (Bool.eq_false_iff.mp c174b), if_pos c237])
                · refine ax_iconst (pc := 240) (v := nI 0) G dX10_nextToken_240 ic_0 ?_
                  refine ax_goto (pc := 241) (tgt := 245) G dX10_nextToken_241 rfl ?_
                  refine md_put (pc := 245) G flX10_71_8 dX10_nextToken_245 hm (by decide) (rfl) rfl rfl ?_
                  show ax_W Ω Γ _ _ (md_H h m (md_si (mK μ (x, tk, s, v, 0, p)) 7 (nI 0))) _ _ _
                  rw [mK_7]
                  show ax_W Ω Γ _ _ (md_H h m (mK μ (x, 0, s, v, 0, p))) _ _ _
                  refine ax_goto (pc := 248) (tgt := 292) G dX10_nextToken_248 rfl ?_
                  exact ax_vretE (pc := 292) G E rfl dX10_nextToken_292 (by rw [← hv, pTokA, if_neg c50, if_neg (Bool.eq_false_iff.mp c76b), if_pos c151b, ← hr, ← hw, pRun, if_neg (Bool.eq_false_iff.mp c174b), pVal, if_neg (Bool.eq_false_iff.mp c174b), if_neg (Nat.not_le.mpr c237)])
              · replace c174 : ¬ (bI (pIn (pAtB (μ.2 1) n x) (nI 48) (nI 57))) = 0 := c174
                have c174b := bI_t c174
                refine ax_aload_n (pc := 177) G dX10_nextToken_177 rfl rfl ?_
                refine md_get (pc := 178) (v := .int (nI x)) G flX10_64_8 dX10_nextToken_178 rfl ?_
                refine ax_aload_n (pc := 181) G dX10_nextToken_181 rfl rfl ?_
                refine md_get (pc := 182) (v := .int (nI s)) G flX10_61_8 dX10_nextToken_182 rfl ?_
                refine ax_isubN (pc := 185) G dX10_nextToken_185 (by omega) ?_
                refine ax_iconst (pc := 186) (v := nI 4) G dX10_nextToken_186 ic_4 ?_
                refine ax_icmp_geN (pc := 187) (tgt := 213) G dX10_nextToken_187 rfl (by omega) (by omega) (fun c187 => ?_) (fun c187 => ?_)
                · refine ax_aload_n (pc := 213) G dX10_nextToken_213 rfl rfl ?_
                  refine ax_dup (pc := 214) G dX10_nextToken_214 rfl ?_
                  refine md_get (pc := 215) (v := .int (nI x)) G flX10_64_8 dX10_nextToken_215 rfl ?_
                  refine ax_iconst (pc := 218) (v := nI 1) G dX10_nextToken_218 ic_1 ?_
                  refine ax_iaddN (pc := 219) G dX10_nextToken_219 ?_
                  refine md_put (pc := 220) G flX10_64_8 dX10_nextToken_220 hm (by decide) (rfl) rfl rfl ?_
                  show ax_W Ω Γ _ _ (md_H h m (md_si (mK μ (x, tk, s, v, 0, p)) 4 (nI (x + 1)))) _ _ _
                  rw [mK_4]
                  show ax_W Ω Γ _ _ (md_H h m (mK μ (x + 1, tk, s, v, 0, p))) _ _ _
                  refine ax_goto (pc := 223) (tgt := 159) G dX10_nextToken_223 rfl ?_
                  exact ih (x + 1) _ (by omega) (by omega) (by rw [← hr, pRun, if_pos c174b]) (by rw [← hw, pVal, if_pos c174b, if_neg (Nat.not_lt.mpr c187)])
                · refine ax_aload_n (pc := 190) G dX10_nextToken_190 rfl rfl ?_
                  refine ax_bipush (pc := 191) (v := nI 10) G dX10_nextToken_191 ib_10 ?_
                  refine ax_aload_n (pc := 193) G dX10_nextToken_193 rfl rfl ?_
                  refine md_get (pc := 194) (v := .int v) G flX10_78_8 dX10_nextToken_194 rfl ?_
                  refine ax_imul (pc := 197) G dX10_nextToken_197 ?_
                  refine ax_aload_n (pc := 198) G dX10_nextToken_198 rfl rfl ?_
                  refine ax_aload_n (pc := 199) G dX10_nextToken_199 rfl rfl ?_
                  refine md_get (pc := 200) (v := .int (nI x)) G flX10_64_8 dX10_nextToken_200 rfl ?_
                  refine ax_cV1 (pc := 203) (kb := 0) (nb := 0) G (mt_byteAt hA (h := h) (m := m) (μ := (mK μ (x, tk, s, v, 0, p))) (n := n) hend hn x (by omega)) lVX10_67_8 dX10_nextToken_203 md_obj rfl (by decide) (Nat.le_of_ble_eq_true rfl) rfl ?_
                  refine ax_iadd (pc := 206) G dX10_nextToken_206 ?_
                  refine ax_bipush (pc := 207) (v := nI 48) G dX10_nextToken_207 ib_48 ?_
                  refine ax_isub (pc := 209) G dX10_nextToken_209 ?_
                  refine md_put (pc := 210) G flX10_78_8 dX10_nextToken_210 hm (by decide) (rfl) rfl rfl ?_
                  show ax_W Ω Γ _ _ (md_H h m (md_si (mK μ (x, tk, s, v, 0, p)) 9 ((((nI 10) * v) + (pAtB (μ.2 1) n x)) - (nI 48)))) _ _ _
                  rw [mK_9]
                  show ax_W Ω Γ _ _ (md_H h m (mK μ (x, tk, s, (((nI 10) * v) + (pAtB (μ.2 1) n x)) - (nI 48), 0, p))) _ _ _
                  refine ax_aload_n (pc := 213) G dX10_nextToken_213 rfl rfl ?_
                  refine ax_dup (pc := 214) G dX10_nextToken_214 rfl ?_
                  refine md_get (pc := 215) (v := .int (nI x)) G flX10_64_8 dX10_nextToken_215 rfl ?_
                  refine ax_iconst (pc := 218) (v := nI 1) G dX10_nextToken_218 ic_1 ?_
                  refine ax_iaddN (pc := 219) G dX10_nextToken_219 ?_
                  refine md_put (pc := 220) G flX10_64_8 dX10_nextToken_220 hm (by decide) (rfl) rfl rfl ?_
                  show ax_W Ω Γ _ _ (md_H h m (md_si (mK μ (x, tk, s, (((nI 10) * v) + (pAtB (μ.2 1) n x)) - (nI 48), 0, p)) 4 (nI (x + 1)))) _ _ _
                  rw [mK_4]
                  show ax_W Ω Γ _ _ (md_H h m (mK μ (x + 1, tk, s, (((nI 10) * v) + (pAtB (μ.2 1) n x)) - (nI 48), 0, p))) _ _ _
                  refine ax_goto (pc := 223) (tgt := 159) G dX10_nextToken_223 rfl ?_
                  exact ih (x + 1) _ (by omega) (by omega) (by rw [← hr, pRun, if_pos c174b]) (by rw [← hw, pVal, if_pos c174b, if_pos c187])
          exact LD (n - s) s _ (by omega) (Nat.le_refl _) rfl rfl
      · replace c76 : ¬ (bI (pIn (pAtB (μ.2 1) n s) (nI 97) (nI 122))) = 0 := c76
        have c76b := bI_t c76
        have LA : ∀ (f x : Nat), x + f = n → s ≤ x → pRun (μ.2 1) n (nI 97) (nI 122) f x = pRun (μ.2 1) n (nI 97) (nI 122) (n - s) s → ax_W Ω Γ 0 0 (md_H h m (mK μ (x, tk, s, vl, 0, p))) 79 [some (.ref m)] [] := by
          intro f
          induction f with
          | zero =>
            intro x hx hs hr
            have hx9 : x = n := by omega
            have hr9 : x = pRun (μ.2 1) n (nI 97) (nI 122) (n - s) s := hr
            have hb9 : pIn (pAtB (μ.2 1) n x) (nI 97) (nI 122) = false := by rw [hx9]; exact pAtB_n 97 122 (by decide)
            refine ax_aload_n (pc := 79) G dX10_nextToken_79 rfl rfl ?_
            refine ax_aload_n (pc := 80) G dX10_nextToken_80 rfl rfl ?_
            refine md_get (pc := 81) (v := .int (nI x)) G flX10_64_8 dX10_nextToken_81 rfl ?_
            refine ax_cV1 (pc := 84) (kb := 0) (nb := 0) G (mt_byteAt hA (h := h) (m := m) (μ := (mK μ (x, tk, s, vl, 0, p))) (n := n) hend hn x (by omega)) lVX10_67_8 dX10_nextToken_84 md_obj rfl (by decide) (Nat.le_of_ble_eq_true rfl) rfl ?_
            refine ax_bipush (pc := 87) (v := nI 97) G dX10_nextToken_87 ib_97 ?_
            refine ax_bipush (pc := 89) (v := nI 122) G dX10_nextToken_89 ib_122 ?_
            refine ax_cS1 (pc := 91) (kb := 0) (nb := 0) G (mt_in hA (pAtB (μ.2 1) n x) (nI 97) (nI 122)) lSX10_74 dX10_nextToken_91 rfl (by decide) (Nat.le_of_ble_eq_true rfl) rfl ?_
            refine ax_top (show Value.int (bI (pIn (pAtB (μ.2 1) n x) (nI 97) (nI 122))) = .int (nI 0) from congrArg Value.int (by rw [hb9]; rfl)) ?_
            refine ax_if_eq (pc := 94) (tgt := 110) G dX10_nextToken_94 rfl (fun _ => ?_) (fun c9 => absurd rfl c9)
            refine ax_aload_n (pc := 110) G dX10_nextToken_110 rfl rfl ?_
            refine ax_aload_n (pc := 111) G dX10_nextToken_111 rfl rfl ?_
            refine md_get (pc := 112) (v := .int (nI x)) G flX10_64_8 dX10_nextToken_112 rfl ?_
            refine ax_aload_n (pc := 115) G dX10_nextToken_115 rfl rfl ?_
            refine md_get (pc := 116) (v := .int (nI s)) G flX10_61_8 dX10_nextToken_116 rfl ?_
            refine ax_isubN (pc := 119) G dX10_nextToken_119 (by omega) ?_
            refine ax_bipush (pc := 120) (v := nI 8) G dX10_nextToken_120 ib_8 ?_
            refine ax_icmp_leN (pc := 122) (tgt := 129) G dX10_nextToken_122 rfl (by omega) (by omega) (fun c122 => ?_) (fun c122 => ?_)
            · refine ax_iconst (pc := 129) (v := nI 2) G dX10_nextToken_129 ic_2 ?_
              refine md_put (pc := 130) G flX10_71_8 dX10_nextToken_130 hm (by decide) (rfl) rfl rfl ?_
              show ax_W Ω Γ _ _ (md_H h m (md_si (mK μ (x, tk, s, vl, 0, p)) 7 (nI 2))) _ _ _
              rw [mK_7]
              show ax_W Ω Γ _ _ (md_H h m (mK μ (x, 2, s, vl, 0, p))) _ _ _
              refine ax_goto (pc := 133) (tgt := 292) G dX10_nextToken_133 rfl ?_
              exact ax_vretE (pc := 292) G E rfl dX10_nextToken_292 (by rw [← hv, pTokA, if_neg c50, if_pos c76b, ← hr9, if_pos c122])
            · refine ax_iconst (pc := 125) (v := nI 0) G dX10_nextToken_125 ic_0 ?_
              refine ax_goto (pc := 126) (tgt := 130) G dX10_nextToken_126 rfl ?_
              refine md_put (pc := 130) G flX10_71_8 dX10_nextToken_130 hm (by decide) (rfl) rfl rfl ?_
              show ax_W Ω Γ _ _ (md_H h m (md_si (mK μ (x, tk, s, vl, 0, p)) 7 (nI 0))) _ _ _
              rw [mK_7]
              show ax_W Ω Γ _ _ (md_H h m (mK μ (x, 0, s, vl, 0, p))) _ _ _
              refine ax_goto (pc := 133) (tgt := 292) G dX10_nextToken_133 rfl ?_
              exact ax_vretE (pc := 292) G E rfl dX10_nextToken_292 (by rw [← hv, pTokA, if_neg c50, if_pos c76b, ← hr9, if_neg (Nat.not_le.mpr c122)])
          | succ f ih =>
            intro x hx hs hr
            refine ax_aload_n (pc := 79) G dX10_nextToken_79 rfl rfl ?_
            refine ax_aload_n (pc := 80) G dX10_nextToken_80 rfl rfl ?_
            refine md_get (pc := 81) (v := .int (nI x)) G flX10_64_8 dX10_nextToken_81 rfl ?_
            refine ax_cV1 (pc := 84) (kb := 0) (nb := 0) G (mt_byteAt hA (h := h) (m := m) (μ := (mK μ (x, tk, s, vl, 0, p))) (n := n) hend hn x (by omega)) lVX10_67_8 dX10_nextToken_84 md_obj rfl (by decide) (Nat.le_of_ble_eq_true rfl) rfl ?_
            refine ax_bipush (pc := 87) (v := nI 97) G dX10_nextToken_87 ib_97 ?_
            refine ax_bipush (pc := 89) (v := nI 122) G dX10_nextToken_89 ib_122 ?_
            refine ax_cS1 (pc := 91) (kb := 0) (nb := 0) G (mt_in hA (pAtB (μ.2 1) n x) (nI 97) (nI 122)) lSX10_74 dX10_nextToken_91 rfl (by decide) (Nat.le_of_ble_eq_true rfl) rfl ?_
            refine ax_if_eq (pc := 94) (tgt := 110) G dX10_nextToken_94 rfl (fun c94 => ?_) (fun c94 => ?_)
            · replace c94 : (bI (pIn (pAtB (μ.2 1) n x) (nI 97) (nI 122))) = 0 := c94
              have c94b := bI_f c94
              refine ax_aload_n (pc := 110) G dX10_nextToken_110 rfl rfl ?_
              refine ax_aload_n (pc := 111) G dX10_nextToken_111 rfl rfl ?_
              refine md_get (pc := 112) (v := .int (nI x)) G flX10_64_8 dX10_nextToken_112 rfl ?_
              refine ax_aload_n (pc := 115) G dX10_nextToken_115 rfl rfl ?_
              refine md_get (pc := 116) (v := .int (nI s)) G flX10_61_8 dX10_nextToken_116 rfl ?_
              refine ax_isubN (pc := 119) G dX10_nextToken_119 (by omega) ?_
              refine ax_bipush (pc := 120) (v := nI 8) G dX10_nextToken_120 ib_8 ?_
              refine ax_icmp_leN (pc := 122) (tgt := 129) G dX10_nextToken_122 rfl (by omega) (by omega) (fun c122 => ?_) (fun c122 => ?_)
              · refine ax_iconst (pc := 129) (v := nI 2) G dX10_nextToken_129 ic_2 ?_
                refine md_put (pc := 130) G flX10_71_8 dX10_nextToken_130 hm (by decide) (rfl) rfl rfl ?_
                show ax_W Ω Γ _ _ (md_H h m (md_si (mK μ (x, tk, s, vl, 0, p)) 7 (nI 2))) _ _ _
                rw [mK_7]
                show ax_W Ω Γ _ _ (md_H h m (mK μ (x, 2, s, vl, 0, p))) _ _ _
                refine ax_goto (pc := 133) (tgt := 292) G dX10_nextToken_133 rfl ?_
                exact ax_vretE (pc := 292) G E rfl dX10_nextToken_292 (by rw [← hv, pTokA, if_neg c50, if_pos c76b, ← hr, pRun, if_neg (Bool.eq_false_iff.mp c94b), if_pos c122])
              · refine ax_iconst (pc := 125) (v := nI 0) G dX10_nextToken_125 ic_0 ?_
                refine ax_goto (pc := 126) (tgt := 130) G dX10_nextToken_126 rfl ?_
                refine md_put (pc := 130) G flX10_71_8 dX10_nextToken_130 hm (by decide) (rfl) rfl rfl ?_
                show ax_W Ω Γ _ _ (md_H h m (md_si (mK μ (x, tk, s, vl, 0, p)) 7 (nI 0))) _ _ _
                rw [mK_7]
                show ax_W Ω Γ _ _ (md_H h m (mK μ (x, 0, s, vl, 0, p))) _ _ _
                refine ax_goto (pc := 133) (tgt := 292) G dX10_nextToken_133 rfl ?_
                exact ax_vretE (pc := 292) G E rfl dX10_nextToken_292 (by rw [← hv, pTokA, if_neg c50, if_pos c76b, ← hr, pRun, if_neg (Bool.eq_false_iff.mp c94b), if_neg (Nat.not_le.mpr c122)])
            · replace c94 : ¬ (bI (pIn (pAtB (μ.2 1) n x) (nI 97) (nI 122))) = 0 := c94
              have c94b := bI_t c94
              refine ax_aload_n (pc := 97) G dX10_nextToken_97 rfl rfl ?_
              refine ax_dup (pc := 98) G dX10_nextToken_98 rfl ?_
              refine md_get (pc := 99) (v := .int (nI x)) G flX10_64_8 dX10_nextToken_99 rfl ?_
              refine ax_iconst (pc := 102) (v := nI 1) G dX10_nextToken_102 ic_1 ?_
              refine ax_iaddN (pc := 103) G dX10_nextToken_103 ?_
              refine md_put (pc := 104) G flX10_64_8 dX10_nextToken_104 hm (by decide) (rfl) rfl rfl ?_
              show ax_W Ω Γ _ _ (md_H h m (md_si (mK μ (x, tk, s, vl, 0, p)) 4 (nI (x + 1)))) _ _ _
              rw [mK_4]
              show ax_W Ω Γ _ _ (md_H h m (mK μ (x + 1, tk, s, vl, 0, p))) _ _ _
              refine ax_goto (pc := 107) (tgt := 79) G dX10_nextToken_107 rfl ?_
              exact ih (x + 1) (by omega) (by omega) (by rw [← hr, pRun, if_pos c94b])
        exact LA (n - s) s (by omega) (Nat.le_refl _) rfl
    · refine ax_aload_n (pc := 53) G dX10_nextToken_53 rfl rfl ?_
      refine ax_iconst (pc := 54) (v := nI 1) G dX10_nextToken_54 ic_1 ?_
      refine md_put (pc := 55) G flX10_71_8 dX10_nextToken_55 hm (by decide) (rfl) rfl rfl ?_
      show ax_W Ω Γ _ _ (md_H h m (md_si (mK μ (s, tk, s, vl, 0, p)) 7 (nI 1))) _ _ _
      rw [mK_7]
      show ax_W Ω Γ _ _ (md_H h m (mK μ (s, 1, s, vl, 0, p))) _ _ _
      refine ax_goto (pc := 58) (tgt := 292) G dX10_nextToken_58 rfl ?_
      exact ax_vretE (pc := 292) G E rfl dX10_nextToken_292 (by rw [← hv, pTokA, if_pos c50])
  have LS : ∀ (f x : Nat), x + f = n → pSkip (μ.2 1) n f x = pSkip (μ.2 1) n (n - nx) nx → ax_W Ω Γ 0 0 (md_H h m (mK μ (x, tk, st, vl, 0, p))) 8 [some (.ref m)] [] := by
    intro f
    induction f with
    | zero =>
      intro x hx hr
      have hx9 : x = n := by omega
      refine ax_aload_n (pc := 8) G dX10_nextToken_8 rfl rfl ?_
      refine ax_aload_n (pc := 9) G dX10_nextToken_9 rfl rfl ?_
      refine md_get (pc := 10) (v := .int (nI x)) G flX10_64_8 dX10_nextToken_10 rfl ?_
      refine ax_cV1 (pc := 13) (kb := 0) (nb := 0) G (mt_byteAt hA (h := h) (m := m) (μ := (mK μ (x, tk, st, vl, 0, p))) (n := n) hend hn x (by omega)) lVX10_67_8 dX10_nextToken_13 md_obj rfl (by decide) (Nat.le_of_ble_eq_true rfl) rfl ?_
      refine ax_bipush (pc := 16) (v := nI 32) G dX10_nextToken_16 ib_32 ?_
      refine ax_icmp_ne (pc := 18) (tgt := 34) G dX10_nextToken_18 rfl (fun _ => ?_) (fun c9 => absurd c9 (by rw [hx9]; exact pAtB_s))
      exact L34 x (by omega) (by rw [pTok, ← hr, pSkip])
    | succ f ih =>
      intro x hx hr
      refine ax_aload_n (pc := 8) G dX10_nextToken_8 rfl rfl ?_
      refine ax_aload_n (pc := 9) G dX10_nextToken_9 rfl rfl ?_
      refine md_get (pc := 10) (v := .int (nI x)) G flX10_64_8 dX10_nextToken_10 rfl ?_
      refine ax_cV1 (pc := 13) (kb := 0) (nb := 0) G (mt_byteAt hA (h := h) (m := m) (μ := (mK μ (x, tk, st, vl, 0, p))) (n := n) hend hn x (by omega)) lVX10_67_8 dX10_nextToken_13 md_obj rfl (by decide) (Nat.le_of_ble_eq_true rfl) rfl ?_
      refine ax_bipush (pc := 16) (v := nI 32) G dX10_nextToken_16 ib_32 ?_
      refine ax_icmp_ne (pc := 18) (tgt := 34) G dX10_nextToken_18 rfl (fun c18 => ?_) (fun c18 => ?_)
      · replace c18 : ¬ (pAtB (μ.2 1) n x) = (nI 32) := c18
        exact L34 x (by omega) (by rw [pTok, ← hr, pSkip, if_neg c18])
      · replace c18 : (pAtB (μ.2 1) n x) = (nI 32) := c18
        refine ax_aload_n (pc := 21) G dX10_nextToken_21 rfl rfl ?_
        refine ax_dup (pc := 22) G dX10_nextToken_22 rfl ?_
        refine md_get (pc := 23) (v := .int (nI x)) G flX10_64_8 dX10_nextToken_23 rfl ?_
        refine ax_iconst (pc := 26) (v := nI 1) G dX10_nextToken_26 ic_1 ?_
        refine ax_iaddN (pc := 27) G dX10_nextToken_27 ?_
        refine md_put (pc := 28) G flX10_64_8 dX10_nextToken_28 hm (by decide) (rfl) rfl rfl ?_
        show ax_W Ω Γ _ _ (md_H h m (md_si (mK μ (x, tk, st, vl, 0, p)) 4 (nI (x + 1)))) _ _ _
        rw [mK_4]
        show ax_W Ω Γ _ _ (md_H h m (mK μ (x + 1, tk, st, vl, 0, p))) _ _ _
        refine ax_goto (pc := 31) (tgt := 8) G dX10_nextToken_31 rfl ?_
        exact ih (x + 1) (by omega) (by rw [← hr, pSkip, if_pos c18])
  show ax_W Ω Γ 0 0 (md_H h m (mK μ (nx, tk, st, vl, 0, p))) 0 [some (.ref m)] []
  refine ax_aload_n (pc := 0) G dX10_nextToken_0 rfl rfl ?_
  refine md_get (pc := 1) (v := .int (nI 0)) G flX10_55_8 dX10_nextToken_1 rfl ?_
  refine ax_if_le (pc := 4) (tgt := 8) G dX10_nextToken_4 rfl (fun _ => ?_) (fun c9 => absurd (by decide) c9)
  exact LS (n - nx) nx (by omega) rfl

