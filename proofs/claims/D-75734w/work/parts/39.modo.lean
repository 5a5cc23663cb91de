/-! THE MODEL: accounts written -/
theorem mq_writeAccount_Y {Ω : ax_O} (hA : ax_Amb Ω) {h : ax_H} {m : Nat} {μ : md_S} (hm : Ω.2.1.heap.size ≤ m) (h19 : μ.1 19 = nI 1) {P V O A : Nat} (hp : pWP (μ.2 2) P V O) (hs : pWS (μ.2 4) A) (k : Nat) (hk : k < P) {n : Nat} (hn : (μ.2 2) (11 + k) = nI n) (hn8 : n ≤ 8) (g u lo le : Nat) (hg : (μ.2 4) (17 + k) = nI g) (hu : (μ.2 4) (23 + k) = nI u) (hlo : (μ.2 4) (29 + k) = nI lo) (hle : pLeft (μ.2 4) k = nI le) (bg : g < 100000) (bu : u < 100000) (bl : lo < 100000) (be : le < 100000) : ax_Met Ω yX10_writeAccount 14 0 0 [.ref m, .int (nI k)] (md_H h m μ) (.inl (some (.int (nI (pName (μ.2 2) k n ++ [nI 58] ++ pDig g ++ [nI 61] ++ pDig u ++ [nI 43] ++ pDig lo ++ [nI 43] ++ pDig le).length)))) (md_H h m (mW (md_si (md_si μ 0 (nI 0)) 24 (nI 0)) 0 (pName (μ.2 2) k n ++ [nI 58] ++ pDig g ++ [nI 61] ++ pDig u ++ [nI 43] ++ pDig lo ++ [nI 43] ++ pDig le))) := by
  refine ax_met q3169 q142 (by decide +kernel) (by decide) hA (Nat.le_of_ble_eq_true rfl) (fun Γ G E => ?_)
  have dg := @pDig_len g
  have du := @pDig_len u
  have dl := @pDig_len lo
  have de := @pDig_len le
  have hP9 := hp.lP
  have LL : ∀ (j i : Nat), i + j = n → ax_W Ω Γ 0 0 (md_H h m (mW (md_si (md_si μ 0 (nI 0)) 24 (nI 0)) 0 (pName (μ.2 2) k i))) 21 [some (.ref m), some (.int (nI k)), some (.int (nI i))] [] := by
    intro j
    induction j with
    | zero =>
      intro i hi
      have hi9 : n = i := by omega
      subst hi9
      refine ax_iload_n (pc := 21) G dX10_writeAccount_21 rfl rfl ?_
      refine ax_aload_n (pc := 22) G dX10_writeAccount_22 rfl rfl ?_
      refine md_get (pc := 23) (v := .ref (m + 2)) G flX10_17_8 dX10_writeAccount_23 rfl ?_
      refine ax_bipush (pc := 26) (v := nI 11) G dX10_writeAccount_26 ib_11 ?_
      refine ax_iload_n (pc := 28) G dX10_writeAccount_28 rfl rfl ?_
      refine ax_iaddN (pc := 29) G dX10_writeAccount_29 ?_
      refine md_ld (pc := 30) (i := 11 + k) (j := 2) G 235 dX10_writeAccount_30 (by decide) (by decide) rfl rfl rfl (by omega) (by decide) ?_
      refine ax_top (show Value.int ((μ.2 2) (11 + k)) = .int (nI n) from congrArg Value.int (hn)) ?_
      refine ax_icmp_geN (pc := 31) (tgt := 58) G dX10_writeAccount_31 rfl (by omega) (by omega) (fun c31 => ?_) (fun c31 => ?_)
      · refine ax_aload_n (pc := 58) G dX10_writeAccount_58 rfl rfl ?_
        refine ax_bipush (pc := 59) (v := nI 58) G dX10_writeAccount_59 ib_58 ?_
        refine ax_cV0 (pc := 61) (kb := 0) (nb := 0) G (mt_wBa hA (h := h) (m := m) hm (μ := (md_si (md_si μ 0 (nI 0)) 24 (nI 0))) (pName (μ.2 2) k n) (by (try simp only [List.length_append, List.length_cons, List.length_nil, pName_len]); omega) (nI 58)) lVX10_401_8 dX10_writeAccount_61 md_obj rfl (by decide) (Nat.le_of_ble_eq_true rfl) rfl ?_
        show ax_W Ω Γ _ _ (md_H h m (mW (md_si (md_si μ 0 (nI 0)) 24 (nI 0)) 0 (pName (μ.2 2) k n ++ [nI 58]))) _ _ _
        refine ax_aload_n (pc := 64) G dX10_writeAccount_64 rfl rfl ?_
        refine ax_aload_n (pc := 65) G dX10_writeAccount_65 rfl rfl ?_
        refine md_get (pc := 66) (v := .ref (m + 4)) G flX10_23_8 dX10_writeAccount_66 rfl ?_
        refine ax_bipush (pc := 69) (v := nI 17) G dX10_writeAccount_69 ib_17 ?_
        refine ax_iload_n (pc := 71) G dX10_writeAccount_71 rfl rfl ?_
        refine ax_iaddN (pc := 72) G dX10_writeAccount_72 ?_
        refine md_ld (pc := 73) (i := 17 + k) (j := 4) G 627 dX10_writeAccount_73 (by decide) (by decide) rfl rfl rfl (by omega) (by decide) ?_
        refine ax_cV0 (pc := 74) (kb := 0) (nb := 0) G (mt_wNa hA (h := h) (m := m) hm (μ := (md_si (md_si μ 0 (nI 0)) 24 (nI 0))) (pName (μ.2 2) k n ++ [nI 58]) g (show (μ.2 4) (17 + k) = nI g from hg) bg (by (try simp only [List.length_append, List.length_cons, List.length_nil, pName_len]); omega)) lVX10_404_8 dX10_writeAccount_74 md_obj rfl (by decide) (Nat.le_of_ble_eq_true rfl) rfl ?_
        show ax_W Ω Γ _ _ (md_H h m (mW (md_si (md_si μ 0 (nI 0)) 24 (nI 0)) 0 (pName (μ.2 2) k n ++ [nI 58] ++ pDig g))) _ _ _
        refine ax_aload_n (pc := 77) G dX10_writeAccount_77 rfl rfl ?_
        refine ax_bipush (pc := 78) (v := nI 61) G dX10_writeAccount_78 ib_61 ?_
        refine ax_cV0 (pc := 80) (kb := 0) (nb := 0) G (mt_wBa hA (h := h) (m := m) hm (μ := (md_si (md_si μ 0 (nI 0)) 24 (nI 0))) (pName (μ.2 2) k n ++ [nI 58] ++ pDig g) (by (try simp only [List.length_append, List.length_cons, List.length_nil, pName_len]); omega) (nI 61)) lVX10_401_8 dX10_writeAccount_80 md_obj rfl (by decide) (Nat.le_of_ble_eq_true rfl) rfl ?_
        show ax_W Ω Γ _ _ (md_H h m (mW (md_si (md_si μ 0 (nI 0)) 24 (nI 0)) 0 (pName (μ.2 2) k n ++ [nI 58] ++ pDig g ++ [nI 61]))) _ _ _
        refine ax_aload_n (pc := 83) G dX10_writeAccount_83 rfl rfl ?_
        refine ax_aload_n (pc := 84) G dX10_writeAccount_84 rfl rfl ?_
        refine md_get (pc := 85) (v := .ref (m + 4)) G flX10_23_8 dX10_writeAccount_85 rfl ?_
        refine ax_bipush (pc := 88) (v := nI 23) G dX10_writeAccount_88 ib_23 ?_
        refine ax_iload_n (pc := 90) G dX10_writeAccount_90 rfl rfl ?_
        refine ax_iaddN (pc := 91) G dX10_writeAccount_91 ?_
        refine md_ld (pc := 92) (i := 23 + k) (j := 4) G 627 dX10_writeAccount_92 (by decide) (by decide) rfl rfl rfl (by omega) (by decide) ?_
        refine ax_cV0 (pc := 93) (kb := 0) (nb := 0) G (mt_wNa hA (h := h) (m := m) hm (μ := (md_si (md_si μ 0 (nI 0)) 24 (nI 0))) (pName (μ.2 2) k n ++ [nI 58] ++ pDig g ++ [nI 61]) u (show (μ.2 4) (23 + k) = nI u from hu) bu (by (try simp only [List.length_append, List.length_cons, List.length_nil, pName_len]); omega)) lVX10_404_8 dX10_writeAccount_93 md_obj rfl (by decide) (Nat.le_of_ble_eq_true rfl) rfl ?_
        show ax_W Ω Γ _ _ (md_H h m (mW (md_si (md_si μ 0 (nI 0)) 24 (nI 0)) 0 (pName (μ.2 2) k n ++ [nI 58] ++ pDig g ++ [nI 61] ++ pDig u))) _ _ _
        refine ax_aload_n (pc := 96) G dX10_writeAccount_96 rfl rfl ?_
        refine ax_bipush (pc := 97) (v := nI 43) G dX10_writeAccount_97 ib_43 ?_
        refine ax_cV0 (pc := 99) (kb := 0) (nb := 0) G (mt_wBa hA (h := h) (m := m) hm (μ := (md_si (md_si μ 0 (nI 0)) 24 (nI 0))) (pName (μ.2 2) k n ++ [nI 58] ++ pDig g ++ [nI 61] ++ pDig u) (by (try simp only [List.length_append, List.length_cons, List.length_nil, pName_len]); omega) (nI 43)) lVX10_401_8 dX10_writeAccount_99 md_obj rfl (by decide) (Nat.le_of_ble_eq_true rfl) rfl ?_
        show ax_W Ω Γ _ _ (md_H h m (mW (md_si (md_si μ 0 (nI 0)) 24 (nI 0)) 0 (pName (μ.2 2) k n ++ [nI 58] ++ pDig g ++ [nI 61] ++ pDig u ++ [nI 43]))) _ _ _
        refine ax_aload_n (pc := 102) G dX10_writeAccount_102 rfl rfl ?_
        refine ax_aload_n (pc := 103) G dX10_writeAccount_103 rfl rfl ?_
        refine md_get (pc := 104) (v := .ref (m + 4)) G flX10_23_8 dX10_writeAccount_104 rfl ?_
        refine ax_bipush (pc := 107) (v := nI 29) G dX10_writeAccount_107 ib_29 ?_
        refine ax_iload_n (pc := 109) G dX10_writeAccount_109 rfl rfl ?_
        refine ax_iaddN (pc := 110) G dX10_writeAccount_110 ?_
        refine md_ld (pc := 111) (i := 29 + k) (j := 4) G 627 dX10_writeAccount_111 (by decide) (by decide) rfl rfl rfl (by omega) (by decide) ?_
        refine ax_cV0 (pc := 112) (kb := 0) (nb := 0) G (mt_wNa hA (h := h) (m := m) hm (μ := (md_si (md_si μ 0 (nI 0)) 24 (nI 0))) (pName (μ.2 2) k n ++ [nI 58] ++ pDig g ++ [nI 61] ++ pDig u ++ [nI 43]) lo (show (μ.2 4) (29 + k) = nI lo from hlo) bl (by (try simp only [List.length_append, List.length_cons, List.length_nil, pName_len]); omega)) lVX10_404_8 dX10_writeAccount_112 md_obj rfl (by decide) (Nat.le_of_ble_eq_true rfl) rfl ?_
        show ax_W Ω Γ _ _ (md_H h m (mW (md_si (md_si μ 0 (nI 0)) 24 (nI 0)) 0 (pName (μ.2 2) k n ++ [nI 58] ++ pDig g ++ [nI 61] ++ pDig u ++ [nI 43] ++ pDig lo))) _ _ _
        refine ax_aload_n (pc := 115) G dX10_writeAccount_115 rfl rfl ?_
        refine ax_bipush (pc := 116) (v := nI 43) G dX10_writeAccount_116 ib_43 ?_
        refine ax_cV0 (pc := 118) (kb := 0) (nb := 0) G (mt_wBa hA (h := h) (m := m) hm (μ := (md_si (md_si μ 0 (nI 0)) 24 (nI 0))) (pName (μ.2 2) k n ++ [nI 58] ++ pDig g ++ [nI 61] ++ pDig u ++ [nI 43] ++ pDig lo) (by (try simp only [List.length_append, List.length_cons, List.length_nil, pName_len]); omega) (nI 43)) lVX10_401_8 dX10_writeAccount_118 md_obj rfl (by decide) (Nat.le_of_ble_eq_true rfl) rfl ?_
        show ax_W Ω Γ _ _ (md_H h m (mW (md_si (md_si μ 0 (nI 0)) 24 (nI 0)) 0 (pName (μ.2 2) k n ++ [nI 58] ++ pDig g ++ [nI 61] ++ pDig u ++ [nI 43] ++ pDig lo ++ [nI 43]))) _ _ _
        refine ax_aload_n (pc := 121) G dX10_writeAccount_121 rfl rfl ?_
        refine ax_aload_n (pc := 122) G dX10_writeAccount_122 rfl rfl ?_
        refine md_get (pc := 123) (v := .ref (m + 4)) G flX10_23_8 dX10_writeAccount_123 rfl ?_
        refine ax_iload_n (pc := 126) G dX10_writeAccount_126 rfl rfl ?_
        refine ax_cS1 (pc := 127) (kb := 0) (nb := 0) G (md_ro (mt_leftTo hA (μ := (mW (md_si (md_si μ 0 (nI 0)) 24 (nI 0)) 0 (pName (μ.2 2) k n ++ [nI 58] ++ pDig g ++ [nI 61] ++ pDig u ++ [nI 43] ++ pDig lo ++ [nI 43]))) (s := μ.2 4) (j := 4) (Or.inl rfl) k (by omega))) lSX10_259 dX10_writeAccount_127 rfl (by decide) (Nat.le_of_ble_eq_true rfl) rfl ?_
        refine ax_cV0 (pc := 130) (kb := 0) (nb := 0) G (mt_wNa hA (h := h) (m := m) hm (μ := (md_si (md_si μ 0 (nI 0)) 24 (nI 0))) (pName (μ.2 2) k n ++ [nI 58] ++ pDig g ++ [nI 61] ++ pDig u ++ [nI 43] ++ pDig lo ++ [nI 43]) le (show pLeft (μ.2 4) k = nI le from hle) be (by (try simp only [List.length_append, List.length_cons, List.length_nil, pName_len]); omega)) lVX10_404_8 dX10_writeAccount_130 md_obj rfl (by decide) (Nat.le_of_ble_eq_true rfl) rfl ?_
        show ax_W Ω Γ _ _ (md_H h m (mW (md_si (md_si μ 0 (nI 0)) 24 (nI 0)) 0 (pName (μ.2 2) k n ++ [nI 58] ++ pDig g ++ [nI 61] ++ pDig u ++ [nI 43] ++ pDig lo ++ [nI 43] ++ pDig le))) _ _ _
        refine ax_aload_n (pc := 133) G dX10_writeAccount_133 rfl rfl ?_
        refine md_get (pc := 134) (v := .int (nI (0 + (pName (μ.2 2) k n ++ [nI 58] ++ pDig g ++ [nI 61] ++ pDig u ++ [nI 43] ++ pDig lo ++ [nI 43] ++ pDig le).length))) G flX10_398_8 dX10_writeAccount_134 rfl ?_
        exact ax_iretE (pc := 137) G E rfl (rfl) dX10_writeAccount_137 (by rw [Nat.zero_add]) (rfl)
      · omega
    | succ j ih =>
      intro i hi
      refine ax_iload_n (pc := 21) G dX10_writeAccount_21 rfl rfl ?_
      refine ax_aload_n (pc := 22) G dX10_writeAccount_22 rfl rfl ?_
      refine md_get (pc := 23) (v := .ref (m + 2)) G flX10_17_8 dX10_writeAccount_23 rfl ?_
      refine ax_bipush (pc := 26) (v := nI 11) G dX10_writeAccount_26 ib_11 ?_
      refine ax_iload_n (pc := 28) G dX10_writeAccount_28 rfl rfl ?_
      refine ax_iaddN (pc := 29) G dX10_writeAccount_29 ?_
      refine md_ld (pc := 30) (i := 11 + k) (j := 2) G 235 dX10_writeAccount_30 (by decide) (by decide) rfl rfl rfl (by omega) (by decide) ?_
      refine ax_top (show Value.int ((μ.2 2) (11 + k)) = .int (nI n) from congrArg Value.int (hn)) ?_
      refine ax_icmp_geN (pc := 31) (tgt := 58) G dX10_writeAccount_31 rfl (by omega) (by omega) (fun c31 => ?_) (fun c31 => ?_)
      · omega
      · refine ax_aload_n (pc := 34) G dX10_writeAccount_34 rfl rfl ?_
        refine ax_aload_n (pc := 35) G dX10_writeAccount_35 rfl rfl ?_
        refine md_get (pc := 36) (v := .ref (m + 2)) G flX10_17_8 dX10_writeAccount_36 rfl ?_
        refine ax_bipush (pc := 39) (v := nI 17) G dX10_writeAccount_39 ib_17 ?_
        refine ax_bipush (pc := 41) (v := nI 8) G dX10_writeAccount_41 ib_8 ?_
        refine ax_iload_n (pc := 43) G dX10_writeAccount_43 rfl rfl ?_
        refine ax_imulN (pc := 44) G dX10_writeAccount_44 ?_
        refine ax_iaddN (pc := 45) G dX10_writeAccount_45 ?_
        refine ax_iload_n (pc := 46) G dX10_writeAccount_46 rfl rfl ?_
        refine ax_iaddN (pc := 47) G dX10_writeAccount_47 ?_
        refine md_ld (pc := 48) (i := 17 + (8 * k) + i) (j := 2) G 235 dX10_writeAccount_48 (by decide) (by decide) rfl rfl rfl (by omega) (by decide) ?_
        refine ax_cV0 (pc := 49) (kb := 0) (nb := 0) G (mt_wBa hA (h := h) (m := m) hm (μ := (md_si (md_si μ 0 (nI 0)) 24 (nI 0))) (pName (μ.2 2) k i) (by (try simp only [List.length_append, List.length_cons, List.length_nil, pName_len]); omega) ((μ.2 2) (17 + (8 * k) + i))) lVX10_401_8 dX10_writeAccount_49 md_obj rfl (by decide) (Nat.le_of_ble_eq_true rfl) rfl ?_
        show ax_W Ω Γ _ _ (md_H h m (mW (md_si (md_si μ 0 (nI 0)) 24 (nI 0)) 0 (pName (μ.2 2) k i ++ [(μ.2 2) (17 + (8 * k) + i)]))) _ _ _
        refine ax_iincN (pc := 52) (n := 1) G dX10_writeAccount_52 rfl rfl ic_1 ?_
        refine ax_goto (pc := 55) (tgt := 21) G dX10_writeAccount_55 rfl ?_
        exact ih (i + 1) (by omega)
  show ax_W Ω Γ 0 0 (md_H h m μ) 0 [some (.ref m), some (.int (nI k)), none] []
  refine ax_aload_n (pc := 0) G dX10_writeAccount_0 rfl rfl ?_
  refine ax_aload_n (pc := 1) G dX10_writeAccount_1 rfl rfl ?_
  refine ax_iload_n (pc := 2) G dX10_writeAccount_2 rfl rfl ?_
  refine ax_cV1 (pc := 3) (kb := 0) (nb := 0) G (mt_isProposal hA (μ := μ) (nI k)) lVX10_358_8 dX10_writeAccount_3 md_obj rfl (by decide) (Nat.le_of_ble_eq_true rfl) rfl ?_
  refine ax_top (show Value.int (bI (pIn (nI k) (nI 0) ((μ.2 2) 10 - nI 1))) = .int (nI 1) from congrArg Value.int (by rw [pIn_k hp.hP hk (by have := hp.lP; omega)]; rfl)) ?_
  refine ax_cV1 (pc := 6) (kb := 0) (nb := 0) G (mt_mayAskY hA (μ := μ) hm h19) lVX10_368_8 dX10_writeAccount_6 md_obj rfl (by decide) (Nat.le_of_ble_eq_true rfl) rfl ?_
  show ax_W Ω Γ _ _ (md_H h m (md_si μ 0 (nI 0))) _ _ _
  refine ax_if_ne (pc := 9) (tgt := 14) G dX10_writeAccount_9 rfl (fun _ => ?_) (fun c9 => absurd c9 (by decide))
  refine ax_aload_n (pc := 14) G dX10_writeAccount_14 rfl rfl ?_
  refine ax_iconst (pc := 15) (v := nI 0) G dX10_writeAccount_15 ic_0 ?_
  refine md_put (pc := 16) G flX10_398_8 dX10_writeAccount_16 hm (by decide) (rfl) rfl rfl ?_
  refine ax_iconst (pc := 19) (v := nI 0) G dX10_writeAccount_19 ic_0 ?_
  refine ax_istore_n (pc := 20) G dX10_writeAccount_20 rfl (Nat.le_of_ble_eq_true rfl) rfl ?_
  have q9 := LL n 0 (by omega)
  rw [show mW (md_si (md_si μ 0 (nI 0)) 24 (nI 0)) 0 (pName (μ.2 2) k 0) = (md_si (md_si μ 0 (nI 0)) 24 (nI 0)) from mW_0 _ rfl] at q9
  exact q9

theorem mq_writeAccount_N {Ω : ax_O} (hA : ax_Amb Ω) {h : ax_H} {m : Nat} {μ : md_S} (hm : Ω.2.1.heap.size ≤ m) (h19 : μ.1 19 = nI 0) (k : Int32)  : ax_Met Ω yX10_writeAccount 14 0 0 [.ref m, .int k] (md_H h m μ) (.inl (some (.int (nI 0)))) (md_H h m (md_si μ 0 (nI 1))) := by
  refine ax_met q3169 q142 (by decide +kernel) (by decide) hA (Nat.le_of_ble_eq_true rfl) (fun Γ G E => ?_)
  show ax_W Ω Γ 0 0 (md_H h m μ) 0 [some (.ref m), some (.int k), none] []
  refine ax_aload_n (pc := 0) G dX10_writeAccount_0 rfl rfl ?_
  refine ax_aload_n (pc := 1) G dX10_writeAccount_1 rfl rfl ?_
  refine ax_iload_n (pc := 2) G dX10_writeAccount_2 rfl rfl ?_
  refine ax_cV1 (pc := 3) (kb := 0) (nb := 0) G (mt_isProposal hA (μ := μ) k) lVX10_358_8 dX10_writeAccount_3 md_obj rfl (by decide) (Nat.le_of_ble_eq_true rfl) rfl ?_
  refine ax_cV1 (pc := 6) (kb := 0) (nb := 0) G (mt_mayAskN hA (μ := μ) hm h19 (pIn k (nI 0) ((μ.2 2) 10 - nI 1))) lVX10_368_8 dX10_writeAccount_6 md_obj rfl (by decide) (Nat.le_of_ble_eq_true rfl) rfl ?_
  show ax_W Ω Γ _ _ (md_H h m (md_si μ 0 (nI 1))) _ _ _
  refine ax_if_ne (pc := 9) (tgt := 14) G dX10_writeAccount_9 rfl (fun c9 => absurd rfl c9) (fun _ => ?_)
  refine ax_iconst (pc := 12) (v := nI 0) G dX10_writeAccount_12 ic_0 ?_
  exact ax_iretE (pc := 13) G E rfl (rfl) dX10_writeAccount_13 (rfl) (rfl)

theorem mq_writeAccount_B {Ω : ax_O} (hA : ax_Amb Ω) {h : ax_H} {m : Nat} {μ : md_S} (hm : Ω.2.1.heap.size ≤ m) (h19 : μ.1 19 = nI 1) (k : Int32) (hb : pIn k (nI 0) ((μ.2 2) 10 - nI 1) = false) : ax_Met Ω yX10_writeAccount 14 0 0 [.ref m, .int k] (md_H h m μ) (.inl (some (.int (nI 0)))) (md_H h m (md_si μ 0 (nI 2))) := by
  refine ax_met q3169 q142 (by decide +kernel) (by decide) hA (Nat.le_of_ble_eq_true rfl) (fun Γ G E => ?_)
  show ax_W Ω Γ 0 0 (md_H h m μ) 0 [some (.ref m), some (.int k), none] []
  refine ax_aload_n (pc := 0) G dX10_writeAccount_0 rfl rfl ?_
  refine ax_aload_n (pc := 1) G dX10_writeAccount_1 rfl rfl ?_
  refine ax_iload_n (pc := 2) G dX10_writeAccount_2 rfl rfl ?_
  refine ax_cV1 (pc := 3) (kb := 0) (nb := 0) G (mt_isProposal hA (μ := μ) k) lVX10_358_8 dX10_writeAccount_3 md_obj rfl (by decide) (Nat.le_of_ble_eq_true rfl) rfl ?_
  refine ax_top (show Value.int (bI (pIn k (nI 0) ((μ.2 2) 10 - nI 1))) = .int (nI 0) from congrArg Value.int (by rw [hb]; rfl)) ?_
  refine ax_cV1 (pc := 6) (kb := 0) (nb := 0) G (mt_mayAskB hA (μ := μ) hm h19) lVX10_368_8 dX10_writeAccount_6 md_obj rfl (by decide) (Nat.le_of_ble_eq_true rfl) rfl ?_
  show ax_W Ω Γ _ _ (md_H h m (md_si μ 0 (nI 2))) _ _ _
  refine ax_if_ne (pc := 9) (tgt := 14) G dX10_writeAccount_9 rfl (fun c9 => absurd rfl c9) (fun _ => ?_)
  refine ax_iconst (pc := 12) (v := nI 0) G dX10_writeAccount_12 ic_0 ?_
  exact ax_iretE (pc := 13) G E rfl (rfl) dX10_writeAccount_13 (rfl) (rfl)

theorem mq_textByte_Y {Ω : ax_O} (hA : ax_Amb Ω) {h : ax_H} {m : Nat} {μ : md_S} (hm : Ω.2.1.heap.size ≤ m) {Z : Nat} (hZ : μ.1 24 = nI Z) (hZ8 : Z ≤ 80) (k : Nat) (hk : k < Z) : ax_Met Ω yX10_textByte 14 0 0 [.ref m, .int (nI k)] (md_H h m μ) (.inl (some (.int ((μ.2 10) k)))) (md_H h m (md_si μ 0 (nI 0))) := by
  refine ax_met q3173 q142 (by decide +kernel) (by decide) hA (Nat.le_of_ble_eq_true rfl) (fun Γ G E => ?_)
  show ax_W Ω Γ 0 0 (md_H h m μ) 0 [some (.ref m), some (.int (nI k))] []
  refine ax_aload_n (pc := 0) G dX10_textByte_0 rfl rfl ?_
  refine ax_iload_n (pc := 1) G dX10_textByte_1 rfl rfl ?_
  refine ax_iconst (pc := 2) (v := nI 0) G dX10_textByte_2 ic_0 ?_
  refine ax_aload_n (pc := 3) G dX10_textByte_3 rfl rfl ?_
  refine md_get (pc := 4) (v := .int (μ.1 24)) G flX10_398_8 dX10_textByte_4 rfl ?_
  refine ax_iconst (pc := 7) (v := nI 1) G dX10_textByte_7 ic_1 ?_
  refine ax_isub (pc := 8) G dX10_textByte_8 ?_
  refine ax_cS1 (pc := 9) (kb := 0) (nb := 0) G (mt_in hA (nI k) (nI 0) ((μ.1 24) - (nI 1))) lSX10_74 dX10_textByte_9 rfl (by decide) (Nat.le_of_ble_eq_true rfl) rfl ?_
  refine ax_top (show Value.int (bI (pIn (nI k) (nI 0) ((μ.1 24) - (nI 1)))) = .int (nI 1) from congrArg Value.int (by rw [pIn_k hZ hk (by omega)]; rfl)) ?_
  refine ax_if_eq (pc := 12) (tgt := 19) G dX10_textByte_12 rfl (fun c9 => absurd c9 (by decide)) (fun _ => ?_)
  refine ax_iconst (pc := 15) (v := nI 0) G dX10_textByte_15 ic_0 ?_
  refine ax_goto (pc := 16) (tgt := 20) G dX10_textByte_16 rfl ?_
  refine md_put (pc := 20) G flX10_45_8 dX10_textByte_20 hm (by decide) (rfl) rfl rfl ?_
  refine ax_aload_n (pc := 23) G dX10_textByte_23 rfl rfl ?_
  refine md_get (pc := 24) (v := .int (nI 0)) G flX10_45_8 dX10_textByte_24 rfl ?_
  refine ax_if_ne (pc := 27) (tgt := 39) G dX10_textByte_27 rfl (fun c9 => absurd rfl c9) (fun _ => ?_)
  refine ax_aload_n (pc := 30) G dX10_textByte_30 rfl rfl ?_
  refine md_get (pc := 31) (v := .ref (m + 10)) G flX10_42_8 dX10_textByte_31 rfl ?_
  refine ax_iload_n (pc := 34) G dX10_textByte_34 rfl rfl ?_
  refine md_ld (pc := 35) (i := k) (j := 10) G 80 dX10_textByte_35 (by decide) (by decide) rfl rfl rfl (by omega) (by decide) ?_
  refine ax_goto (pc := 36) (tgt := 40) G dX10_textByte_36 rfl ?_
  exact ax_iretE (pc := 40) G E rfl (rfl) dX10_textByte_40 (rfl) (rfl)

theorem mq_textByte_B {Ω : ax_O} (hA : ax_Amb Ω) {h : ax_H} {m : Nat} {μ : md_S} (hm : Ω.2.1.heap.size ≤ m) (k : Int32) (hb : pIn k (nI 0) ((μ.1 24) - (nI 1)) = false) : ax_Met Ω yX10_textByte 14 0 0 [.ref m, .int k] (md_H h m μ) (.inl (some (.int (nI 0)))) (md_H h m (md_si μ 0 (nI 1))) := by
  refine ax_met q3173 q142 (by decide +kernel) (by decide) hA (Nat.le_of_ble_eq_true rfl) (fun Γ G E => ?_)
  show ax_W Ω Γ 0 0 (md_H h m μ) 0 [some (.ref m), some (.int k)] []
  refine ax_aload_n (pc := 0) G dX10_textByte_0 rfl rfl ?_
  refine ax_iload_n (pc := 1) G dX10_textByte_1 rfl rfl ?_
  refine ax_iconst (pc := 2) (v := nI 0) G dX10_textByte_2 ic_0 ?_
  refine ax_aload_n (pc := 3) G dX10_textByte_3 rfl rfl ?_
  refine md_get (pc := 4) (v := .int (μ.1 24)) G flX10_398_8 dX10_textByte_4 rfl ?_
  refine ax_iconst (pc := 7) (v := nI 1) G dX10_textByte_7 ic_1 ?_
  refine ax_isub (pc := 8) G dX10_textByte_8 ?_
  refine ax_cS1 (pc := 9) (kb := 0) (nb := 0) G (mt_in hA k (nI 0) ((μ.1 24) - (nI 1))) lSX10_74 dX10_textByte_9 rfl (by decide) (Nat.le_of_ble_eq_true rfl) rfl ?_
  refine ax_top (show Value.int (bI (pIn k (nI 0) ((μ.1 24) - (nI 1)))) = .int (nI 0) from congrArg Value.int (by rw [hb]; rfl)) ?_
  refine ax_if_eq (pc := 12) (tgt := 19) G dX10_textByte_12 rfl (fun _ => ?_) (fun c9 => absurd rfl c9)
  refine ax_iconst (pc := 19) (v := nI 1) G dX10_textByte_19 ic_1 ?_
  refine md_put (pc := 20) G flX10_45_8 dX10_textByte_20 hm (by decide) (rfl) rfl rfl ?_
  refine ax_aload_n (pc := 23) G dX10_textByte_23 rfl rfl ?_
  refine md_get (pc := 24) (v := .int (nI 1)) G flX10_45_8 dX10_textByte_24 rfl ?_
  refine ax_if_ne (pc := 27) (tgt := 39) G dX10_textByte_27 rfl (fun _ => ?_) (fun c9 => absurd c9 (by decide))
  refine ax_iconst (pc := 39) (v := nI 0) G dX10_textByte_39 ic_0 ?_
  exact ax_iretE (pc := 40) G E rfl (rfl) dX10_textByte_40 (rfl) (rfl)

