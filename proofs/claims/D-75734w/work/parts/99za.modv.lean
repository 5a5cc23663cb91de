/-! THE MODEL: a text is loaded -/
theorem ld_e {μ : md_S} {n tk st : Nat} (h7 : μ.1 7 = nI tk) (h8 : μ.1 8 = nI st) : md_si (md_si (md_si (md_si (md_si (md_si μ 0 (nI 0)) 3 (nI n)) 2 (nI 0)) 4 (nI 0)) 5 (nI 0)) 6 (-1) = mK (md_si (md_si (md_si μ 0 (nI 0)) 3 (nI n)) 2 (nI 0)) (0, tk, st, μ.1 9, 0, -1) := by
  unfold md_si mK
  congr 1
  funext i
  simp only [upd]
  by_cases c4 : i = 4
  · subst c4; simp
  by_cases c7 : i = 7
  · subst c7; simp [h7]
  by_cases c8 : i = 8
  · subst c8; simp [h8]
  by_cases c9 : i = 9
  · subst c9; simp
  by_cases c5 : i = 5
  · subst c5; simp
  by_cases c6 : i = 6
  · subst c6; simp
  simp [c4, c7, c8, c9, c5, c6]
theorem mq_load_Y {Ω : ax_O} (hA : ax_Amb Ω) {h : ax_H} {m : Nat} {μ : md_S} (hm : Ω.2.1.heap.size ≤ m) (hL : mLit Ω h m) {tk st : Nat} (h7 : μ.1 7 = nI tk) (h8 : μ.1 8 = nI st) {bn n : Nat} (hB : μ.1 2 = nI bn) (hbn : bn ≤ 1000) (hn : n ≤ bn) {ψ : rS} (hψ : ψ = rText (μ.2 1) n (0, tk, st, μ.1 9, 0, -1)) (hc : ψ.1.2.2.2.2.1 = 0)  : ax_Met Ω yX10_load 15 0 0 [.ref m, .int (nI n)] (md_H h m μ) (.inl (some (.int (ψ.2.1 65)))) (md_H h m (md_si (md_sa (md_sa (md_si (md_sa (md_sa (md_sa (md_sa (mK (md_si (md_si (md_si μ 0 (nI 0)) 3 (nI n)) 2 (nI 0)) (ψ.1.1, ψ.1.2.1, ψ.1.2.2.1, ψ.1.2.2.2.1, 0, ψ.1.2.2.2.2.2)) 3 ψ.2.1) 5 ψ.2.2) 2 ψ.2.1) 4 (pPut (μ.2 4) (fun z9 => ψ.2.2 (0 + z9)) 0 627)) 19 (nI 1)) 9 (upd (μ.2 9) 0 (bI false))) 9 (upd (upd (μ.2 9) 0 (bI false)) 1 (bI false))) 18 (nI 0))) := by
  refine ax_met q2659 q142 (by decide +kernel) (by decide) hA (Nat.le_of_ble_eq_true rfl) (fun Γ G E => ?_)
  obtain ⟨⟨nx9, tk9, st9, vl9, cd9, pl9⟩, f9, g9⟩ := ψ
  obtain rfl : cd9 = 0 := hc
  show ax_W Ω Γ 0 0 (md_H h m μ) 0 [some (.ref m), some (.int (nI n)), none] []
  refine ax_aload_n (pc := 0) G dX10_load_0 rfl rfl ?_
  refine ax_iconst (pc := 1) (v := nI 0) G dX10_load_1 ic_0 ?_
  refine md_put (pc := 2) G flX10_45_8 dX10_load_2 hm (by decide) (rfl) rfl rfl ?_
  refine ax_iload_n (pc := 5) G dX10_load_5 rfl rfl ?_
  refine ax_iconst (pc := 6) (v := nI 0) G dX10_load_6 ic_0 ?_
  refine ax_aload_n (pc := 7) G dX10_load_7 rfl rfl ?_
  refine md_get (pc := 8) (v := .int (μ.1 2)) G flX10_48_8 dX10_load_8 rfl ?_
  refine ax_top (show Value.int (μ.1 2) = .int (nI bn) from congrArg Value.int (hB)) ?_
  refine ax_cS1 (pc := 11) (kb := 0) (nb := 0) G (mt_in hA (nI n) (nI 0) (nI bn)) lSX10_74 dX10_load_11 rfl (by decide) (Nat.le_of_ble_eq_true rfl) rfl ?_
  refine ax_top (show Value.int (bI (pIn (nI n) (nI 0) (nI bn))) = .int (nI 1) from congrArg Value.int (by rw [pIn_c (Nat.zero_le _) hn (by omega)]; rfl)) ?_
  refine ax_if_ne (pc := 14) (tgt := 23) G dX10_load_14 rfl (fun _ => ?_) (fun c9 => absurd c9 (by decide))
  refine ax_aload_n (pc := 23) G dX10_load_23 rfl rfl ?_
  refine ax_iload_n (pc := 24) G dX10_load_24 rfl rfl ?_
  refine md_put (pc := 25) G flX10_58_8 dX10_load_25 hm (by decide) (rfl) rfl rfl ?_
  refine ax_aload_n (pc := 28) G dX10_load_28 rfl rfl ?_
  refine ax_iconst (pc := 29) (v := nI 0) G dX10_load_29 ic_0 ?_
  refine md_put (pc := 30) G flX10_48_8 dX10_load_30 hm (by decide) (rfl) rfl rfl ?_
  refine ax_aload_n (pc := 33) G dX10_load_33 rfl rfl ?_
  refine ax_iconst (pc := 34) (v := nI 0) G dX10_load_34 ic_0 ?_
  refine md_put (pc := 35) G flX10_64_8 dX10_load_35 hm (by decide) (rfl) rfl rfl ?_
  refine ax_aload_n (pc := 38) G dX10_load_38 rfl rfl ?_
  refine ax_iconst (pc := 39) (v := nI 0) G dX10_load_39 ic_0 ?_
  refine md_put (pc := 40) G flX10_55_8 dX10_load_40 hm (by decide) (rfl) rfl rfl ?_
  refine ax_aload_n (pc := 43) G dX10_load_43 rfl rfl ?_
  refine ax_iconst (pc := 44) (v := (-1)) G dX10_load_44 (by decide) ?_
  refine md_put (pc := 45) G flX10_13_8 dX10_load_45 hm (by decide) (rfl) rfl rfl ?_
  rw [ld_e h7 h8]
  refine ax_aload_n (pc := 48) G dX10_load_48 rfl rfl ?_
  refine ax_cV0 (pc := 49) (kb := 0) (nb := 0) G (mt_readText hA (h := h) (m := m) (μ := (md_si (md_si (md_si μ 0 (nI 0)) 3 (nI n)) 2 (nI 0))) hm (n := n) rfl (by omega) (b := μ.2 1) rfl tk st (μ.1 9) hL) lVX10_186_8 dX10_load_49 md_obj rfl (by decide) (Nat.le_of_ble_eq_true rfl) rfl ?_
  show ax_W Ω Γ _ _ (md_H h m (mP (md_si (md_si (md_si μ 0 (nI 0)) 3 (nI n)) 2 (nI 0)) (rText (μ.2 1) n (0, tk, st, μ.1 9, 0, -1)))) _ _ _
  rw [← hψ, mP_e]
  show ax_W Ω Γ _ _ (md_H h m (md_sa (md_sa (mK (md_si (md_si (md_si μ 0 (nI 0)) 3 (nI n)) 2 (nI 0)) (nx9, tk9, st9, vl9, 0, pl9)) 3 f9) 5 g9)) _ _ _
  refine ax_aload_n (pc := 52) G dX10_load_52 rfl rfl ?_
  refine md_get (pc := 53) (v := .int (nI 0)) G flX10_55_8 dX10_load_53 rfl ?_
  refine ax_if_le (pc := 56) (tgt := 65) G dX10_load_56 rfl (fun _ => ?_) (fun c9 => absurd (by decide) c9)
  refine ax_iconst (pc := 65) (v := nI 0) G dX10_load_65 ic_0 ?_
  refine ax_istore_n (pc := 66) G dX10_load_66 rfl (Nat.le_of_ble_eq_true rfl) rfl ?_
  have KA : ax_W Ω Γ 0 0 (md_H h m (md_sa (md_sa (md_sa (mK (md_si (md_si (md_si μ 0 (nI 0)) 3 (nI n)) 2 (nI 0)) (nx9, tk9, st9, vl9, 0, pl9)) 3 f9) 5 g9) 2 f9)) 92 [some (.ref m), some (.int (nI n)), some (.int (nI 235))] [] := by
    refine ax_aload_n (pc := 92) G dX10_load_92 rfl rfl ?_
    refine md_get (pc := 93) (v := .ref (m + 5)) G flX10_26_8 dX10_load_93 rfl ?_
    refine ax_iconst (pc := 96) (v := nI 0) G dX10_load_96 ic_0 ?_
    refine ax_aload_n (pc := 97) G dX10_load_97 rfl rfl ?_
    refine md_get (pc := 98) (v := .ref (m + 4)) G flX10_23_8 dX10_load_98 rfl ?_
    refine ax_iconst (pc := 101) (v := nI 0) G dX10_load_101 ic_0 ?_
    refine ax_cS0 (pc := 102) (kb := 0) (nb := 0) G (mt_copy_5_4 hA (h := h) (m := m) (μ := (md_sa (md_sa (md_sa (mK (md_si (md_si (md_si μ 0 (nI 0)) 3 (nI n)) 2 (nI 0)) (nx9, tk9, st9, vl9, 0, pl9)) 3 f9) 5 g9) 2 f9)) hm 0 0 (by omega) (by omega)) lSX10_189 dX10_load_102 rfl (by decide) (Nat.le_of_ble_eq_true rfl) rfl ?_
    show ax_W Ω Γ _ _ (md_H h m (md_sa (md_sa (md_sa (md_sa (mK (md_si (md_si (md_si μ 0 (nI 0)) 3 (nI n)) 2 (nI 0)) (nx9, tk9, st9, vl9, 0, pl9)) 3 f9) 5 g9) 2 f9) 4 (pPut (μ.2 4) (fun z9 => g9 (0 + z9)) 0 627))) _ _ _
    refine ax_aload_n (pc := 105) G dX10_load_105 rfl rfl ?_
    refine ax_iconst (pc := 106) (v := nI 1) G dX10_load_106 ic_1 ?_
    refine md_put (pc := 107) G flX10_193_8 dX10_load_107 hm (by decide) (rfl) rfl rfl ?_
    refine ax_aload_n (pc := 110) G dX10_load_110 rfl rfl ?_
    refine md_get (pc := 111) (v := .ref (m + 9)) G flX10_38_8 dX10_load_111 rfl ?_
    refine ax_iconst (pc := 114) (v := nI 0) G dX10_load_114 ic_0 ?_
    refine ax_iconst (pc := 115) (v := nI 0) G dX10_load_115 ic_0 ?_
    refine md_zst (pc := 116) (i := 0) (b := false) G dX10_load_116 hm rfl (by omega) ?_
    show ax_W Ω Γ _ _ (md_H h m (md_sa (md_si (md_sa (md_sa (md_sa (md_sa (mK (md_si (md_si (md_si μ 0 (nI 0)) 3 (nI n)) 2 (nI 0)) (nx9, tk9, st9, vl9, 0, pl9)) 3 f9) 5 g9) 2 f9) 4 (pPut (μ.2 4) (fun z9 => g9 (0 + z9)) 0 627)) 19 (nI 1)) 9 (upd (μ.2 9) 0 (bI false)))) _ _ _
    refine ax_aload_n (pc := 117) G dX10_load_117 rfl rfl ?_
    refine md_get (pc := 118) (v := .ref (m + 9)) G flX10_38_8 dX10_load_118 rfl ?_
    refine ax_iconst (pc := 121) (v := nI 1) G dX10_load_121 ic_1 ?_
    refine ax_iconst (pc := 122) (v := nI 0) G dX10_load_122 ic_0 ?_
    refine md_zst (pc := 123) (i := 1) (b := false) G dX10_load_123 hm rfl (by omega) ?_
    show ax_W Ω Γ _ _ (md_H h m (md_sa (md_sa (md_si (md_sa (md_sa (md_sa (md_sa (mK (md_si (md_si (md_si μ 0 (nI 0)) 3 (nI n)) 2 (nI 0)) (nx9, tk9, st9, vl9, 0, pl9)) 3 f9) 5 g9) 2 f9) 4 (pPut (μ.2 4) (fun z9 => g9 (0 + z9)) 0 627)) 19 (nI 1)) 9 (upd (μ.2 9) 0 (bI false))) 9 (upd (upd (μ.2 9) 0 (bI false)) 1 (bI false)))) _ _ _
    refine ax_aload_n (pc := 124) G dX10_load_124 rfl rfl ?_
    refine ax_iconst (pc := 125) (v := nI 0) G dX10_load_125 ic_0 ?_
    refine md_put (pc := 126) G flX10_197_8 dX10_load_126 hm (by decide) (rfl) rfl rfl ?_
    refine ax_aload_n (pc := 129) G dX10_load_129 rfl rfl ?_
    refine md_get (pc := 130) (v := .ref (m + 2)) G flX10_17_8 dX10_load_130 rfl ?_
    refine ax_bipush (pc := 133) (v := nI 65) G dX10_load_133 ib_65 ?_
    refine md_ld (pc := 135) (i := 65) (j := 2) G 235 dX10_load_135 (by decide) (by decide) rfl rfl rfl (by omega) (by decide) ?_
    exact ax_iretE (pc := 136) G E rfl (rfl) dX10_load_136 (rfl) (rfl)
  have LA : ∀ (q i : Nat), i + q = 235 → ax_W Ω Γ 0 0 (md_H h m (md_sa (md_sa (md_sa (mK (md_si (md_si (md_si μ 0 (nI 0)) 3 (nI n)) 2 (nI 0)) (nx9, tk9, st9, vl9, 0, pl9)) 3 f9) 5 g9) 2 (pC (μ.2 2) f9 i))) 67 [some (.ref m), some (.int (nI n)), some (.int (nI i))] [] := by
    intro q
    induction q with
    | zero =>
      intro i hi
      have hi9 : i = 235 := by omega
      subst hi9
      refine ax_iload_n (pc := 67) G dX10_load_67 rfl rfl ?_
      refine ax_sipush (pc := 68) (v := nI 235) G dX10_load_68 is_235 ?_
      refine ax_icmp_ge (pc := 71) (tgt := 92) G dX10_load_71 rfl (fun _ => ?_) (fun c9 => absurd (by decide) c9)
      refine ax_W_le (md_le (by decide) (by decide) (fun j hj => pC_l (show j < 235 from hj))) ?_
      exact KA
    | succ q ih =>
      intro i hi
      refine ax_iload_n (pc := 67) G dX10_load_67 rfl rfl ?_
      refine ax_sipush (pc := 68) (v := nI 235) G dX10_load_68 is_235 ?_
      refine ax_icmp_geN (pc := 71) (tgt := 92) G dX10_load_71 rfl (by omega) (by omega) (fun c71 => ?_) (fun c71 => ?_)
      · omega
      · refine ax_aload_n (pc := 74) G dX10_load_74 rfl rfl ?_
        refine md_get (pc := 75) (v := .ref (m + 2)) G flX10_17_8 dX10_load_75 rfl ?_
        refine ax_iload_n (pc := 78) G dX10_load_78 rfl rfl ?_
        refine ax_aload_n (pc := 79) G dX10_load_79 rfl rfl ?_
        refine md_get (pc := 80) (v := .ref (m + 3)) G flX10_20_8 dX10_load_80 rfl ?_
        refine ax_iload_n (pc := 83) G dX10_load_83 rfl rfl ?_
        refine md_ld (pc := 84) (i := i) (j := 3) G 235 dX10_load_84 (by decide) (by decide) rfl rfl rfl (by omega) (by decide) ?_
        refine md_st (pc := 85) (i := i) (j := 2) G 235 dX10_load_85 hm (by decide) (by decide) rfl rfl rfl (by omega) (by decide) ?_
        show ax_W Ω Γ _ _ (md_H h m (md_sa (md_sa (md_sa (md_sa (mK (md_si (md_si (md_si μ 0 (nI 0)) 3 (nI n)) 2 (nI 0)) (nx9, tk9, st9, vl9, 0, pl9)) 3 f9) 5 g9) 2 (pC (μ.2 2) f9 i)) 2 (upd (pC (μ.2 2) f9 i) i (f9 i)))) _ _ _
        rw [md_saa]
        show ax_W Ω Γ _ _ (md_H h m (md_sa (md_sa (md_sa (mK (md_si (md_si (md_si μ 0 (nI 0)) 3 (nI n)) 2 (nI 0)) (nx9, tk9, st9, vl9, 0, pl9)) 3 f9) 5 g9) 2 (upd (pC (μ.2 2) f9 i) i (f9 i)))) _ _ _
        refine ax_iincN (pc := 86) (n := 1) G dX10_load_86 rfl rfl ic_1 ?_
        refine ax_goto (pc := 89) (tgt := 67) G dX10_load_89 rfl ?_
        have q9 := ih (i + 1) (by omega)
        rw [← pC_s] at q9
        exact q9
  have q8 := LA 235 0 (by omega)
  rw [pC_0, show md_sa (md_sa (md_sa (mK (md_si (md_si (md_si μ 0 (nI 0)) 3 (nI n)) 2 (nI 0)) (nx9, tk9, st9, vl9, 0, pl9)) 3 f9) 5 g9) 2 (μ.2 2) = (md_sa (md_sa (mK (md_si (md_si (md_si μ 0 (nI 0)) 3 (nI n)) 2 (nI 0)) (nx9, tk9, st9, vl9, 0, pl9)) 3 f9) 5 g9) from md_same (md_sa (md_sa (mK (md_si (md_si (md_si μ 0 (nI 0)) 3 (nI n)) 2 (nI 0)) (nx9, tk9, st9, vl9, 0, pl9)) 3 f9) 5 g9) 2] at q8
  exact q8

theorem mq_load_C {Ω : ax_O} (hA : ax_Amb Ω) {h : ax_H} {m : Nat} {μ : md_S} (hm : Ω.2.1.heap.size ≤ m) (hL : mLit Ω h m) {tk st : Nat} (h7 : μ.1 7 = nI tk) (h8 : μ.1 8 = nI st) {bn n : Nat} (hB : μ.1 2 = nI bn) (hbn : bn ≤ 1000) (hn : n ≤ bn) {ψ : rS} (hψ : ψ = rText (μ.2 1) n (0, tk, st, μ.1 9, 0, -1)) (hc : ¬ ψ.1.2.2.2.2.1 = 0) (hc8 : ψ.1.2.2.2.2.1 < 8)  : ax_Met Ω yX10_load 15 0 0 [.ref m, .int (nI n)] (md_H h m μ) (.inl (some (.int (nI 0)))) (md_H h m (md_si (md_sa (md_sa (mK (md_si (md_si (md_si μ 0 (nI 0)) 3 (nI n)) 2 (nI 0)) (ψ.1.1, ψ.1.2.1, ψ.1.2.2.1, ψ.1.2.2.2.1, ψ.1.2.2.2.2.1, ψ.1.2.2.2.2.2)) 3 ψ.2.1) 5 ψ.2.2) 0 (nI 2))) := by
  refine ax_met q2659 q142 (by decide +kernel) (by decide) hA (Nat.le_of_ble_eq_true rfl) (fun Γ G E => ?_)
  obtain ⟨⟨nx9, tk9, st9, vl9, cd9, pl9⟩, f9, g9⟩ := ψ
  have hc0 : ¬ cd9 = 0 := hc
  have hc9 : cd9 < 8 := hc8
  show ax_W Ω Γ 0 0 (md_H h m μ) 0 [some (.ref m), some (.int (nI n)), none] []
  refine ax_aload_n (pc := 0) G dX10_load_0 rfl rfl ?_
  refine ax_iconst (pc := 1) (v := nI 0) G dX10_load_1 ic_0 ?_
  refine md_put (pc := 2) G flX10_45_8 dX10_load_2 hm (by decide) (rfl) rfl rfl ?_
  refine ax_iload_n (pc := 5) G dX10_load_5 rfl rfl ?_
  refine ax_iconst (pc := 6) (v := nI 0) G dX10_load_6 ic_0 ?_
  refine ax_aload_n (pc := 7) G dX10_load_7 rfl rfl ?_
  refine md_get (pc := 8) (v := .int (μ.1 2)) G flX10_48_8 dX10_load_8 rfl ?_
  refine ax_top (show Value.int (μ.1 2) = .int (nI bn) from congrArg Value.int (hB)) ?_
  refine ax_cS1 (pc := 11) (kb := 0) (nb := 0) G (mt_in hA (nI n) (nI 0) (nI bn)) lSX10_74 dX10_load_11 rfl (by decide) (Nat.le_of_ble_eq_true rfl) rfl ?_
  refine ax_top (show Value.int (bI (pIn (nI n) (nI 0) (nI bn))) = .int (nI 1) from congrArg Value.int (by rw [pIn_c (Nat.zero_le _) hn (by omega)]; rfl)) ?_
  refine ax_if_ne (pc := 14) (tgt := 23) G dX10_load_14 rfl (fun _ => ?_) (fun c9 => absurd c9 (by decide))
  refine ax_aload_n (pc := 23) G dX10_load_23 rfl rfl ?_
  refine ax_iload_n (pc := 24) G dX10_load_24 rfl rfl ?_
  refine md_put (pc := 25) G flX10_58_8 dX10_load_25 hm (by decide) (rfl) rfl rfl ?_
  refine ax_aload_n (pc := 28) G dX10_load_28 rfl rfl ?_
  refine ax_iconst (pc := 29) (v := nI 0) G dX10_load_29 ic_0 ?_
  refine md_put (pc := 30) G flX10_48_8 dX10_load_30 hm (by decide) (rfl) rfl rfl ?_
  refine ax_aload_n (pc := 33) G dX10_load_33 rfl rfl ?_
  refine ax_iconst (pc := 34) (v := nI 0) G dX10_load_34 ic_0 ?_
  refine md_put (pc := 35) G flX10_64_8 dX10_load_35 hm (by decide) (rfl) rfl rfl ?_
  refine ax_aload_n (pc := 38) G dX10_load_38 rfl rfl ?_
  refine ax_iconst (pc := 39) (v := nI 0) G dX10_load_39 ic_0 ?_
  refine md_put (pc := 40) G flX10_55_8 dX10_load_40 hm (by decide) (rfl) rfl rfl ?_
  refine ax_aload_n (pc := 43) G dX10_load_43 rfl rfl ?_
  refine ax_iconst (pc := 44) (v := (-1)) G dX10_load_44 (by decide) ?_
  refine md_put (pc := 45) G flX10_13_8 dX10_load_45 hm (by decide) (rfl) rfl rfl ?_
  rw [ld_e h7 h8]
  refine ax_aload_n (pc := 48) G dX10_load_48 rfl rfl ?_
  refine ax_cV0 (pc := 49) (kb := 0) (nb := 0) G (mt_readText hA (h := h) (m := m) (μ := (md_si (md_si (md_si μ 0 (nI 0)) 3 (nI n)) 2 (nI 0))) hm (n := n) rfl (by omega) (b := μ.2 1) rfl tk st (μ.1 9) hL) lVX10_186_8 dX10_load_49 md_obj rfl (by decide) (Nat.le_of_ble_eq_true rfl) rfl ?_
  show ax_W Ω Γ _ _ (md_H h m (mP (md_si (md_si (md_si μ 0 (nI 0)) 3 (nI n)) 2 (nI 0)) (rText (μ.2 1) n (0, tk, st, μ.1 9, 0, -1)))) _ _ _
  rw [← hψ, mP_e]
  show ax_W Ω Γ _ _ (md_H h m (md_sa (md_sa (mK (md_si (md_si (md_si μ 0 (nI 0)) 3 (nI n)) 2 (nI 0)) (nx9, tk9, st9, vl9, cd9, pl9)) 3 f9) 5 g9)) _ _ _
  refine ax_aload_n (pc := 52) G dX10_load_52 rfl rfl ?_
  refine md_get (pc := 53) (v := .int (nI cd9)) G flX10_55_8 dX10_load_53 rfl ?_
  refine ax_if_le (pc := 56) (tgt := 65) G dX10_load_56 rfl (fun c9 => absurd c9 (fun z => hc0 (nz_le z (by omega)))) (fun _ => ?_)
  refine ax_aload_n (pc := 59) G dX10_load_59 rfl rfl ?_
  refine ax_iconst (pc := 60) (v := nI 2) G dX10_load_60 ic_2 ?_
  refine ax_cV1 (pc := 61) (kb := 0) (nb := 0) G (mt_throwsAt hA (μ := (md_sa (md_sa (mK (md_si (md_si (md_si μ 0 (nI 0)) 3 (nI n)) 2 (nI 0)) (nx9, tk9, st9, vl9, cd9, pl9)) 3 f9) 5 g9)) hm (nI 2)) lVX10_183_8 dX10_load_61 md_obj rfl (by decide) (Nat.le_of_ble_eq_true rfl) rfl ?_
  show ax_W Ω Γ _ _ (md_H h m (md_si (md_sa (md_sa (mK (md_si (md_si (md_si μ 0 (nI 0)) 3 (nI n)) 2 (nI 0)) (nx9, tk9, st9, vl9, cd9, pl9)) 3 f9) 5 g9) 0 (nI 2))) _ _ _
  exact ax_iretE (pc := 64) G E rfl (rfl) dX10_load_64 (rfl) (rfl)

theorem mq_load_B {Ω : ax_O} (hA : ax_Amb Ω) {h : ax_H} {m : Nat} {μ : md_S} (hm : Ω.2.1.heap.size ≤ m) (k : Int32) (hb : pIn k (nI 0) (μ.1 2) = false)  : ax_Met Ω yX10_load 15 0 0 [.ref m, .int k] (md_H h m μ) (.inl (some (.int (nI 0)))) (md_H h m (md_si μ 0 (nI 1))) := by
  refine ax_met q2659 q142 (by decide +kernel) (by decide) hA (Nat.le_of_ble_eq_true rfl) (fun Γ G E => ?_)
  show ax_W Ω Γ 0 0 (md_H h m μ) 0 [some (.ref m), some (.int k), none] []
  refine ax_aload_n (pc := 0) G dX10_load_0 rfl rfl ?_
  refine ax_iconst (pc := 1) (v := nI 0) G dX10_load_1 ic_0 ?_
  refine md_put (pc := 2) G flX10_45_8 dX10_load_2 hm (by decide) (rfl) rfl rfl ?_
  refine ax_iload_n (pc := 5) G dX10_load_5 rfl rfl ?_
  refine ax_iconst (pc := 6) (v := nI 0) G dX10_load_6 ic_0 ?_
  refine ax_aload_n (pc := 7) G dX10_load_7 rfl rfl ?_
  refine md_get (pc := 8) (v := .int (μ.1 2)) G flX10_48_8 dX10_load_8 rfl ?_
  refine ax_cS1 (pc := 11) (kb := 0) (nb := 0) G (mt_in hA k (nI 0) (μ.1 2)) lSX10_74 dX10_load_11 rfl (by decide) (Nat.le_of_ble_eq_true rfl) rfl ?_
  refine ax_top (show Value.int (bI (pIn k (nI 0) (μ.1 2))) = .int (nI 0) from congrArg Value.int (by rw [hb]; rfl)) ?_
  refine ax_if_ne (pc := 14) (tgt := 23) G dX10_load_14 rfl (fun c9 => absurd rfl c9) (fun _ => ?_)
  refine ax_aload_n (pc := 17) G dX10_load_17 rfl rfl ?_
  refine ax_iconst (pc := 18) (v := nI 1) G dX10_load_18 ic_1 ?_
  refine ax_cV1 (pc := 19) (kb := 0) (nb := 0) G (mt_throwsAt hA (μ := (md_si μ 0 (nI 0))) hm (nI 1)) lVX10_183_8 dX10_load_19 md_obj rfl (by decide) (Nat.le_of_ble_eq_true rfl) rfl ?_
  show ax_W Ω Γ _ _ (md_H h m (md_si (md_si μ 0 (nI 0)) 0 (nI 1))) _ _ _
  exact ax_iretE (pc := 22) G E rfl (rfl) dX10_load_22 (rfl) (rfl)

