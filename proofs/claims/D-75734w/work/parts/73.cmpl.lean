/-! THE LIBRARY: append(int), setLength, charAt, new StringBuilder -/
theorem sB_putI {t : Nat → Nat} {n u p : Nat} {a a1 a2 : Nat → Int32} (hL : sb_Lat t n a) (h1 : ∀ j, j < n → a1 j = a j) (G : gC n u p a1 a2) : sb_Lat (sb_cat t n (sb_dec u)) (n + sb_dg u) a2 := by
  refine sb_latPut hL (fun j hj => (G.2.1 j (Or.inl hj)).trans (h1 j hj)) (fun i hi => ⟨?_, G.2.2 i hi⟩)
  have : u / 10 ^ (sb_dg u - 1 - i) % 10 < 10 := Nat.mod_lt _ (by decide)
  unfold sb_dec; omega
theorem ct_bappI {Ω : ax_O} (hA : ax_Amb Ω) {h : ax_H} (wf : ax_wf h) (hz : Ω.2.1.heap.size ≤ h.2) {B e n : Nat} {t : Nat → Nat} (hS : sB h B e n t) (hbB : Ω.2.1.heap.size ≤ B) (hbe : Ω.2.1.heap.size ≤ e) {dO dT : Nat} {tO tT : Nat → Int32} (zO : va_Z "java/lang/Integer" "DigitOnes" "[B" (.ref dO) (ax_A Ω) Ω.2.1 Ω.2.1.heap) (zT : va_Z "java/lang/Integer" "DigitTens" "[B" (.ref dT) (ax_A Ω) Ω.2.1 Ω.2.1.heap) (hO : h.1 dO = some (.inl (.byte, 100, .inl tO))) (hT : h.1 dT = some (.inl (.byte, 100, .inl tT))) (eO : ∀ k, k < 100 → tO k = sb_b (48 + k % 10)) (eT : ∀ k, k < 100 → tT k = sb_b (48 + k / 10)) (lO : dO < Ω.2.1.heap.size) (lT : dT < Ω.2.1.heap.size) (u : Nat) (hu : u < 100000) (hn : n ≤ 50) : ax_MetP Ω yJ7_append_2 5 1 200 [.ref B, .int (nI u)] h (ax_Nm (fun v h' => v = some (.ref B) ∧ cApp h h' B e (n + sb_dg u) (sb_cat t n (sb_dec u)))) := by
  refine ax_metP q425 q127 (by decide +kernel) (by decide) hA (Nat.le_of_ble_eq_true rfl) (fun Γ G E => ?_)
  obtain ⟨m, ml, a, hB, hE, hm, hnm, hf, hLat⟩ := hS
  have hlB := wf.lt hB
  have hle := wf.lt hE
  have hBe : B ≠ e := fun z => by rw [z, hE] at hB; cases hB
  have hd := sb_dg5 hu
  have hlO := wf.lt hO
  have hlT := wf.lt hT
  show ax_W Ω Γ 1 200 h 0 [some (.ref B), some (.int (nI u)), none, none] []
  refine ax_aload_n (pc := 0) G dJ7_append_2_0 rfl rfl ?_
  refine ax_getf (pc := 1) (v := .int (nI n)) G flJ7_79_18 dJ7_append_2_1 (hB) rfl ?_
  refine ax_istore_n (pc := 4) G dJ7_append_2_4 rfl (Nat.le_of_ble_eq_true rfl) rfl ?_
  refine ax_iload_n (pc := 5) G dJ7_append_2_5 rfl rfl ?_
  refine ax_iload_n (pc := 6) G dJ7_append_2_6 rfl rfl ?_
  refine ax_cS1 (pc := 7) (kb := 1) (nb := 200) G (ct_strSize hA u (by omega)) lSJ7_245 dJ7_append_2_7 rfl (by decide) (Nat.le_of_ble_eq_true rfl) rfl ?_
  refine ax_iaddN (pc := 10) G dJ7_append_2_10 ?_
  refine ax_istore_n (pc := 11) G dJ7_append_2_11 rfl (Nat.le_of_ble_eq_true rfl) rfl ?_
  refine ax_aload_n (pc := 12) G dJ7_append_2_12 rfl rfl ?_
  refine ax_iload_n (pc := 13) G dJ7_append_2_13 rfl rfl ?_
  refine ax_nVP (pc := 14) (kb := 0) (nb := 0) G (ct_bens hA wf (by omega) (hB) (hE) hbB hbe hm hnm hf (n + (sb_dg u)) (by omega) (by omega)) lVPJ7_100_18 dJ7_append_2_14 (hB) rfl (by decide) (Nat.le_of_ble_eq_true rfl) rfl (fun v59 h59 q9 => ?_)
  obtain ⟨rfl, e1, m1, a1, g59, k59, M1, M2, M3, F1, A1, O1, f59, w59⟩ := q9
  have hb1 : Ω.2.1.heap.size ≤ e1 := by omega
  have hB1 : B ≠ e1 := fun z => by rw [z, k59] at g59; cases g59
  have hl1 := w59.lt k59
  have hlB1 := w59.lt g59
  have hz1 : h.2 ≤ h59.2 := by omega
  show ax_W Ω Γ _ _ (h59) _ _ (_)
  refine ax_aload_n (pc := 17) G dJ7_append_2_17 rfl rfl ?_
  refine ax_cV1 (pc := 18) (kb := 0) (nb := 0) G (ct_blatin hA (g59) (k59)) lVJ7_83_18 dJ7_append_2_18 (g59) rfl (by decide) (Nat.le_of_ble_eq_true rfl) rfl ?_
  refine ax_if_eq (pc := 21) (tgt := 37) G dJ7_append_2_21 rfl (fun c9 => absurd c9 (by decide)) (fun _ => ?_)
  refine ax_iload_n (pc := 24) G dJ7_append_2_24 rfl rfl ?_
  refine ax_iload_n (pc := 25) G dJ7_append_2_25 rfl rfl ?_
  refine ax_aload_n (pc := 26) G dJ7_append_2_26 rfl rfl ?_
  refine ax_getf (pc := 27) (v := .ref e1) G flJ7_15_18 dJ7_append_2_27 (g59) rfl ?_
  refine ax_nS (pc := 30) (kb := 0) (nb := 0) G (ct_getChars hA w59 (by omega) (k59) (hb1) (by omega) F1 zO zT ((f59 _ (by omega) (by omega)).trans (hO)) ((f59 _ (by omega) (by omega)).trans (hT)) eO eT lO lT u n (n + (sb_dg u)) (by omega) (by omega) (by omega)) lSJ7_248 dJ7_append_2_30 rfl (by decide) (Nat.le_of_ble_eq_true rfl) rfl (fun v60 h60 q9 => ?_)
  obtain ⟨rfl, a2, g60, G9, f60, z60, w60⟩ := q9
  show ax_W Ω Γ _ _ (h60) _ _ (.int (nI n) :: _)
  refine ax_pop (pc := 33) G dJ7_append_2_33 rfl ?_
  refine ax_goto (pc := 34) (tgt := 48) G dJ7_append_2_34 rfl ?_
  refine ax_aload_n (pc := 48) G dJ7_append_2_48 rfl rfl ?_
  refine ax_iload_n (pc := 49) G dJ7_append_2_49 rfl rfl ?_
  refine ax_putf (pc := 50) G flJ7_79_18 dJ7_append_2_50 ((f60 _ (by omega)).trans (g59)) (by omega) (Nat.le_of_ble_eq_true rfl) rfl rfl ?_
  refine ax_hvS w60 (by omega) (fun h61 g61 f61 z61 w61 => ?_)
  replace g61 : h61.1 B = some (.inr (18, [.ref e1, .int (nI 0), .int ml, .int (nI (n + (sb_dg u)))])) := g61
  refine ax_aload_n (pc := 53) G dJ7_append_2_53 rfl rfl ?_
  exact ax_aretP (pc := 54) G E rfl (Or.inl ⟨_, rfl⟩) (Or.inr ⟨_, rfl⟩) dJ7_append_2_54 (⟨_, rfl, rfl, e1, ⟨m1, ml, _, g61, (f61 _ (by omega)).trans (g60), M1, by omega, G9.1, sB_putI hLat A1 G9⟩, by omega, fun q a1 a2 a3 => (f61 _ (by omega)).trans ((f60 _ (by omega)).trans ((f59 _ (by omega) (by omega)))), w61⟩)

theorem ct_bapp8I {Ω : ax_O} (hA : ax_Amb Ω) {h : ax_H} (wf : ax_wf h) (hz : Ω.2.1.heap.size ≤ h.2) {B e n : Nat} {t : Nat → Nat} (hS : sB h B e n t) (hbB : Ω.2.1.heap.size ≤ B) (hbe : Ω.2.1.heap.size ≤ e) {dO dT : Nat} {tO tT : Nat → Int32} (zO : va_Z "java/lang/Integer" "DigitOnes" "[B" (.ref dO) (ax_A Ω) Ω.2.1 Ω.2.1.heap) (zT : va_Z "java/lang/Integer" "DigitTens" "[B" (.ref dT) (ax_A Ω) Ω.2.1 Ω.2.1.heap) (hO : h.1 dO = some (.inl (.byte, 100, .inl tO))) (hT : h.1 dT = some (.inl (.byte, 100, .inl tT))) (eO : ∀ k, k < 100 → tO k = sb_b (48 + k % 10)) (eT : ∀ k, k < 100 → tT k = sb_b (48 + k / 10)) (lO : dO < Ω.2.1.heap.size) (lT : dT < Ω.2.1.heap.size) (u : Nat) (hu : u < 100000) (hn : n ≤ 50) : ax_MetP Ω yJ8_append_2 6 1 200 [.ref B, .int (nI u)] h (ax_Nm (fun v h' => v = some (.ref B) ∧ cApp h h' B e (n + sb_dg u) (sb_cat t n (sb_dec u)))) := by
  refine ax_metP q422 q128 (by decide +kernel) (by decide) hA (Nat.le_of_ble_eq_true rfl) (fun Γ G E => ?_)
  have hS0 := hS
  obtain ⟨m, ml, a, hB, hE, hm, hnm, hf, hLat⟩ := hS
  have hlB := wf.lt hB
  have hle := wf.lt hE
  have hBe : B ≠ e := fun z => by rw [z, hE] at hB; cases hB
  show ax_W Ω Γ 1 200 h 0 [some (.ref B), some (.int (nI u))] []
  refine ax_aload_n (pc := 0) G dJ8_append_2_0 rfl rfl ?_
  refine ax_iload_n (pc := 1) G dJ8_append_2_1 rfl rfl ?_
  refine ax_nSU (pc := 2) (kb := 0) (nb := 0) G (ct_bappI hA wf (by omega) hS0 hbB hbe zO zT hO hT eO eT lO lT u (by omega) hn) lSUJ8_53 dJ8_append_2_2 (hB) rfl rfl (by decide) (Nat.le_of_ble_eq_true rfl) rfl (fun v62 h62 q9 => ?_)
  obtain ⟨rfl, p62⟩ := q9
  show ax_W Ω Γ _ _ (h62) _ _ (.ref B :: _)
  refine ax_pop (pc := 5) G dJ8_append_2_5 rfl ?_
  refine ax_aload_n (pc := 6) G dJ8_append_2_6 rfl rfl ?_
  exact ax_aretP (pc := 7) G E rfl (Or.inl ⟨_, rfl⟩) (Or.inr ⟨_, rfl⟩) dJ8_append_2_7 (⟨_, rfl, rfl, p62⟩)

theorem ct_bset0 {Ω : ax_O} (hA : ax_Amb Ω) {h : ax_H} (wf : ax_wf h) (hz : Ω.2.1.heap.size ≤ h.2) {B e n : Nat} {t : Nat → Nat} (hS : sB h B e n t) (hbB : Ω.2.1.heap.size ≤ B) (hbe : Ω.2.1.heap.size ≤ e)  : ax_MetP Ω yJ7_setLength 5 1 200 [.ref B, .int (nI 0)] h (ax_Nm (fun v h' => v = none ∧ cApp h h' B e 0 t)) := by
  refine ax_metP q2206 q127 (by decide +kernel) (by decide) hA (Nat.le_of_ble_eq_true rfl) (fun Γ G E => ?_)
  obtain ⟨m, ml, a, hB, hE, hm, hnm, hf, hLat⟩ := hS
  have hlB := wf.lt hB
  have hle := wf.lt hE
  have hBe : B ≠ e := fun z => by rw [z, hE] at hB; cases hB
  show ax_W Ω Γ 1 200 h 0 [some (.ref B), some (.int (nI 0))] []
  refine ax_iload_n (pc := 0) G dJ7_setLength_0 rfl rfl ?_
  refine ax_if_ge (pc := 1) (tgt := 13) G dJ7_setLength_1 rfl (fun _ => ?_) (fun c9 => absurd (by decide) c9)
  refine ax_aload_n (pc := 13) G dJ7_setLength_13 rfl rfl ?_
  refine ax_iload_n (pc := 14) G dJ7_setLength_14 rfl rfl ?_
  refine ax_nVP (pc := 15) (kb := 0) (nb := 0) G (ct_bens hA wf (by omega) (hB) (hE) hbB hbe hm hnm hf 0 (by omega) (by omega)) lVPJ7_100_18 dJ7_setLength_15 (hB) rfl (by decide) (Nat.le_of_ble_eq_true rfl) rfl (fun v63 h63 q9 => ?_)
  obtain ⟨rfl, e1, m1, a1, g63, k63, M1, M2, M3, F1, A1, O1, f63, w63⟩ := q9
  have hb1 : Ω.2.1.heap.size ≤ e1 := by omega
  have hB1 : B ≠ e1 := fun z => by rw [z, k63] at g63; cases g63
  have hl1 := w63.lt k63
  have hlB1 := w63.lt g63
  have hz1 : h.2 ≤ h63.2 := by omega
  show ax_W Ω Γ _ _ (h63) _ _ (_)
  refine ax_aload_n (pc := 18) G dJ7_setLength_18 rfl rfl ?_
  refine ax_getf (pc := 19) (v := .int (nI n)) G flJ7_79_18 dJ7_setLength_19 (g63) rfl ?_
  refine ax_iload_n (pc := 22) G dJ7_setLength_22 rfl rfl ?_
  refine ax_icmp_geN (pc := 23) (tgt := 63) G dJ7_setLength_23 rfl (by omega) (by omega) (fun c23 => ?_) (fun c23 => ?_)
  · refine ax_aload_n (pc := 63) G dJ7_setLength_63 rfl rfl ?_
    refine ax_getf (pc := 64) (v := .int (nI n)) G flJ7_79_18 dJ7_setLength_64 (g63) rfl ?_
    refine ax_iload_n (pc := 67) G dJ7_setLength_67 rfl rfl ?_
    refine ax_icmp_leN (pc := 68) (tgt := 76) G dJ7_setLength_68 rfl (by omega) (by omega) (fun c68 => ?_) (fun c68 => ?_)
    · refine ax_aload_n (pc := 76) G dJ7_setLength_76 rfl rfl ?_
      refine ax_iload_n (pc := 77) G dJ7_setLength_77 rfl rfl ?_
      refine ax_putf (pc := 78) G flJ7_79_18 dJ7_setLength_78 (g63) (by omega) (Nat.le_of_ble_eq_true rfl) rfl rfl ?_
      refine ax_hvS w63 (by omega) (fun h64 g64 f64 z64 w64 => ?_)
      replace g64 : h64.1 B = some (.inr (18, [.ref e1, .int (nI 0), .int ml, .int (nI 0)])) := g64
      exact ax_vretP (pc := 81) G E rfl dJ7_setLength_81 (⟨_, rfl, rfl, e1, ⟨m1, _, _, g64, (f64 _ (by omega)).trans (k63), M1, by omega, F1, fun j hj => absurd hj (Nat.not_lt_zero _)⟩, by omega, fun q a1 a2 a3 => (f64 _ (by omega)).trans ((f63 _ (by omega) (by omega))), w64⟩)
    · refine ax_aload_n (pc := 71) G dJ7_setLength_71 rfl rfl ?_
      refine ax_iconst (pc := 72) (v := nI 1) G dJ7_setLength_72 ic_1 ?_
      refine ax_putf (pc := 73) G flJ7_73_18 dJ7_setLength_73 (g63) (by omega) (Nat.le_of_ble_eq_true rfl) rfl rfl ?_
      refine ax_hvS w63 (by omega) (fun h65 g65 f65 z65 w65 => ?_)
      replace g65 : h65.1 B = some (.inr (18, [.ref e1, .int (nI 0), .int (nI 1), .int (nI n)])) := g65
      refine ax_aload_n (pc := 76) G dJ7_setLength_76 rfl rfl ?_
      refine ax_iload_n (pc := 77) G dJ7_setLength_77 rfl rfl ?_
      refine ax_putf (pc := 78) G flJ7_79_18 dJ7_setLength_78 (g65) (by omega) (Nat.le_of_ble_eq_true rfl) rfl rfl ?_
      refine ax_hvS w65 (by omega) (fun h66 g66 f66 z66 w66 => ?_)
      replace g66 : h66.1 B = some (.inr (18, [.ref e1, .int (nI 0), .int (nI 1), .int (nI 0)])) := g66
      exact ax_vretP (pc := 81) G E rfl dJ7_setLength_81 (⟨_, rfl, rfl, e1, ⟨m1, _, _, g66, (f66 _ (by omega)).trans ((f65 _ (by omega)).trans (k63)), M1, by omega, F1, fun j hj => absurd hj (Nat.not_lt_zero _)⟩, by omega, fun q a1 a2 a3 => (f66 _ (by omega)).trans ((f65 _ (by omega)).trans ((f63 _ (by omega) (by omega)))), w66⟩)
  · omega

theorem ct_bset08 {Ω : ax_O} (hA : ax_Amb Ω) {h : ax_H} (wf : ax_wf h) (hz : Ω.2.1.heap.size ≤ h.2) {B e n : Nat} {t : Nat → Nat} (hS : sB h B e n t) (hbB : Ω.2.1.heap.size ≤ B) (hbe : Ω.2.1.heap.size ≤ e)  : ax_MetP Ω yJ8_setLength 6 1 200 [.ref B, .int (nI 0)] h (ax_Nm (fun v h' => v = none ∧ cApp h h' B e 0 t)) := by
  refine ax_metP q2203 q128 (by decide +kernel) (by decide) hA (Nat.le_of_ble_eq_true rfl) (fun Γ G E => ?_)
  have hS0 := hS
  obtain ⟨m, ml, a, hB, hE, hm, hnm, hf, hLat⟩ := hS
  have hlB := wf.lt hB
  have hle := wf.lt hE
  have hBe : B ≠ e := fun z => by rw [z, hE] at hB; cases hB
  show ax_W Ω Γ 1 200 h 0 [some (.ref B), some (.int (nI 0))] []
  refine ax_aload_n (pc := 0) G dJ8_setLength_0 rfl rfl ?_
  refine ax_iload_n (pc := 1) G dJ8_setLength_1 rfl rfl ?_
  refine ax_nSU (pc := 2) (kb := 0) (nb := 0) G (ct_bset0 hA wf (by omega) hS0 hbB hbe) lSUJ8_333 dJ8_setLength_2 (hB) rfl rfl (by decide) (Nat.le_of_ble_eq_true rfl) rfl (fun v67 h67 q9 => ?_)
  obtain ⟨rfl, p67⟩ := q9
  show ax_W Ω Γ _ _ (h67) _ _ (_)
  exact ax_vretP (pc := 5) G E rfl dJ8_setLength_5 (⟨_, rfl, rfl, p67⟩)

theorem ct_bat {Ω : ax_O} (hA : ax_Amb Ω) {h : ax_H} {B e n : Nat} {t : Nat → Nat} (hS : sB h B e n t) (i : Nat) (hi : i < n) : ax_Met Ω yJ7_charAt 3 0 0 [.ref B, .int (nI i)] h (.inl (some (.int (nI (t i))))) h := by
  refine ax_met q2351 q127 (by decide +kernel) (by decide) hA (Nat.le_of_ble_eq_true rfl) (fun Γ G E => ?_)
  obtain ⟨m, ml, a, hB, hE, hm, hnm, hf, hLat⟩ := hS
  show ax_W Ω Γ 0 0 h 0 [some (.ref B), some (.int (nI i)), none, none, none] []
  refine ax_aload_n (pc := 0) G dJ7_charAt_0 rfl rfl ?_
  refine ax_getf (pc := 1) (v := .int (nI 0)) G flJ7_22_18 dJ7_charAt_1 (hB) rfl ?_
  refine ax_istore_n (pc := 4) G dJ7_charAt_4 rfl (Nat.le_of_ble_eq_true rfl) rfl ?_
  refine ax_aload_n (pc := 5) G dJ7_charAt_5 rfl rfl ?_
  refine ax_getf (pc := 6) (v := .ref e) G flJ7_15_18 dJ7_charAt_6 (hB) rfl ?_
  refine ax_astore_n (pc := 9) G dJ7_charAt_9 rfl (Nat.le_of_ble_eq_true rfl) rfl ?_
  refine ax_aload_n (pc := 10) G dJ7_charAt_10 rfl rfl ?_
  refine ax_getf (pc := 11) (v := .int (nI n)) G flJ7_79_18 dJ7_charAt_11 (hB) rfl ?_
  refine ax_aload_n (pc := 14) G dJ7_charAt_14 rfl rfl ?_
  refine ax_alen (pc := 15) (v := nI m) G dJ7_charAt_15 (hE) rfl ?_
  refine ax_iload_n (pc := 16) G dJ7_charAt_16 rfl rfl ?_
  refine ax_ishr (pc := 17) G dJ7_charAt_17 ?_
  refine ax_top (show Value.int ((nI m) >>> ((nI 0) &&& 31)) = .int (nI m) from congrArg Value.int (sb_shr0 _)) ?_
  refine ax_min (pc := 18) G q2352 q340 q132 q341 (by decide) (Nat.le_of_ble_eq_true rfl) dJ7_charAt_18 ?_
  refine ax_top (show Value.int (iMin (nI n) (nI m)) = .int (nI n) from congrArg Value.int ((iMin_N (by omega) (by omega)).trans (congrArg nI (if_neg (by omega))))) ?_
  refine ax_istore (pc := 21) G dJ7_charAt_21 (Nat.le_of_ble_eq_true rfl) rfl ?_
  refine ax_iload_n (pc := 23) G dJ7_charAt_23 rfl rfl ?_
  refine ax_iload (pc := 24) G dJ7_charAt_24 rfl ?_
  refine ax_cS0 (pc := 26) (kb := 0) (nb := 0) G (ct_scheck hA i n (by omega) (by omega)) lSJ7_144 dJ7_charAt_26 rfl (by decide) (Nat.le_of_ble_eq_true rfl) rfl ?_
  refine ax_iload_n (pc := 29) G dJ7_charAt_29 rfl rfl ?_
  refine ax_if_ne (pc := 30) (tgt := 42) G dJ7_charAt_30 rfl (fun c9 => absurd rfl c9) (fun _ => ?_)
  refine ax_aload_n (pc := 33) G dJ7_charAt_33 rfl rfl ?_
  refine ax_iload_n (pc := 34) G dJ7_charAt_34 rfl rfl ?_
  refine ax_baload (pc := 35) G i dJ7_charAt_35 (hE) rfl (by omega) (by omega) ?_
  refine ax_sipush (pc := 36) (v := nI 255) G dJ7_charAt_36 is_255 ?_
  refine ax_iand (pc := 39) G dJ7_charAt_39 ?_
  refine ax_top (show Value.int ((a i) &&& (nI 255)) = .int (nI (t i)) from congrArg Value.int (by rw [(hLat _ (show i < n by omega)).2]; exact (sb_byte _ (hLat _ (show i < n by omega)).1).1)) ?_
  refine ax_i2c (pc := 40) G dJ7_charAt_40 rfl ?_
  refine ax_top (show Value.int (((nI (t i)).toUInt32 % 65536).toInt32) = .int (nI (t i)) from congrArg Value.int ((sb_byte _ (hLat _ (show i < n by omega)).1).2.1)) ?_
  exact ax_iretE (pc := 41) G E rfl (nz_char (hLat i hi).1) dJ7_charAt_41 (rfl) (rfl)

theorem ct_bat8 {Ω : ax_O} (hA : ax_Amb Ω) {h : ax_H} {B e n : Nat} {t : Nat → Nat} (hS : sB h B e n t) (i : Nat) (hi : i < n) : ax_Met Ω yJ8_charAt 4 0 0 [.ref B, .int (nI i)] h (.inl (some (.int (nI (t i))))) h := by
  refine ax_met q2348 q128 (by decide +kernel) (by decide) hA (Nat.le_of_ble_eq_true rfl) (fun Γ G E => ?_)
  have hS0 := hS
  obtain ⟨m, ml, a, hB, hE, hm, hnm, hf, hLat⟩ := hS
  show ax_W Ω Γ 0 0 h 0 [some (.ref B), some (.int (nI i))] []
  refine ax_aload_n (pc := 0) G dJ8_charAt_0 rfl rfl ?_
  refine ax_iload_n (pc := 1) G dJ8_charAt_1 rfl rfl ?_
  refine ax_cSU1 (pc := 2) (kb := 0) (nb := 0) G (ct_bat hA hS0 i hi) lSUJ8_329 dJ8_charAt_2 (hB) rfl rfl (by decide) (Nat.le_of_ble_eq_true rfl) rfl ?_
  exact ax_iretE (pc := 5) G E rfl (nz_char (hLat i hi).1) dJ8_charAt_5 (rfl) (rfl)

theorem ct_binit7 {Ω : ax_O} (hA : ax_Amb Ω) {h : ax_H} (wf : ax_wf h) (hz : Ω.2.1.heap.size ≤ h.2) {B : Nat} (hB : h.1 B = some (.inr (18, [.null, .int (nI 0), .int (nI 0), .int (nI 0)]))) (hbB : Ω.2.1.heap.size ≤ B)  : ax_MetP Ω yJ7_init 2 1 16 [.ref B, .int (nI 16)] h (ax_Nm (fun v h' => v = none ∧ sB h' B h.2 0 (fun _ => 0) ∧ (∀ q, q < h.2 → q ≠ B → h'.1 q = h.1 q) ∧ h'.2 = h.2 + 1 ∧ ax_wf h')) := by
  refine ax_metP q273 q127 (by decide +kernel) (by decide) hA (Nat.le_of_ble_eq_true rfl) (fun Γ G E => ?_)
  have hlB := wf.lt hB
  show ax_W Ω Γ 1 16 h 0 [some (.ref B), some (.int (nI 16))] []
  refine ax_aload_n (pc := 0) G dJ7_init_0 rfl rfl ?_
  refine ax_objInit (pc := 1) G (by decide) q274 q166 q167 dJ7_init_1 (Nat.le_of_ble_eq_true rfl) ?_
  refine ax_getsZ (pc := 4) G (zCS hA) q275 dJ7_init_4 ?_
  show ax_W Ω Γ _ _ _ _ _ (.int (nI 1) :: _)
  refine ax_if_eq (pc := 7) (tgt := 25) G dJ7_init_7 rfl (fun c9 => absurd c9 (by decide)) (fun _ => ?_)
  refine ax_aload_n (pc := 10) G dJ7_init_10 rfl rfl ?_
  refine ax_iload_n (pc := 11) G dJ7_init_11 rfl rfl ?_
  refine ax_newarray (pc := 12) (kb := 0) (nb := 0) G 16 (16, .inl fun _ => 0) dJ7_init_12 rfl q184 rfl (by omega) rfl (fun j => rfl) ?_
  refine ax_hvA wf (fun h68 g68 f68 z68 w68 => ?_)
  refine ax_putf (pc := 14) G flJ7_15_18 dJ7_init_14 ((f68 _ (by omega)).trans (hB)) (by omega) (Nat.le_of_ble_eq_true rfl) rfl rfl ?_
  refine ax_hvS w68 (by omega) (fun h69 g69 f69 z69 w69 => ?_)
  replace g69 : h69.1 B = some (.inr (18, [.ref h.2, .int (nI 0), .int (nI 0), .int (nI 0)])) := g69
  refine ax_aload_n (pc := 17) G dJ7_init_17 rfl rfl ?_
  refine ax_iconst (pc := 18) (v := nI 0) G dJ7_init_18 ic_0 ?_
  refine ax_putf (pc := 19) G flJ7_22_18 dJ7_init_19 (g69) (by omega) (Nat.le_of_ble_eq_true rfl) rfl rfl ?_
  refine ax_hvS w69 (by omega) (fun h70 g70 f70 z70 w70 => ?_)
  replace g70 : h70.1 B = some (.inr (18, [.ref h.2, .int (nI 0), .int (nI 0), .int (nI 0)])) := g70
  refine ax_goto (pc := 22) (tgt := 38) G dJ7_init_22 rfl ?_
  exact ax_vretP (pc := 38) G E rfl dJ7_init_38 (⟨_, rfl, rfl, ⟨16, nI 0, _, g70, (f70 _ (by omega)).trans ((f69 _ (by omega)).trans (g68)), Or.inl rfl, by omega, sb_fit0, fun j hj => absurd hj (Nat.not_lt_zero _)⟩, fun q a1 a2 => (f70 _ (by omega)).trans ((f69 _ (by omega)).trans ((f68 _ (by omega)))), by omega, w70⟩)

theorem ct_binit {Ω : ax_O} (hA : ax_Amb Ω) {h : ax_H} (wf : ax_wf h) (hz : Ω.2.1.heap.size ≤ h.2) {B : Nat} (hB : h.1 B = some (.inr (18, [.null, .int (nI 0), .int (nI 0), .int (nI 0)]))) (hbB : Ω.2.1.heap.size ≤ B)  : ax_MetP Ω yJ8_init 3 1 16 [.ref B] h (ax_Nm (fun v h' => v = none ∧ sB h' B h.2 0 (fun _ => 0) ∧ (∀ q, q < h.2 → q ≠ B → h'.1 q = h.1 q) ∧ h'.2 = h.2 + 1 ∧ ax_wf h')) := by
  refine ax_metP q270 q128 (by decide +kernel) (by decide) hA (Nat.le_of_ble_eq_true rfl) (fun Γ G E => ?_)
  have hlB := wf.lt hB
  show ax_W Ω Γ 1 16 h 0 [some (.ref B)] []
  refine ax_aload_n (pc := 0) G dJ8_init_0 rfl rfl ?_
  refine ax_bipush (pc := 1) (v := nI 16) G dJ8_init_1 ib_16 ?_
  refine ax_nI (pc := 3) (kb := 0) (nb := 0) G (ct_binit7 hA wf (by omega) (hB) (by omega)) lIJ8_1 dJ8_init_3 rfl (by decide) (Nat.le_of_ble_eq_true rfl) rfl (fun v71 h71 q9 => ?_)
  obtain ⟨rfl, p71⟩ := q9
  show ax_W Ω Γ _ _ (h71) _ _ (_)
  exact ax_vretP (pc := 6) G E rfl dJ8_init_6 (⟨_, rfl, rfl, p71⟩)

theorem ct_chkLen {Ω : ax_O} (hA : ax_Amb Ω) {h : ax_H} (n : Nat) (hn : n < 1000) : ax_Met Ω yJ13_checkLength 0 0 0 [.int (nI 0), .int (nI n)] h (.inl none) h := by
  refine ax_met q479 q133 (by decide +kernel) (by decide) hA (Nat.le_of_ble_eq_true rfl) (fun Γ G E => ?_)
  show ax_W Ω Γ 0 0 h 0 [some (.int (nI 0)), some (.int (nI n))] []
  refine ax_iload_n (pc := 0) G dJ13_checkLength_0 rfl rfl ?_
  refine ax_iload_n (pc := 1) G dJ13_checkLength_1 rfl rfl ?_
  refine ax_icmp_geN (pc := 2) (tgt := 37) G dJ13_checkLength_2 rfl (by omega) (by omega) (fun c2 => ?_) (fun c2 => ?_)
  · exact ax_vretE (pc := 37) G E rfl dJ13_checkLength_37 (rfl)
  · omega

theorem ct_copyRB {Ω : ax_O} (hA : ax_Amb Ω) {h : ax_H} (wf : ax_wf h) (hz : Ω.2.1.heap.size ≤ h.2) {e m : Nat} {a : Nat → Int32} (hE : h.1 e = some (.inl (.byte, m, .inl a))) (hf : sb_Fit a) (n : Nat) (hn : n < m) (hm : m ≤ 70)  : ax_MetP Ω yJ13_copyOfRangeByte 2 1 70 [.ref e, .int (nI 0), .int (nI n)] h (ax_Nm (fun v h' => v = some (.ref h.2) ∧ h'.1 h.2 = some (.inl (.byte, n, .inl (va_cpy a (fun _ => 0) 0 0 n))) ∧ (∀ q, q < h.2 → h'.1 q = h.1 q) ∧ h'.2 = h.2 + 1 ∧ ax_wf h')) := by
  refine ax_metP q476 q133 (by decide +kernel) (by decide) hA (Nat.le_of_ble_eq_true rfl) (fun Γ G E => ?_)
  have hle := wf.lt hE
  show ax_W Ω Γ 1 70 h 0 [some (.ref e), some (.int (nI 0)), some (.int (nI n)), none, none] []
  refine ax_iload_n (pc := 0) G dJ13_copyOfRangeByte_0 rfl rfl ?_
  refine ax_iload_n (pc := 1) G dJ13_copyOfRangeByte_1 rfl rfl ?_
  refine ax_cS0 (pc := 2) (kb := 1) (nb := 70) G (ct_chkLen hA n (by omega)) lSJ13_343 dJ13_copyOfRangeByte_2 rfl (by decide) (Nat.le_of_ble_eq_true rfl) rfl ?_
  refine ax_iload_n (pc := 5) G dJ13_copyOfRangeByte_5 rfl rfl ?_
  refine ax_iload_n (pc := 6) G dJ13_copyOfRangeByte_6 rfl rfl ?_
  refine ax_isubN (pc := 7) G dJ13_copyOfRangeByte_7 (by omega) ?_
  refine ax_istore_n (pc := 8) G dJ13_copyOfRangeByte_8 rfl (Nat.le_of_ble_eq_true rfl) rfl ?_
  refine ax_iload_n (pc := 9) G dJ13_copyOfRangeByte_9 rfl rfl ?_
  refine ax_more (kb := 0 + 1) (nb := 0 + (n - 0)) (by omega) (by omega) ?_
  refine ax_newarray (pc := 10) (kb := 0) (nb := 0) G (n - 0) (n - 0, .inl fun _ => 0) dJ13_copyOfRangeByte_10 rfl q184 rfl (by omega) rfl (fun j => rfl) ?_
  refine ax_hvA wf (fun h72 g72 f72 z72 w72 => ?_)
  refine ax_astore (pc := 12) G dJ13_copyOfRangeByte_12 (Nat.le_of_ble_eq_true rfl) rfl ?_
  refine ax_aload_n (pc := 14) G dJ13_copyOfRangeByte_14 rfl rfl ?_
  refine ax_iload_n (pc := 15) G dJ13_copyOfRangeByte_15 rfl rfl ?_
  refine ax_aload (pc := 16) G dJ13_copyOfRangeByte_16 rfl ?_
  refine ax_iconst (pc := 18) (v := nI 0) G dJ13_copyOfRangeByte_18 ic_0 ?_
  refine ax_aload_n (pc := 19) G dJ13_copyOfRangeByte_19 rfl rfl ?_
  refine ax_alen (pc := 20) (v := nI m) G dJ13_copyOfRangeByte_20 ((f72 _ (by omega)).trans (hE)) rfl ?_
  refine ax_iload_n (pc := 21) G dJ13_copyOfRangeByte_21 rfl rfl ?_
  refine ax_isubN (pc := 22) G dJ13_copyOfRangeByte_22 (by omega) ?_
  refine ax_iload_n (pc := 23) G dJ13_copyOfRangeByte_23 rfl rfl ?_
  refine ax_min (pc := 24) G q339 q340 q132 q341 (by decide) (Nat.le_of_ble_eq_true rfl) dJ13_copyOfRangeByte_24 ?_
  refine ax_top (show Value.int (iMin (nI (m - 0)) (nI (n - 0))) = .int (nI n) from congrArg Value.int ((iMin_N (by omega) (by omega)).trans (congrArg nI ((if_pos (by omega)).trans (Nat.sub_zero n))))) ?_
  refine ax_copyi (pc := 27) G q342 q344 q343 q134 ((f72 _ (by omega)).trans (hE)) (g72) (by omega) rfl (by omega) (by omega) (by omega) (fun i hi => hf _) (by decide) (Nat.le_of_ble_eq_true rfl) dJ13_copyOfRangeByte_27 ?_
  refine ax_hvS w72 (by omega) (fun h73 g73 f73 z73 w73 => ?_)
  refine ax_aload (pc := 30) G dJ13_copyOfRangeByte_30 rfl ?_
  exact ax_aretP (pc := 32) G E rfl (Or.inr ⟨_, rfl⟩) (Or.inr ⟨_, rfl⟩) dJ13_copyOfRangeByte_32 (⟨_, rfl, rfl, g73, fun q a1 => (f73 _ (by omega)).trans ((f72 _ (by omega))), by omega, w73⟩)

theorem ct_copyR {Ω : ax_O} (hA : ax_Amb Ω) {h : ax_H} (wf : ax_wf h) (hz : Ω.2.1.heap.size ≤ h.2) {e m : Nat} {a : Nat → Int32} (hE : h.1 e = some (.inl (.byte, m, .inl a))) (hf : sb_Fit a) (n : Nat) (hn : n < m) (hm : m ≤ 70)  : ax_MetP Ω yJ13_copyOfRange 3 1 70 [.ref e, .int (nI 0), .int (nI n)] h (ax_Nm (fun v h' => v = some (.ref h.2) ∧ h'.1 h.2 = some (.inl (.byte, n, .inl (va_cpy a (fun _ => 0) 0 0 n))) ∧ (∀ q, q < h.2 → h'.1 q = h.1 q) ∧ h'.2 = h.2 + 1 ∧ ax_wf h')) := by
  refine ax_metP q473 q133 (by decide +kernel) (by decide) hA (Nat.le_of_ble_eq_true rfl) (fun Γ G E => ?_)
  have hle := wf.lt hE
  show ax_W Ω Γ 1 70 h 0 [some (.ref e), some (.int (nI 0)), some (.int (nI n))] []
  refine ax_iload_n (pc := 0) G dJ13_copyOfRange_0 rfl rfl ?_
  refine ax_if_ne (pc := 1) (tgt := 10) G dJ13_copyOfRange_1 rfl (fun c9 => absurd rfl c9) (fun _ => ?_)
  refine ax_iload_n (pc := 4) G dJ13_copyOfRange_4 rfl rfl ?_
  refine ax_aload_n (pc := 5) G dJ13_copyOfRange_5 rfl rfl ?_
  refine ax_alen (pc := 6) (v := nI m) G dJ13_copyOfRange_6 (hE) rfl ?_
  refine ax_icmp_eqN (pc := 7) (tgt := 17) G dJ13_copyOfRange_7 rfl (by omega) (by omega) (fun c7 => ?_) (fun c7 => ?_)
  · omega
  · refine ax_aload_n (pc := 10) G dJ13_copyOfRange_10 rfl rfl ?_
    refine ax_iload_n (pc := 11) G dJ13_copyOfRange_11 rfl rfl ?_
    refine ax_iload_n (pc := 12) G dJ13_copyOfRange_12 rfl rfl ?_
    refine ax_nS (pc := 13) (kb := 0) (nb := 0) G (ct_copyRB hA wf (by omega) (hE) hf n (by omega) (by omega)) lSJ13_339 dJ13_copyOfRange_13 rfl (by decide) (Nat.le_of_ble_eq_true rfl) rfl (fun v74 h74 q9 => ?_)
    obtain ⟨rfl, g74, f74, z74, w74⟩ := q9
    show ax_W Ω Γ _ _ (h74) _ _ (.ref h.2 :: _)
    exact ax_aretP (pc := 16) G E rfl (Or.inr ⟨_, rfl⟩) (Or.inr ⟨_, rfl⟩) dJ13_copyOfRange_16 (⟨_, rfl, rfl, g74, fun q a1 => (f74 _ (by omega) ), by omega, w74⟩)

theorem ct_sinit2 {Ω : ax_O} (hA : ax_Amb Ω) {h : ax_H} (wf : ax_wf h) (hz : Ω.2.1.heap.size ≤ h.2) {B e n : Nat} {t : Nat → Nat} (hS : sB h B e n t) {w : Nat} (hW : h.1 w = some (.inr (19, [.null, .int (nI 0), .int (nI 0), .int (nI 0)]))) (hbw : Ω.2.1.heap.size ≤ w) (hn : n < 16)  : ax_MetP Ω yJ9_init_2 4 1 70 [.ref w, .ref B, .null] h (ax_Nm (fun v h' => v = none ∧ h'.1 w = some (.inr (19, [.ref h.2, .int (nI 0), .int (nI 0), .int (nI 0)])) ∧ (∃ a', h'.1 h.2 = some (.inl (.byte, n, .inl a')) ∧ sb_Fit a' ∧ sb_Lat t n a') ∧ (∀ q, q < h.2 → q ≠ w → h'.1 q = h.1 q) ∧ h'.2 = h.2 + 1 ∧ ax_wf h')) := by
  refine ax_metP q455 q129 (by decide +kernel) (by decide) hA (Nat.le_of_ble_eq_true rfl) (fun Γ G E => ?_)
  obtain ⟨m, ml, a, hB, hE, hm, hnm, hf, hLat⟩ := hS
  have hlB := wf.lt hB
  have hle := wf.lt hE
  have hlw := wf.lt hW
  have hwB : w ≠ B := fun z => by rw [z, hB] at hW; cases hW
  have hwe : w ≠ e := fun z => by rw [z, hE] at hW; cases hW
  show ax_W Ω Γ 1 70 h 0 [some (.ref w), some (.ref B), some (.null), none, none] []
  refine ax_aload_n (pc := 0) G dJ9_init_2_0 rfl rfl ?_
  refine ax_objInit (pc := 1) G (by decide) q456 q166 q167 dJ9_init_2_1 (Nat.le_of_ble_eq_true rfl) ?_
  refine ax_aload_n (pc := 4) G dJ9_init_2_4 rfl rfl ?_
  refine ax_cV1 (pc := 5) (kb := 1) (nb := 70) G (ct_bvalue hA (hB) (hE)) lVJ9_552_18 dJ9_init_2_5 (hB) rfl (by decide) (Nat.le_of_ble_eq_true rfl) rfl ?_
  refine ax_astore_n (pc := 8) G dJ9_init_2_8 rfl (Nat.le_of_ble_eq_true rfl) rfl ?_
  refine ax_aload_n (pc := 9) G dJ9_init_2_9 rfl rfl ?_
  refine ax_cVU1 (pc := 10) (kb := 1) (nb := 70) G (ct_blen8 hA (hB) (hE)) lVUJ9_549_18 dJ9_init_2_10 (hB) rfl (by decide) (Nat.le_of_ble_eq_true rfl) rfl ?_
  refine ax_istore (pc := 13) G dJ9_init_2_13 (Nat.le_of_ble_eq_true rfl) rfl ?_
  refine ax_aload_n (pc := 15) G dJ9_init_2_15 rfl rfl ?_
  refine ax_cV1 (pc := 16) (kb := 1) (nb := 70) G (ct_blatin hA (hB) (hE)) lVJ9_1047_18 dJ9_init_2_16 (hB) rfl (by decide) (Nat.le_of_ble_eq_true rfl) rfl ?_
  refine ax_if_eq (pc := 19) (tgt := 41) G dJ9_init_2_19 rfl (fun c9 => absurd c9 (by decide)) (fun _ => ?_)
  refine ax_aload_n (pc := 22) G dJ9_init_2_22 rfl rfl ?_
  refine ax_iconst (pc := 23) (v := nI 0) G dJ9_init_2_23 ic_0 ?_
  refine ax_putfF (pc := 24) G flFJ9_15_19 rfl dJ9_init_2_24 (hW) (by omega) (Nat.le_of_ble_eq_true rfl) rfl rfl ?_
  refine ax_hvS wf (by omega) (fun h75 g75 f75 z75 w75 => ?_)
  replace g75 : h75.1 w = some (.inr (19, [.null, .int (nI 0), .int (nI 0), .int (nI 0)])) := g75
  refine ax_aload_n (pc := 27) G dJ9_init_2_27 rfl rfl ?_
  refine ax_aload_n (pc := 28) G dJ9_init_2_28 rfl rfl ?_
  refine ax_iconst (pc := 29) (v := nI 0) G dJ9_init_2_29 ic_0 ?_
  refine ax_iload (pc := 30) G dJ9_init_2_30 rfl ?_
  refine ax_nS (pc := 32) (kb := 0) (nb := 0) G (ct_copyR hA w75 (by omega) ((f75 _ (by omega)).trans (hE)) hf n (by omega) (by omega)) lSJ9_54 dJ9_init_2_32 rfl (by decide) (Nat.le_of_ble_eq_true rfl) rfl (fun v76 h76 q9 => ?_)
  obtain ⟨rfl, g76, f76, z76, w76⟩ := q9
  show ax_W Ω Γ _ _ (h76) _ _ (.ref h75.2 :: _)
  refine ax_putfF (pc := 35) G flFJ9_9_19 rfl dJ9_init_2_35 ((f76 _ (by omega) ).trans (g75)) (by omega) (Nat.le_of_ble_eq_true rfl) rfl rfl ?_
  refine ax_hvS w76 (by omega) (fun h77 g77 f77 z77 w77 => ?_)
  replace g77 : h77.1 w = some (.inr (19, [.ref h75.2, .int (nI 0), .int (nI 0), .int (nI 0)])) := g77
  refine ax_goto (pc := 38) (tgt := 97) G dJ9_init_2_38 rfl ?_
  exact ax_vretP (pc := 97) G E rfl dJ9_init_2_97 (⟨_, rfl, rfl, by rw [show (h.2 : Nat) = h75.2 from by omega]; exact g77, ⟨_, by rw [show (h.2 : Nat) = h75.2 from by omega]; exact (f77 _ (by omega)).trans (g76), sb_fitC hf sb_fit0, sb_latKeep hLat fun j hj => sb_cpy0 (by omega)⟩, fun q a1 a2 => (f77 _ (by omega)).trans ((f76 _ (by omega) ).trans ((f75 _ (by omega)))), by omega, w77⟩)

theorem ct_sinit {Ω : ax_O} (hA : ax_Amb Ω) {h : ax_H} (wf : ax_wf h) (hz : Ω.2.1.heap.size ≤ h.2) {B e n : Nat} {t : Nat → Nat} (hS : sB h B e n t) {w : Nat} (hW : h.1 w = some (.inr (19, [.null, .int (nI 0), .int (nI 0), .int (nI 0)]))) (hbw : Ω.2.1.heap.size ≤ w) (hn : n < 16)  : ax_MetP Ω yJ9_init 5 1 70 [.ref w, .ref B] h (ax_Nm (fun v h' => v = none ∧ h'.1 w = some (.inr (19, [.ref h.2, .int (nI 0), .int (nI 0), .int (nI 0)])) ∧ (∃ a', h'.1 h.2 = some (.inl (.byte, n, .inl a')) ∧ sb_Fit a' ∧ sb_Lat t n a') ∧ (∀ q, q < h.2 → q ≠ w → h'.1 q = h.1 q) ∧ h'.2 = h.2 + 1 ∧ ax_wf h')) := by
  refine ax_metP q452 q129 (by decide +kernel) (by decide) hA (Nat.le_of_ble_eq_true rfl) (fun Γ G E => ?_)
  have hS0 := hS
  obtain ⟨m, ml, a, hB, hE, hm, hnm, hf, hLat⟩ := hS
  have hlB := wf.lt hB
  have hle := wf.lt hE
  have hlw := wf.lt hW
  have hwB : w ≠ B := fun z => by rw [z, hB] at hW; cases hW
  have hwe : w ≠ e := fun z => by rw [z, hE] at hW; cases hW
  show ax_W Ω Γ 1 70 h 0 [some (.ref w), some (.ref B)] []
  refine ax_aload_n (pc := 0) G dJ9_init_0 rfl rfl ?_
  refine ax_aload_n (pc := 1) G dJ9_init_1 rfl rfl ?_
  refine ax_null (pc := 2) G dJ9_init_2 ?_
  refine ax_nI (pc := 3) (kb := 0) (nb := 0) G (ct_sinit2 hA wf (by omega) hS0 (hW) (by omega) hn) lIJ9_489 dJ9_init_3 rfl (by decide) (Nat.le_of_ble_eq_true rfl) rfl (fun v78 h78 q9 => ?_)
  obtain ⟨rfl, p78⟩ := q9
  show ax_W Ω Γ _ _ (h78) _ _ (_)
  exact ax_vretP (pc := 6) G E rfl dJ9_init_6 (⟨_, rfl, rfl, p78⟩)

