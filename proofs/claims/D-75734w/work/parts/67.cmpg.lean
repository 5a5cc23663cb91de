/-! THE LIBRARY: lists -/
theorem ct_acinit {Ω : ax_O} (hA : ax_Amb Ω) {h : ax_H} {a : Nat} : ax_Met Ω yJ0_init 2 0 0 [.ref a] h (.inl none) h := by
  refine ax_met q216 q120 (by decide +kernel) (by decide) hA (Nat.le_of_ble_eq_true rfl) (fun Γ G E => ?_)
  show ax_W Ω Γ 0 0 h 0 [some (.ref a)] []
  refine ax_aload_n (pc := 0) G dJ0_init_0 rfl rfl ?_
  refine ax_objInit (pc := 1) G (by decide) q217 q166 q167 dJ0_init_1 (Nat.le_of_ble_eq_true rfl) ?_
  exact ax_vretE (pc := 4) G E rfl dJ0_init_4 (rfl)

theorem ct_alinit {Ω : ax_O} (hA : ax_Amb Ω) {h : ax_H} (wf : ax_wf h) {L : Nat} {x0 x1 x2 : Value} (hL : h.1 L = some (.inr (16, [x0, x1, x2]))) (hbL : Ω.2.1.heap.size ≤ L)  : ax_MetP Ω yJ1_init 3 0 0 [.ref L] h (ax_Nm (fun v h' => v = none ∧ h'.1 L = some (.inr (16, [.int (nI 0), x1, x2])) ∧ (∀ q, q ≠ L → h'.1 q = h.1 q) ∧ h'.2 = h.2 ∧ ax_wf h')) := by
  refine ax_metP q213 q121 (by decide +kernel) (by decide) hA (Nat.le_of_ble_eq_true rfl) (fun Γ G E => ?_)
  have hlL := wf.lt hL
  show ax_W Ω Γ 0 0 h 0 [some (.ref L)] []
  refine ax_aload_n (pc := 0) G dJ1_init_0 rfl rfl ?_
  refine ax_cI0 (pc := 1) (kb := 0) (nb := 0) G (ct_acinit hA) lIJ1_1 dJ1_init_1 rfl (by decide) (Nat.le_of_ble_eq_true rfl) rfl ?_
  refine ax_aload_n (pc := 4) G dJ1_init_4 rfl rfl ?_
  refine ax_iconst (pc := 5) (v := nI 0) G dJ1_init_5 ic_0 ?_
  refine ax_putf (pc := 6) G flJ1_7_16 dJ1_init_6 (hL) (by omega) (Nat.le_of_ble_eq_true rfl) rfl rfl ?_
  refine ax_hvS wf (by omega) (fun h1 g1 f1 z1 w1 => ?_)
  replace g1 : h1.1 L = some (.inr (16, [.int (nI 0), x1, x2])) := g1
  exact ax_vretP (pc := 9) G E rfl dJ1_init_9 (⟨_, rfl, rfl, g1, f1, z1, w1⟩)

theorem ct_linit {Ω : ax_O} (hA : ax_Amb Ω) {h : ax_H} (wf : ax_wf h) (hz : Ω.2.1.heap.size ≤ h.2) {L : Nat} {x0 x1 x2 : Value} (hL : h.1 L = some (.inr (16, [x0, x1, x2]))) (hbL : Ω.2.1.heap.size ≤ L) (n : Nat) (hn : 0 < n) (hn1 : n < 30)  : ax_MetP Ω yJ2_init 4 1 30 [.ref L, .int (nI n)] h (ax_Nm (fun v h' => v = none ∧ h'.1 L = some (.inr (16, [.int (nI 0), .ref h.2, x2])) ∧ h'.1 h.2 = some (.inl (.object "java/lang/Object", n, .inr (.inr (.inr (.inr fun _ => none))))) ∧ (∀ q, q < h.2 → q ≠ L → h'.1 q = h.1 q) ∧ h'.2 = h.2 + 1 ∧ ax_wf h')) := by
  refine ax_metP q210 q122 (by decide +kernel) (by decide) hA (Nat.le_of_ble_eq_true rfl) (fun Γ G E => ?_)
  have hlL := wf.lt hL
  show ax_W Ω Γ 1 30 h 0 [some (.ref L), some (.int (nI n))] []
  refine ax_aload_n (pc := 0) G dJ2_init_0 rfl rfl ?_
  refine ax_nI (pc := 1) (kb := 1) (nb := 30) G (ct_alinit hA wf (hL) (by omega)) lIJ2_1 dJ2_init_1 rfl (by decide) (Nat.le_of_ble_eq_true rfl) rfl (fun v2 h2 q9 => ?_)
  obtain ⟨rfl, g2, f2, z2, w2⟩ := q9
  show ax_W Ω Γ _ _ (h2) _ _ (_)
  refine ax_iload_n (pc := 4) G dJ2_init_4 rfl rfl ?_
  refine ax_if_le (pc := 5) (tgt := 19) G dJ2_init_5 rfl (fun c9 => absurd c9 (fun z => absurd (nz_le z (by omega)) (by omega))) (fun _ => ?_)
  refine ax_aload_n (pc := 8) G dJ2_init_8 rfl rfl ?_
  refine ax_iload_n (pc := 9) G dJ2_init_9 rfl rfl ?_
  refine ax_more (kb := 0 + 1) (nb := 0 + n) (by omega) (by omega) ?_
  refine ax_anewarray (pc := 10) (kb := 0) (nb := 0) G n dJ2_init_10 q218 q219 rfl (by omega) ?_
  refine ax_hvA w2 (fun h3 g3 f3 z3 w3 => ?_)
  refine ax_putf (pc := 13) G flJ2_9_16 dJ2_init_13 ((f3 _ (by omega)).trans (g2)) (by omega) (Nat.le_of_ble_eq_true rfl) rfl rfl ?_
  refine ax_hvS w3 (by omega) (fun h4 g4 f4 z4 w4 => ?_)
  replace g4 : h4.1 L = some (.inr (16, [.int (nI 0), .ref h2.2, x2])) := g4
  refine ax_goto (pc := 16) (tgt := 60) G dJ2_init_16 rfl ?_
  exact ax_vretP (pc := 60) G E rfl dJ2_init_60 (⟨_, rfl, rfl, by rw [show (h.2 : Nat) = h2.2 from by omega]; exact g4, by rw [show (h.2 : Nat) = h2.2 from by omega]; exact (f4 _ (by omega)).trans (g3), fun q a1 a2 => (f4 _ (by omega)).trans ((f3 _ (by omega)).trans ((f2 _ (by omega)))), by omega, w4⟩)

theorem nI_shr1 : ∀ n, n < 100 → (nI n) >>> ((nI 1) &&& 31) = nI (n / 2) := by decide +kernel
theorem iMax_N {a b : Nat} (ha : a < 2 ^ 31) (hb : b < 2 ^ 31) : iMax (nI a) (nI b) = nI (if a < b then b else a) := by
  unfold iMax
  by_cases c : a < b
  · rw [if_pos c, if_pos ((nI_ltI ha hb).mpr c)]
  · rw [if_neg c, if_neg (fun z => c ((nI_ltI ha hb).mp z))]
theorem iMin_N {a b : Nat} (ha : a < 2 ^ 31) (hb : b < 2 ^ 31) : iMin (nI a) (nI b) = nI (if b < a then b else a) := by
  unfold iMin
  by_cases c : b < a
  · rw [if_pos c, if_pos ((nI_ltI hb ha).mpr c)]
  · rw [if_neg c, if_neg (fun z => c ((nI_ltI hb ha).mp z))]
theorem ax_mirror {Ω : ax_O} (hA : ax_Amb Ω) : ∃ mi : Nat, va_Mi "[Ljava/lang/Object;" mi Ω.2.1 := by
  obtain ⟨A, h⟩ := ax_nar hA (w := Cond.isRef (.mirror "[Ljava/lang/Object;")) (by decide +kernel)
  exact va_Mi.of h
theorem ct_newLength {Ω : ax_O} (hA : ax_Amb Ω) {h : ax_H} (a b c : Nat) (ha : a < 100) (hb0 : 0 < b) (hb : b < 100) (hc : c < 100) : ax_Met Ω yJ11_newLength 2 0 0 [.int (nI a), .int (nI b), .int (nI c)] h (.inl (some (.int (nI (a + if b < c then c else b))))) h := by
  refine ax_met q320 q131 (by decide +kernel) (by decide) hA (Nat.le_of_ble_eq_true rfl) (fun Γ G E => ?_)
  have h9 : 0 < a + (if b < c then c else b) ∧ a + (if b < c then c else b) < 300 := by split <;> omega
  have h8 : ¬ (2147483639 : Int32) < nI (a + if b < c then c else b) := by
    have h7 : ((2147483639 : Int32).toInt) = 2147483639 := by decide
    rw [Int32.lt_iff_toInt_lt, nI_toInt (by omega), h7]
    omega
  show ax_W Ω Γ 0 0 h 0 [some (.int (nI a)), some (.int (nI b)), some (.int (nI c)), none] []
  refine ax_iload_n (pc := 0) G dJ11_newLength_0 rfl rfl ?_
  refine ax_iload_n (pc := 1) G dJ11_newLength_1 rfl rfl ?_
  refine ax_iload_n (pc := 2) G dJ11_newLength_2 rfl rfl ?_
  refine ax_max (pc := 3) G q321 q322 q132 q323 (by decide) (Nat.le_of_ble_eq_true rfl) dJ11_newLength_3 ?_
  refine ax_top (show Value.int (iMax (nI b) (nI c)) = .int (nI (if b < c then c else b)) from congrArg Value.int (iMax_N (by omega) (by omega))) ?_
  refine ax_iaddN (pc := 6) G dJ11_newLength_6 ?_
  refine ax_istore_n (pc := 7) G dJ11_newLength_7 rfl (Nat.le_of_ble_eq_true rfl) rfl ?_
  refine ax_iconst (pc := 8) (v := nI 0) G dJ11_newLength_8 ic_0 ?_
  refine ax_iload_n (pc := 9) G dJ11_newLength_9 rfl rfl ?_
  refine ax_icmp_geN (pc := 10) (tgt := 21) G dJ11_newLength_10 rfl (by omega) (by omega) (fun c10 => ?_) (fun c10 => ?_)
  · omega
  · refine ax_iload_n (pc := 13) G dJ11_newLength_13 rfl rfl ?_
    refine ax_ldc (pc := 14) G q324 dJ11_newLength_14 ?_
    refine ax_icmp_gt (pc := 16) (tgt := 21) G dJ11_newLength_16 rfl (fun c9 => absurd c9 h8) (fun _ => ?_)
    refine ax_iload_n (pc := 19) G dJ11_newLength_19 rfl rfl ?_
    exact ax_iretE (pc := 20) G E rfl (rfl) dJ11_newLength_20 (rfl) (rfl)

theorem ct_copyOf3 {Ω : ax_O} (hA : ax_Amb Ω) {h : ax_H} (wf : ax_wf h) (hz : Ω.2.1.heap.size ≤ h.2) {e cap : Nat} {f : Nat → Option Nat} (hE : h.1 e = some (.inl (.object "java/lang/Object", cap, .inr (.inr (.inr (.inr f)))))) (hbe : Ω.2.1.heap.size ≤ e) (hc : cap < 100) (hel : ∀ i, i < cap → ∀ q, f i = some q → ∃ ci fs, h.1 q = some (.inr (ci, fs)) ∧ ax_may ci "java/lang/Object") {mi : Nat} (hM : va_Mi "[Ljava/lang/Object;" mi Ω.2.1) (n : Nat) (hn : cap < n) (hn2 : n < 200) : ax_MetP Ω yJ13_copyOf_3 2 1 200 [.ref e, .int (nI n), .ref mi] h (ax_Nm (fun v h' => v = some (.ref h.2) ∧ h'.1 h.2 = some (.inl (.object "java/lang/Object", n, .inr (.inr (.inr (.inr (va_cpy f (fun _ => none) 0 0 cap)))))) ∧ (∀ q, q < h.2 → h'.1 q = h.1 q) ∧ h'.2 = h.2 + 1 ∧ ax_wf h')) := by
  refine ax_metP q1294 q133 (by decide +kernel) (by decide) hA (Nat.le_of_ble_eq_true rfl) (fun Γ G E => ?_)
  have hle := wf.lt hE
  show ax_W Ω Γ 1 200 h 0 [some (.ref e), some (.int (nI n)), some (.ref mi), none] []
  refine ax_aload_n (pc := 0) G dJ13_copyOf_3_0 rfl rfl ?_
  refine ax_ldcM (pc := 1) G q1295 hM dJ13_copyOf_3_1 ?_
  refine ax_acmp_ne (pc := 3) (tgt := 13) (rx := some mi) (ry := some mi) G dJ13_copyOf_3_3 rfl (fun c9 => absurd rfl c9) (fun _ => ?_)
  refine ax_iload_n (pc := 6) G dJ13_copyOf_3_6 rfl rfl ?_
  refine ax_more (kb := 0 + 1) (nb := 0 + n) (by omega) (by omega) ?_
  refine ax_anewarray (pc := 7) (kb := 0) (nb := 0) G n dJ13_copyOf_3_7 q1296 q219 rfl (by omega) ?_
  refine ax_hvA wf (fun h5 g5 f5 z5 w5 => ?_)
  refine ax_goto (pc := 10) (tgt := 24) G dJ13_copyOf_3_10 rfl ?_
  refine ax_astore_n (pc := 24) G dJ13_copyOf_3_24 rfl (Nat.le_of_ble_eq_true rfl) rfl ?_
  refine ax_aload_n (pc := 25) G dJ13_copyOf_3_25 rfl rfl ?_
  refine ax_iconst (pc := 26) (v := nI 0) G dJ13_copyOf_3_26 ic_0 ?_
  refine ax_aload_n (pc := 27) G dJ13_copyOf_3_27 rfl rfl ?_
  refine ax_iconst (pc := 28) (v := nI 0) G dJ13_copyOf_3_28 ic_0 ?_
  refine ax_aload_n (pc := 29) G dJ13_copyOf_3_29 rfl rfl ?_
  refine ax_alen (pc := 30) (v := nI cap) G dJ13_copyOf_3_30 ((f5 _ (by omega)).trans (hE)) rfl ?_
  refine ax_iload_n (pc := 31) G dJ13_copyOf_3_31 rfl rfl ?_
  refine ax_min (pc := 32) G q339 q340 q132 q341 (by decide) (Nat.le_of_ble_eq_true rfl) dJ13_copyOf_3_32 ?_
  refine ax_top (show Value.int (iMin (nI cap) (nI n)) = .int (nI cap) from congrArg Value.int ((iMin_N (by omega) (by omega)).trans (congrArg nI (if_neg (by omega))))) ?_
  refine ax_copyq (pc := 35) G q342 q344 q343 q134 ((f5 _ (by omega)).trans (hE)) (g5) (by omega) (by omega) (by omega) (by omega) (fun i hi q hq => by
    obtain ⟨ci, fs, a1, a2⟩ := hel (0 + i) (by omega) q hq
    exact ⟨ci, fs, ((f5 _ (by have := wf.lt a1; omega))).trans a1, a2⟩) (by decide) (Nat.le_of_ble_eq_true rfl) dJ13_copyOf_3_35 ?_
  refine ax_hvS w5 (by omega) (fun h6 g6 f6 z6 w6 => ?_)
  refine ax_aload_n (pc := 38) G dJ13_copyOf_3_38 rfl rfl ?_
  exact ax_aretP (pc := 39) G E rfl (Or.inr ⟨_, rfl⟩) (Or.inr ⟨_, rfl⟩) dJ13_copyOf_3_39 (⟨_, rfl, rfl, g6, fun q a1 => (f6 _ (by omega)).trans ((f5 _ (by omega))), by omega, w6⟩)

theorem ct_copyOf2 {Ω : ax_O} (hA : ax_Amb Ω) {h : ax_H} (wf : ax_wf h) (hz : Ω.2.1.heap.size ≤ h.2) {e cap : Nat} {f : Nat → Option Nat} (hE : h.1 e = some (.inl (.object "java/lang/Object", cap, .inr (.inr (.inr (.inr f)))))) (hbe : Ω.2.1.heap.size ≤ e) (hc : cap < 100) (hel : ∀ i, i < cap → ∀ q, f i = some q → ∃ ci fs, h.1 q = some (.inr (ci, fs)) ∧ ax_may ci "java/lang/Object") {mi : Nat} (hM : va_Mi "[Ljava/lang/Object;" mi Ω.2.1) (n : Nat) (hn : cap < n) (hn2 : n < 200) : ax_MetP Ω yJ13_copyOf_2 3 1 200 [.ref e, .int (nI n)] h (ax_Nm (fun v h' => v = some (.ref h.2) ∧ h'.1 h.2 = some (.inl (.object "java/lang/Object", n, .inr (.inr (.inr (.inr (va_cpy f (fun _ => none) 0 0 cap)))))) ∧ (∀ q, q < h.2 → h'.1 q = h.1 q) ∧ h'.2 = h.2 + 1 ∧ ax_wf h')) := by
  refine ax_metP q1261 q133 (by decide +kernel) (by decide) hA (Nat.le_of_ble_eq_true rfl) (fun Γ G E => ?_)
  have hle := wf.lt hE
  show ax_W Ω Γ 1 200 h 0 [some (.ref e), some (.int (nI n))] []
  refine ax_aload_n (pc := 0) G dJ13_copyOf_2_0 rfl rfl ?_
  refine ax_iload_n (pc := 1) G dJ13_copyOf_2_1 rfl rfl ?_
  refine ax_aload_n (pc := 2) G dJ13_copyOf_2_2 rfl rfl ?_
  refine ax_getClassA (pc := 3) (nm := "[Ljava/lang/Object;") G rfl q1262 q3293 q3292 q1263 q1291 hM (by omega) (by decide) (Nat.le_of_ble_eq_true rfl) dJ13_copyOf_2_3 (hE) ?_
  refine ax_nS (pc := 6) (kb := 0) (nb := 0) G (ct_copyOf3 hA wf (by omega) (hE) (by omega) (by omega) hel hM n (by omega) (by omega)) lSJ13_300 dJ13_copyOf_2_6 rfl (by decide) (Nat.le_of_ble_eq_true rfl) rfl (fun v7 h7 q9 => ?_)
  obtain ⟨rfl, g7, f7, z7, w7⟩ := q9
  show ax_W Ω Γ _ _ (h7) _ _ (.ref h.2 :: _)
  exact ax_aretP (pc := 9) G E rfl (Or.inr ⟨_, rfl⟩) (Or.inr ⟨_, rfl⟩) dJ13_copyOf_2_9 (⟨_, rfl, rfl, g7, fun q a1 => (f7 _ (by omega) ), by omega, w7⟩)

theorem ct_grow2 {Ω : ax_O} (hA : ax_Amb Ω) {h : ax_H} (wf : ax_wf h) (hz : Ω.2.1.heap.size ≤ h.2) {L n : Nat} {mc : Int32} {e cap : Nat} {f : Nat → Option Nat} (hE : h.1 e = some (.inl (.object "java/lang/Object", cap, .inr (.inr (.inr (.inr f)))))) (hbe : Ω.2.1.heap.size ≤ e) (hc : cap < 100) (hL : h.1 L = some (.inr (16, [.int mc, .ref e, .int (nI n)]))) (hbL : Ω.2.1.heap.size ≤ L) (hel : ∀ i, i < cap → ∀ q, f i = some q → ∃ ci fs, h.1 q = some (.inr (ci, fs)) ∧ ax_may ci "java/lang/Object") (hc0 : 0 < cap) (hn : n = cap) : ax_MetP Ω yJ2_grow_2 4 1 200 [.ref L, .int (nI (n + 1))] h (ax_Nm (fun v h' => v = some (.ref h.2) ∧ ∃ cap', cap < cap' ∧ cap' < 200 ∧ cap' ≤ cap + cap / 2 + 1 ∧ h'.1 L = some (.inr (16, [.int mc, .ref h.2, .int (nI n)])) ∧ h'.1 h.2 = some (.inl (.object "java/lang/Object", cap', .inr (.inr (.inr (.inr (va_cpy f (fun _ => none) 0 0 cap)))))) ∧ (∀ q, q < h.2 → q ≠ L → h'.1 q = h.1 q) ∧ h'.2 = h.2 + 1 ∧ ax_wf h')) := by
  refine ax_metP q1255 q122 (by decide +kernel) (by decide) hA (Nat.le_of_ble_eq_true rfl) (fun Γ G E => ?_)
  have hlL := wf.lt hL
  have hle := wf.lt hE
  have hLe : L ≠ e := fun z => by rw [z, hE] at hL; cases hL
  obtain ⟨mi, hM⟩ := ax_mirror hA
  show ax_W Ω Γ 1 200 h 0 [some (.ref L), some (.int (nI (n + 1))), none, none] []
  refine ax_aload_n (pc := 0) G dJ2_grow_2_0 rfl rfl ?_
  refine ax_getf (pc := 1) (v := .ref e) G flJ2_9_16 dJ2_grow_2_1 (hL) rfl ?_
  refine ax_alen (pc := 4) (v := nI cap) G dJ2_grow_2_4 (hE) rfl ?_
  refine ax_istore_n (pc := 5) G dJ2_grow_2_5 rfl (Nat.le_of_ble_eq_true rfl) rfl ?_
  refine ax_iload_n (pc := 6) G dJ2_grow_2_6 rfl rfl ?_
  refine ax_if_gt (pc := 7) (tgt := 20) G dJ2_grow_2_7 rfl (fun _ => ?_) (fun c9 => absurd (nI_lt (a := 0) (by omega) (by omega)) c9)
  refine ax_iload_n (pc := 20) G dJ2_grow_2_20 rfl rfl ?_
  refine ax_iload_n (pc := 21) G dJ2_grow_2_21 rfl rfl ?_
  refine ax_iload_n (pc := 22) G dJ2_grow_2_22 rfl rfl ?_
  refine ax_isubN (pc := 23) G dJ2_grow_2_23 (by omega) ?_
  refine ax_iload_n (pc := 24) G dJ2_grow_2_24 rfl rfl ?_
  refine ax_iconst (pc := 25) (v := nI 1) G dJ2_grow_2_25 ic_1 ?_
  refine ax_ishr (pc := 26) G dJ2_grow_2_26 ?_
  refine ax_top (show Value.int ((nI cap) >>> ((nI 1) &&& 31)) = .int (nI (cap / 2)) from congrArg Value.int (nI_shr1 _ (by omega))) ?_
  refine ax_cS1 (pc := 27) (kb := 1) (nb := 200) G (ct_newLength hA cap ((n + 1) - cap) (cap / 2) (by omega) (by omega) (by omega) (by omega)) lSJ2_73 dJ2_grow_2_27 rfl (by decide) (Nat.le_of_ble_eq_true rfl) rfl ?_
  obtain ⟨K, hK, hK1, hK2, hK3⟩ : ∃ K, (cap + if ((n + 1) - cap) < (cap / 2) then (cap / 2) else ((n + 1) - cap)) = K ∧ cap < K ∧ K < 200 ∧ K ≤ cap + cap / 2 + 1 := ⟨_, rfl, by split <;> omega, by split <;> omega, by split <;> omega⟩
  rw [hK]
  refine ax_istore_n (pc := 30) G dJ2_grow_2_30 rfl (Nat.le_of_ble_eq_true rfl) rfl ?_
  refine ax_aload_n (pc := 31) G dJ2_grow_2_31 rfl rfl ?_
  refine ax_aload_n (pc := 32) G dJ2_grow_2_32 rfl rfl ?_
  refine ax_getf (pc := 33) (v := .ref e) G flJ2_9_16 dJ2_grow_2_33 (hL) rfl ?_
  refine ax_iload_n (pc := 36) G dJ2_grow_2_36 rfl rfl ?_
  refine ax_nS (pc := 37) (kb := 0) (nb := 0) G (ct_copyOf2 hA wf (by omega) (hE) (by omega) (by omega) hel hM K (by omega) (by omega)) lSJ2_66 dJ2_grow_2_37 rfl (by decide) (Nat.le_of_ble_eq_true rfl) rfl (fun v8 h8 q9 => ?_)
  obtain ⟨rfl, g8, f8, z8, w8⟩ := q9
  show ax_W Ω Γ _ _ (h8) _ _ (.ref h.2 :: _)
  refine ax_dup_x1 (pc := 40) G dJ2_grow_2_40 rfl rfl ?_
  refine ax_putf (pc := 41) G flJ2_9_16 dJ2_grow_2_41 ((f8 _ (by omega) ).trans (hL)) (by omega) (Nat.le_of_ble_eq_true rfl) rfl rfl ?_
  refine ax_hvS w8 (by omega) (fun h9 g9 f9 z9 w9 => ?_)
  replace g9 : h9.1 L = some (.inr (16, [.int mc, .ref h.2, .int (nI n)])) := g9
  exact ax_aretP (pc := 44) G E rfl (Or.inr ⟨_, rfl⟩) (Or.inr ⟨_, rfl⟩) dJ2_grow_2_44 (⟨_, rfl, rfl, K, hK1, hK2, hK3, g9, (f9 _ (by omega)).trans (g8), fun q a1 a2 => (f9 _ (by omega)).trans ((f8 _ (by omega) )), by omega, w9⟩)

