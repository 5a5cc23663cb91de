/-! THE COMPONENT: the history -/
theorem ct_qinit {Ω : ax_O} (hA : ax_Amb Ω) {h : ax_H} (wf : ax_wf h) (hz : Ω.2.1.heap.size ≤ h.2) {Q : Nat} (hQ : h.1 Q = some (.inr (17, [.null, .int (nI 0), .int (nI 0)]))) (hbQ : Ω.2.1.heap.size ≤ Q)  : ax_MetP Ω yJ17_init 3 1 17 [.ref Q] h (ax_Nm (fun v h' => v = none ∧ h'.1 Q = some (.inr (17, [.ref h.2, .int (nI 0), .int (nI 0)])) ∧ h'.1 h.2 = some (.inl (.object "java/lang/Object", 17, .inr (.inr (.inr (.inr fun _ => none))))) ∧ (∀ q, q < h.2 → q ≠ Q → h'.1 q = h.1 q) ∧ h'.2 = h.2 + 1 ∧ ax_wf h')) := by
  refine ax_metP q716 q141 (by decide +kernel) (by decide) hA (Nat.le_of_ble_eq_true rfl) (fun Γ G E => ?_)
  have hlQ := wf.lt hQ
  show ax_W Ω Γ 1 17 h 0 [some (.ref Q)] []
  refine ax_aload_n (pc := 0) G dJ17_init_0 rfl rfl ?_
  refine ax_cI0 (pc := 1) (kb := 1) (nb := 17) G (ct_acinit hA) lIJ17_42 dJ17_init_1 rfl (by decide) (Nat.le_of_ble_eq_true rfl) rfl ?_
  refine ax_aload_n (pc := 4) G dJ17_init_4 rfl rfl ?_
  refine ax_bipush (pc := 5) (v := nI 17) G dJ17_init_5 ib_17 ?_
  refine ax_anewarray (pc := 7) (kb := 0) (nb := 0) G 17 dJ17_init_7 q718 q219 rfl (by omega) ?_
  refine ax_hvA wf (fun h196 g196 f196 z196 w196 => ?_)
  refine ax_putf (pc := 10) G flJ17_3_17 dJ17_init_10 ((f196 _ (by omega)).trans (hQ)) (by omega) (Nat.le_of_ble_eq_true rfl) rfl rfl ?_
  refine ax_hvS w196 (by omega) (fun h197 g197 f197 z197 w197 => ?_)
  replace g197 : h197.1 Q = some (.inr (17, [.ref h.2, .int (nI 0), .int (nI 0)])) := g197
  exact ax_vretP (pc := 13) G E rfl dJ17_init_13 (⟨_, rfl, rfl, g197, (f197 _ (by omega)).trans (g196), fun q a1 a2 => (f197 _ (by omega)).trans ((f196 _ (by omega))), by omega, w197⟩)

theorem ct_qclear {Ω : ax_O} (hA : ax_Amb Ω) {h : ax_H} (wf : ax_wf h) (hz : Ω.2.1.heap.size ≤ h.2) {Q e hd tl : Nat} {f : Nat → Option Nat} (hQ : h.1 Q = some (.inr (17, [.ref e, .int (nI hd), .int (nI tl)]))) (hbQ : Ω.2.1.heap.size ≤ Q) (hE : h.1 e = some (.inl (.object "java/lang/Object", 17, .inr (.inr (.inr (.inr f)))))) (hbe : Ω.2.1.heap.size ≤ e) (hhd : hd < 17) (htl : tl < 17)  : ax_MetP Ω yJ17_clear 1 0 0 [.ref Q] h (ax_Nm (fun v h' => v = none ∧ ∃ f', h'.1 Q = some (.inr (17, [.ref e, .int (nI 0), .int (nI 0)])) ∧ h'.1 e = some (.inl (.object "java/lang/Object", 17, .inr (.inr (.inr (.inr f'))))) ∧ (∀ q, q ≠ Q → q ≠ e → h'.1 q = h.1 q) ∧ h'.2 = h.2 ∧ ax_wf h')) := by
  refine ax_metP q1409 q141 (by decide +kernel) (by decide) hA (Nat.le_of_ble_eq_true rfl) (fun Γ G E => ?_)
  have hlQ := wf.lt hQ
  have hle := wf.lt hE
  have hQe : Q ≠ e := fun z => by rw [z, hE] at hQ; cases hQ
  show ax_W Ω Γ 0 0 h 0 [some (.ref Q)] []
  refine ax_aload_n (pc := 0) G dJ17_clear_0 rfl rfl ?_
  refine ax_getf (pc := 1) (v := .ref e) G flJ17_3_17 dJ17_clear_1 (hQ) rfl ?_
  refine ax_aload_n (pc := 4) G dJ17_clear_4 rfl rfl ?_
  refine ax_getf (pc := 5) (v := .int (nI hd)) G flJ17_24_17 dJ17_clear_5 (hQ) rfl ?_
  refine ax_aload_n (pc := 8) G dJ17_clear_8 rfl rfl ?_
  refine ax_getf (pc := 9) (v := .int (nI tl)) G flJ17_20_17 dJ17_clear_9 (hQ) rfl ?_
  refine ax_nS (pc := 12) (kb := 0) (nb := 0) G (ct_qcirc hA wf (by omega) (hE) hbe hhd htl) lSJ17_181 dJ17_clear_12 rfl (by decide) (Nat.le_of_ble_eq_true rfl) rfl (fun v198 h198 q9 => ?_)
  obtain ⟨rfl, f7, k198, f198, z198, w198⟩ := q9
  show ax_W Ω Γ _ _ (h198) _ _ (_)
  refine ax_aload_n (pc := 15) G dJ17_clear_15 rfl rfl ?_
  refine ax_aload_n (pc := 16) G dJ17_clear_16 rfl rfl ?_
  refine ax_iconst (pc := 17) (v := nI 0) G dJ17_clear_17 ic_0 ?_
  refine ax_dup_x1 (pc := 18) G dJ17_clear_18 rfl rfl ?_
  refine ax_putf (pc := 19) G flJ17_20_17 dJ17_clear_19 ((f198 _ (by omega)).trans (hQ)) (by omega) (Nat.le_of_ble_eq_true rfl) rfl rfl ?_
  refine ax_hvS w198 (by omega) (fun h199 g199 f199 z199 w199 => ?_)
  replace g199 : h199.1 Q = some (.inr (17, [.ref e, .int (nI hd), .int (nI 0)])) := g199
  refine ax_putf (pc := 22) G flJ17_24_17 dJ17_clear_22 (g199) (by omega) (Nat.le_of_ble_eq_true rfl) rfl rfl ?_
  refine ax_hvS w199 (by omega) (fun h200 g200 f200 z200 w200 => ?_)
  replace g200 : h200.1 Q = some (.inr (17, [.ref e, .int (nI 0), .int (nI 0)])) := g200
  exact ax_vretP (pc := 25) G E rfl dJ17_clear_25 (⟨_, rfl, rfl, f7, g200, (f200 _ (by omega)).trans ((f199 _ (by omega)).trans (k198)), fun q a1 a2 => (f200 _ (by omega)).trans ((f199 _ (by omega)).trans ((f198 _ (by omega)))), by omega, w200⟩)

theorem ct_hsize {Ω : ax_O} (hA : ax_Amb Ω) {h : ax_H} (wf : ax_wf h) (hz : Ω.2.1.heap.size ≤ h.2) {Hh Q e hd tl : Nat} {f : Nat → Option Nat} (hH : h.1 Hh = some (.inr (7, [.ref Q]))) (hQ : h.1 Q = some (.inr (17, [.ref e, .int (nI hd), .int (nI tl)]))) (hbQ : Ω.2.1.heap.size ≤ Q) (hE : h.1 e = some (.inl (.object "java/lang/Object", 17, .inr (.inr (.inr (.inr f)))))) (hbe : Ω.2.1.heap.size ≤ e) (hhd : hd < 17) (htl : tl < 17) (n : Nat) (hn : n < 17) (ht : tl = (hd + n) % 17) : ax_MetP Ω yX9_size 2 0 0 [.ref Hh] h (ax_Nm (fun v h' => v = some (.int (nI n)) ∧ h' = h)) := by
  refine ax_metP q817 q140 (by decide +kernel) (by decide) hA (Nat.le_of_ble_eq_true rfl) (fun Γ G E => ?_)
  have hlQ := wf.lt hQ
  have hle := wf.lt hE
  have hQe : Q ≠ e := fun z => by rw [z, hE] at hQ; cases hQ
  have hlH := wf.lt hH
  have hHQ : Hh ≠ Q := fun z => by rw [z, hQ] at hH; cases hH
  have hHe : Hh ≠ e := fun z => by rw [z, hE] at hH; cases hH
  show ax_W Ω Γ 0 0 h 0 [some (.ref Hh)] []
  refine ax_aload_n (pc := 0) G dX9_size_0 rfl rfl ?_
  refine ax_getf (pc := 1) (v := .ref Q) G flX9_12_7 dX9_size_1 (hH) rfl ?_
  refine ax_cV1 (pc := 4) (kb := 0) (nb := 0) G (ct_qsize hA wf (hQ) (hE) hhd htl n hn ht) lVX9_18_17 dX9_size_4 (hQ) rfl (by decide) (Nat.le_of_ble_eq_true rfl) rfl ?_
  exact ax_iretP (pc := 7) G E rfl (rfl) dX9_size_7 (⟨_, rfl, rfl, rfl⟩)

theorem ct_hclear {Ω : ax_O} (hA : ax_Amb Ω) {h : ax_H} (wf : ax_wf h) (hz : Ω.2.1.heap.size ≤ h.2) {Hh Q e hd tl : Nat} {f : Nat → Option Nat} (hH : h.1 Hh = some (.inr (7, [.ref Q]))) (hQ : h.1 Q = some (.inr (17, [.ref e, .int (nI hd), .int (nI tl)]))) (hbQ : Ω.2.1.heap.size ≤ Q) (hE : h.1 e = some (.inl (.object "java/lang/Object", 17, .inr (.inr (.inr (.inr f)))))) (hbe : Ω.2.1.heap.size ≤ e) (hhd : hd < 17) (htl : tl < 17)  : ax_MetP Ω yX9_clear 2 0 0 [.ref Hh] h (ax_Nm (fun v h' => v = none ∧ ∃ f', h'.1 Q = some (.inr (17, [.ref e, .int (nI 0), .int (nI 0)])) ∧ h'.1 e = some (.inl (.object "java/lang/Object", 17, .inr (.inr (.inr (.inr f'))))) ∧ (∀ q, q ≠ Q → q ≠ e → h'.1 q = h.1 q) ∧ h'.2 = h.2 ∧ ax_wf h')) := by
  refine ax_metP q1405 q140 (by decide +kernel) (by decide) hA (Nat.le_of_ble_eq_true rfl) (fun Γ G E => ?_)
  have hlQ := wf.lt hQ
  have hle := wf.lt hE
  have hQe : Q ≠ e := fun z => by rw [z, hE] at hQ; cases hQ
  have hlH := wf.lt hH
  have hHQ : Hh ≠ Q := fun z => by rw [z, hQ] at hH; cases hH
  have hHe : Hh ≠ e := fun z => by rw [z, hE] at hH; cases hH
  show ax_W Ω Γ 0 0 h 0 [some (.ref Hh)] []
  refine ax_aload_n (pc := 0) G dX9_clear_0 rfl rfl ?_
  refine ax_getf (pc := 1) (v := .ref Q) G flX9_12_7 dX9_clear_1 (hH) rfl ?_
  refine ax_nV (pc := 4) (kb := 0) (nb := 0) G (ct_qclear hA wf (by omega) (hQ) hbQ (hE) hbe hhd htl) lVX9_38_17 dX9_clear_4 (hQ) rfl (by decide) (Nat.le_of_ble_eq_true rfl) rfl (fun v201 h201 q9 => ?_)
  obtain ⟨rfl, f7, g201, k201, f201, z201, w201⟩ := q9
  show ax_W Ω Γ _ _ (h201) _ _ (_)
  exact ax_vretP (pc := 7) G E rfl dX9_clear_7 (⟨_, rfl, rfl, f7, g201, k201, fun q a1 a2 => (f201 _ (by omega) (by omega)), by omega, w201⟩)

theorem ct_hback {Ω : ax_O} (hA : ax_Amb Ω) {h : ax_H} (wf : ax_wf h) (hz : Ω.2.1.heap.size ≤ h.2) {Hh Q e hd tl : Nat} {f : Nat → Option Nat} (hH : h.1 Hh = some (.inr (7, [.ref Q]))) (hQ : h.1 Q = some (.inr (17, [.ref e, .int (nI hd), .int (nI tl)]))) (hbQ : Ω.2.1.heap.size ≤ Q) (hE : h.1 e = some (.inl (.object "java/lang/Object", 17, .inr (.inr (.inr (.inr f)))))) (hbe : Ω.2.1.heap.size ≤ e) (hhd : hd < 17) (htl : tl < 17) {q0 : Nat} {qf : List Value} (hq0 : h.1 q0 = some (.inr (1, qf))) (hf : f ((tl + 16) % 17) = some q0) : ax_MetP Ω yX9_back 4 0 0 [.ref Hh] h (ax_Nm (fun v h' => v = some (.ref q0) ∧ h'.1 Q = some (.inr (17, [.ref e, .int (nI hd), .int (nI ((tl + 16) % 17))])) ∧ h'.1 e = some (.inl (.object "java/lang/Object", 17, .inr (.inr (.inr (.inr (va_up f ((tl + 16) % 17) none)))))) ∧ (∀ q, q ≠ Q → q ≠ e → h'.1 q = h.1 q) ∧ h'.2 = h.2 ∧ ax_wf h')) := by
  refine ax_metP q2522 q140 (by decide +kernel) (by decide) hA (Nat.le_of_ble_eq_true rfl) (fun Γ G E => ?_)
  have hlQ := wf.lt hQ
  have hle := wf.lt hE
  have hQe : Q ≠ e := fun z => by rw [z, hE] at hQ; cases hQ
  have hlH := wf.lt hH
  have hHQ : Hh ≠ Q := fun z => by rw [z, hQ] at hH; cases hH
  have hHe : Hh ≠ e := fun z => by rw [z, hE] at hH; cases hH
  have hq1 : q0 ≠ Q := fun z => by rw [z, hQ] at hq0; cases hq0
  have hq2 : q0 ≠ e := fun z => by rw [z, hE] at hq0; cases hq0
  show ax_W Ω Γ 0 0 h 0 [some (.ref Hh)] []
  refine ax_aload_n (pc := 0) G dX9_back_0 rfl rfl ?_
  refine ax_getf (pc := 1) (v := .ref Q) G flX9_12_7 dX9_back_1 (hH) rfl ?_
  refine ax_nV (pc := 4) (kb := 0) (nb := 0) G (ct_qremoveLast hA wf (by omega) (hQ) hbQ (hE) hbe hhd htl hf) lVX9_35_17 dX9_back_4 (hQ) rfl (by decide) (Nat.le_of_ble_eq_true rfl) rfl (fun v202 h202 q9 => ?_)
  obtain ⟨rfl, g202, k202, f202, z202, w202⟩ := q9
  show ax_W Ω Γ _ _ (h202) _ _ (.ref q0 :: _)
  refine ax_checkcast (pc := 7) G q2420 ⟨_, rfl, Or.inr q2407⟩ dX9_back_7 (((f202 _ (by omega) (by omega)).trans hq0)) ?_
  exact ax_aretP (pc := 10) G E rfl (Or.inl ⟨_, rfl⟩) (Or.inr ⟨_, rfl⟩) dX9_back_10 (⟨_, rfl, rfl, g202, k202, fun q a1 a2 => (f202 _ (by omega) (by omega)), by omega, w202⟩)

theorem ct_hinit {Ω : ax_O} (hA : ax_Amb Ω) {h : ax_H} (wf : ax_wf h) (hz : Ω.2.1.heap.size ≤ h.2) {Hh : Nat} (hH : h.1 Hh = some (.inr (7, [.null]))) (hbH : Ω.2.1.heap.size ≤ Hh)  : ax_MetP Ω yX9_init 4 2 20 [.ref Hh] h (ax_Nm (fun v h' => v = none ∧ h'.1 Hh = some (.inr (7, [.ref h.2])) ∧ h'.1 h.2 = some (.inr (17, [.ref (h.2 + 1), .int (nI 0), .int (nI 0)])) ∧ h'.1 (h.2 + 1) = some (.inl (.object "java/lang/Object", 17, .inr (.inr (.inr (.inr fun _ => none))))) ∧ (∀ q, q < h.2 → q ≠ Hh → h'.1 q = h.1 q) ∧ h'.2 = h.2 + 2 ∧ ax_wf h')) := by
  refine ax_metP q710 q140 (by decide +kernel) (by decide) hA (Nat.le_of_ble_eq_true rfl) (fun Γ G E => ?_)
  have hlH := wf.lt hH
  show ax_W Ω Γ 2 20 h 0 [some (.ref Hh)] []
  refine ax_aload_n (pc := 0) G dX9_init_0 rfl rfl ?_
  refine ax_objInit (pc := 1) G (by decide) q711 q166 q167 dX9_init_1 (Nat.le_of_ble_eq_true rfl) ?_
  refine ax_aload_n (pc := 4) G dX9_init_4 rfl rfl ?_
  refine ax_new (pc := 5) (ci := 17) (kb := 1) (nb := 17) G [.null, .int (nI 0), .int (nI 0)] dX9_init_5 rfl cok_J17 rfl q712 q713 q141 (fun j hj => by match j, hj with | 0, _ => rfl | 1, _ => rfl | 2, _ => rfl) ?_
  refine ax_hvA wf (fun h203 g203 f203 z203 w203 => ?_)
  refine ax_dup (pc := 8) G dX9_init_8 rfl ?_
  refine ax_nI (pc := 9) (kb := 0) (nb := 0) G (ct_qinit hA w203 (by omega) (g203) (by omega)) lIX9_11 dX9_init_9 rfl (by decide) (Nat.le_of_ble_eq_true rfl) rfl (fun v204 h204 q9 => ?_)
  obtain ⟨rfl, g204, k204, f204, z204, w204⟩ := q9
  show ax_W Ω Γ _ _ (h204) _ _ (_)
  refine ax_putfF (pc := 12) G flFX9_12_7 rfl dX9_init_12 ((f204 _ (by omega) (by omega)).trans ((f203 _ (by omega)).trans (hH))) (by omega) (Nat.le_of_ble_eq_true rfl) rfl rfl ?_
  refine ax_hvS w204 (by omega) (fun h205 g205 f205 z205 w205 => ?_)
  replace g205 : h205.1 Hh = some (.inr (7, [.ref h.2])) := g205
  exact ax_vretP (pc := 15) G E rfl dX9_init_15 (⟨_, rfl, rfl, g205, by rw [show h.2 + 1 = h203.2 from by omega]; exact (f205 _ (by omega)).trans (g204), by rw [show h.2 + 1 = h203.2 from by omega]; exact (f205 _ (by omega)).trans (k204), fun q a1 a2 => (f205 _ (by omega)).trans ((f204 _ (by omega) (by omega)).trans ((f203 _ (by omega)))), by omega, w205⟩)

theorem sAl.keep {h h' : ax_H} {a A e : Nat} {al : Nat → Nat} (x : sAl h a A e al) (f2 : h'.1 (a + 2) = h.1 (a + 2)) (fe : h'.1 e = h.1 e) (f : ∀ q fs, h.1 q = some (.inr (14, fs)) → h'.1 q = h.1 q) : sAl h' a A e al := by
  obtain ⟨m9, cap9, f9, g1, g2, g3, g4, g5, g6⟩ := x
  refine ⟨m9, cap9, f9, f2.trans g1, fe.trans g2, g3, g4, g5, fun i hi q hq => ?_⟩
  obtain ⟨fs, k1, k2⟩ := g6 i hi q hq
  exact ⟨fs, (f q fs k1).trans k1, k2⟩
theorem ct_hkeepA {Ω : ax_O} (hA : ax_Amb Ω) {h : ax_H} (wf : ax_wf h) (hz : Ω.2.1.heap.size ≤ h.2) {Hh Q e hd tl : Nat} {f : Nat → Option Nat} (hH : h.1 Hh = some (.inr (7, [.ref Q]))) (hQ : h.1 Q = some (.inr (17, [.ref e, .int (nI hd), .int (nI tl)]))) (hbQ : Ω.2.1.heap.size ≤ Q) (hE : h.1 e = some (.inl (.object "java/lang/Object", 17, .inr (.inr (.inr (.inr f)))))) (hbe : Ω.2.1.heap.size ≤ e) (hhd : hd < 17) (htl : tl < 17) {b : Nat} {s2 : pR} {π2 : Nat → cP} {sc2 rl2 : Nat} (hSb : sIs h b (s2, π2, .ref sc2, rl2)) (hbh : b + 18 < h.2) {e2 cap2 A : Nat} {mc2 : Int32} {f2 : Nat → Option Nat} {al : Nat → Nat} {alf : Nat → List Value} (hL2 : h.1 (b + 2) = some (.inr (16, [.int mc2, .ref e2, .int (nI A)]))) (hE2 : h.1 e2 = some (.inl (.object "java/lang/Object", cap2, .inr (.inr (.inr (.inr f2)))))) (hA2 : A ≤ cap2) (hA10 : A ≤ 10) (hcap2 : cap2 < 1000) (hf2 : ∀ k, k < A → f2 k = some (al k)) (hal : ∀ k, k < A → h.1 (al k) = some (.inr (14, alf k))) (oQ : Q < b ∨ b + 18 < Q) (oe : e < b ∨ b + 18 < e) (he2 : e2 ≠ e) (n : Nat) (hn8 : n < 8) (ht : tl = (hd + n) % 17) : ax_MetP Ω yX9_keep 15 29 2726 [.ref Hh, .ref b] h (ax_Nm (fun v h' => v = none ∧ h'.1 Q = some (.inr (17, [.ref e, .int (nI hd), .int (nI ((tl + 1) % 17))])) ∧ h'.1 e = some (.inl (.object "java/lang/Object", 17, .inr (.inr (.inr (.inr (va_up f tl (some h.2))))))) ∧ (∃ π, sIs h' h.2 (s2, π, .ref sc2, rl2)) ∧ (∃ e9, sAl h' h.2 A e9 al ∧ h.2 ≤ e9 ∧ e9 < h'.2 ∧ (e9 = h.2 + 3 ∨ h.2 + 18 < e9)) ∧ (∀ q, q < h.2 → q ≠ Q → q ≠ e → h'.1 q = h.1 q) ∧ h.2 + 19 ≤ h'.2 ∧ h'.2 ≤ h.2 + 19 + A ∧ ax_wf h')) := by
  refine ax_metP q2388 q140 (by decide +kernel) (by decide) hA (Nat.le_of_ble_eq_true rfl) (fun Γ G E => ?_)
  have hlQ := wf.lt hQ
  have hle := wf.lt hE
  have hQe : Q ≠ e := fun z => by rw [z, hE] at hQ; cases hQ
  have hlH := wf.lt hH
  have hHQ : Hh ≠ Q := fun z => by rw [z, hQ] at hH; cases hH
  have hHe : Hh ≠ e := fun z => by rw [z, hE] at hH; cases hH
  have hle2 := wf.lt hE2
  have hlL2 := wf.lt hL2
  have hlal : ∀ k, k < A → al k < h.2 := fun k hk => wf.lt (hal k hk)
  have hnQ : ∀ k, k < A → al k ≠ Q := fun k hk z => by have q := hal k hk; rw [z, hQ] at q; cases q
  have hne : ∀ k, k < A → al k ≠ e := fun k hk z => by have q := hal k hk; rw [z, hE] at q; cases q
  have hEQ : e2 ≠ Q := fun z => by rw [z, hQ] at hE2; cases hE2
  have hLQ : b + 2 ≠ Q := by omega
  have hLe : b + 2 ≠ e := by omega
  have hn : n < 17 := by omega
  show ax_W Ω Γ 29 2726 h 0 [some (.ref Hh), some (.ref b)] []
  refine ax_aload_n (pc := 0) G dX9_keep_0 rfl rfl ?_
  refine ax_getf (pc := 1) (v := .ref Q) G flX9_12_7 dX9_keep_1 (hH) rfl ?_
  refine ax_cV1 (pc := 4) (kb := 29) (nb := 2726) G (ct_qsize hA wf (hQ) (hE) hhd htl n hn ht) lVX9_18_17 dX9_keep_4 (hQ) rfl (by decide) (Nat.le_of_ble_eq_true rfl) rfl ?_
  refine ax_bipush (pc := 7) (v := nI 8) G dX9_keep_7 ib_8 ?_
  refine ax_icmp_neN (pc := 9) (tgt := 20) G dX9_keep_9 rfl (by omega) (by omega) (fun c9 => ?_) (fun c9 => ?_)
  · refine ax_aload_n (pc := 20) G dX9_keep_20 rfl rfl ?_
    refine ax_getf (pc := 21) (v := .ref Q) G flX9_12_7 dX9_keep_21 (hH) rfl ?_
    refine ax_aload_n (pc := 24) G dX9_keep_24 rfl rfl ?_
    refine ax_nJ (pc := 25) (kb := 0) (nb := 0) G (ct_scopy2 hA wf (by omega) hSb hbh hL2 hE2 hA2 hA10 hcap2 hf2 hal) lJX9_26_1 dX9_keep_25 (hSb.obj) rfl (by decide) (Nat.le_of_ble_eq_true rfl) rfl (fun v206 h206 q9 => ?_)
    obtain ⟨rfl, ⟨π9, X1⟩, ⟨e9, X2, X3, X4, X5⟩, f206, y9, z206, w206⟩ := q9
    show ax_W Ω Γ _ _ (h206) _ _ (.ref h.2 :: _)
    refine ax_checkcast (pc := 30) G q2420 ⟨_, rfl, Or.inr q2407⟩ dX9_keep_30 (X1.obj) ?_
    have gQ9 := (f206 _ (by omega) ).trans (hQ)
    have gE9 := (f206 _ (by omega) ).trans (hE)
    refine ax_nV (pc := 33) (kb := 0) (nb := 0) G (ct_qaddLast hA w206 (by omega) ((f206 _ (by omega) ).trans (hQ)) hbQ ((f206 _ (by omega) ).trans (hE)) hbe (by omega) htl (by omega) X1.obj ⟨_, rfl, Or.inr q3264⟩) lVX9_31_17 dX9_keep_33 ((f206 _ (by omega) ).trans (hQ)) rfl (by decide) (Nat.le_of_ble_eq_true rfl) rfl (fun v207 h207 q9 => ?_)
    obtain ⟨rfl, g207, k207, f207, z207, w207⟩ := q9
    show ax_W Ω Γ _ _ (h207) _ _ (_)
    exact ax_vretP (pc := 36) G E rfl dX9_keep_36 (⟨_, rfl, rfl, g207, k207, ⟨π9, X1.keep fun q hq => f207 q (by omega) (by omega)⟩, ⟨e9, X2.keep (f207 _ (by omega) (by omega)) (f207 _ (by omega) (by omega)) (fun q fs z => f207 q (fun y => by rw [y, gQ9] at z; cases z) (fun y => by rw [y, gE9] at z; cases z)), by omega, by omega, by omega⟩, fun q a1 a2 a3 => (f207 _ (by omega) (by omega)).trans ((f206 _ (by omega) )), by omega, by omega, w207⟩)
  · omega

theorem ct_hkeepB {Ω : ax_O} (hA : ax_Amb Ω) {h : ax_H} (wf : ax_wf h) (hz : Ω.2.1.heap.size ≤ h.2) {Hh Q e hd tl : Nat} {f : Nat → Option Nat} (hH : h.1 Hh = some (.inr (7, [.ref Q]))) (hQ : h.1 Q = some (.inr (17, [.ref e, .int (nI hd), .int (nI tl)]))) (hbQ : Ω.2.1.heap.size ≤ Q) (hE : h.1 e = some (.inl (.object "java/lang/Object", 17, .inr (.inr (.inr (.inr f)))))) (hbe : Ω.2.1.heap.size ≤ e) (hhd : hd < 17) (htl : tl < 17) {b : Nat} {s2 : pR} {π2 : Nat → cP} {sc2 rl2 : Nat} (hSb : sIs h b (s2, π2, .ref sc2, rl2)) (hbh : b + 18 < h.2) {e2 cap2 A : Nat} {mc2 : Int32} {f2 : Nat → Option Nat} {al : Nat → Nat} {alf : Nat → List Value} (hL2 : h.1 (b + 2) = some (.inr (16, [.int mc2, .ref e2, .int (nI A)]))) (hE2 : h.1 e2 = some (.inl (.object "java/lang/Object", cap2, .inr (.inr (.inr (.inr f2)))))) (hA2 : A ≤ cap2) (hA10 : A ≤ 10) (hcap2 : cap2 < 1000) (hf2 : ∀ k, k < A → f2 k = some (al k)) (hal : ∀ k, k < A → h.1 (al k) = some (.inr (14, alf k))) (oQ : Q < b ∨ b + 18 < Q) (oe : e < b ∨ b + 18 < e) (he2 : e2 ≠ e) (n : Nat) (hn8 : n = 8) (ht : tl = (hd + n) % 17) {q0 : Nat} (hf : f hd = some q0) : ax_MetP Ω yX9_keep 15 29 2726 [.ref Hh, .ref b] h (ax_Nm (fun v h' => v = none ∧ h'.1 Q = some (.inr (17, [.ref e, .int (nI ((hd + 1) % 17)), .int (nI ((tl + 1) % 17))])) ∧ h'.1 e = some (.inl (.object "java/lang/Object", 17, .inr (.inr (.inr (.inr (va_up (va_up f hd none) tl (some h.2))))))) ∧ (∃ π, sIs h' h.2 (s2, π, .ref sc2, rl2)) ∧ (∃ e9, sAl h' h.2 A e9 al ∧ h.2 ≤ e9 ∧ e9 < h'.2 ∧ (e9 = h.2 + 3 ∨ h.2 + 18 < e9)) ∧ (∀ q, q < h.2 → q ≠ Q → q ≠ e → h'.1 q = h.1 q) ∧ h.2 + 19 ≤ h'.2 ∧ h'.2 ≤ h.2 + 19 + A ∧ ax_wf h')) := by
  refine ax_metP q2388 q140 (by decide +kernel) (by decide) hA (Nat.le_of_ble_eq_true rfl) (fun Γ G E => ?_)
  have hlQ := wf.lt hQ
  have hle := wf.lt hE
  have hQe : Q ≠ e := fun z => by rw [z, hE] at hQ; cases hQ
  have hlH := wf.lt hH
  have hHQ : Hh ≠ Q := fun z => by rw [z, hQ] at hH; cases hH
  have hHe : Hh ≠ e := fun z => by rw [z, hE] at hH; cases hH
  have hle2 := wf.lt hE2
  have hlL2 := wf.lt hL2
  have hlal : ∀ k, k < A → al k < h.2 := fun k hk => wf.lt (hal k hk)
  have hnQ : ∀ k, k < A → al k ≠ Q := fun k hk z => by have q := hal k hk; rw [z, hQ] at q; cases q
  have hne : ∀ k, k < A → al k ≠ e := fun k hk z => by have q := hal k hk; rw [z, hE] at q; cases q
  have hEQ : e2 ≠ Q := fun z => by rw [z, hQ] at hE2; cases hE2
  have hLQ : b + 2 ≠ Q := by omega
  have hLe : b + 2 ≠ e := by omega
  have hn : n < 17 := by omega
  show ax_W Ω Γ 29 2726 h 0 [some (.ref Hh), some (.ref b)] []
  refine ax_aload_n (pc := 0) G dX9_keep_0 rfl rfl ?_
  refine ax_getf (pc := 1) (v := .ref Q) G flX9_12_7 dX9_keep_1 (hH) rfl ?_
  refine ax_cV1 (pc := 4) (kb := 29) (nb := 2726) G (ct_qsize hA wf (hQ) (hE) hhd htl n hn ht) lVX9_18_17 dX9_keep_4 (hQ) rfl (by decide) (Nat.le_of_ble_eq_true rfl) rfl ?_
  refine ax_bipush (pc := 7) (v := nI 8) G dX9_keep_7 ib_8 ?_
  refine ax_icmp_neN (pc := 9) (tgt := 20) G dX9_keep_9 rfl (by omega) (by omega) (fun c9 => ?_) (fun c9 => ?_)
  · omega
  · refine ax_aload_n (pc := 12) G dX9_keep_12 rfl rfl ?_
    refine ax_getf (pc := 13) (v := .ref Q) G flX9_12_7 dX9_keep_13 (hH) rfl ?_
    refine ax_nV (pc := 16) (kb := 29) (nb := 2726) G (ct_qremoveFirst hA wf (by omega) (hQ) hbQ (hE) hbe hhd htl hf) lVX9_22_17 dX9_keep_16 (hQ) rfl (by decide) (Nat.le_of_ble_eq_true rfl) rfl (fun v208 h208 q9 => ?_)
    obtain ⟨rfl, g208, k208, f208, z208, w208⟩ := q9
    show ax_W Ω Γ _ _ (h208) _ _ (.ref q0 :: _)
    refine ax_pop (pc := 19) G dX9_keep_19 rfl ?_
    refine ax_aload_n (pc := 20) G dX9_keep_20 rfl rfl ?_
    refine ax_getf (pc := 21) (v := .ref Q) G flX9_12_7 dX9_keep_21 ((f208 _ (by omega) (by omega)).trans (hH)) rfl ?_
    refine ax_aload_n (pc := 24) G dX9_keep_24 rfl rfl ?_
    refine ax_nJ (pc := 25) (kb := 0) (nb := 0) G (ct_scopy2 hA w208 (by omega) (hSb.keep fun q hq => (f208 _ (by omega) (by omega))) (by omega) (((f208 _ (by first | omega | exact hLQ | exact hLe) (by first | omega | exact hLQ | exact hLe))).trans hL2) (((f208 _ (by first | omega | exact hEQ | exact he2) (by first | omega | exact hEQ | exact he2))).trans hE2) hA2 hA10 hcap2 hf2 (fun k hk => ((f208 _ (by first | exact (hnQ k hk) | exact (hne k hk)) (by first | exact (hnQ k hk) | exact (hne k hk)))).trans (hal k hk))) lJX9_26_1 dX9_keep_25 ((f208 _ (by omega) (by omega)).trans (hSb.obj)) rfl (by decide) (Nat.le_of_ble_eq_true rfl) rfl (fun v209 h209 q9 => ?_)
    obtain ⟨rfl, ⟨π9, X1⟩, ⟨e9, X2, X3, X4, X5⟩, f209, y9, z209, w209⟩ := q9
    show ax_W Ω Γ _ _ (h209) _ _ (.ref h208.2 :: _)
    refine ax_checkcast (pc := 30) G q2420 ⟨_, rfl, Or.inr q2407⟩ dX9_keep_30 (X1.obj) ?_
    have gQ9 := (f209 _ (by omega) ).trans (g208)
    have gE9 := (f209 _ (by omega) ).trans (k208)
    have zz9 : h208.2 = h.2 := by omega
    rw [zz9] at X1 X2 X3 X5 y9 z209
    rw [zz9]
    refine ax_nV (pc := 33) (kb := 0) (nb := 0) G (ct_qaddLast hA w209 (by omega) ((f209 _ (by omega) ).trans (g208)) hbQ ((f209 _ (by omega) ).trans (k208)) hbe (by omega) htl (by omega) X1.obj ⟨_, rfl, Or.inr q3264⟩) lVX9_31_17 dX9_keep_33 ((f209 _ (by omega) ).trans (g208)) rfl (by decide) (Nat.le_of_ble_eq_true rfl) rfl (fun v210 h210 q9 => ?_)
    obtain ⟨rfl, g210, k210, f210, z210, w210⟩ := q9
    show ax_W Ω Γ _ _ (h210) _ _ (_)
    exact ax_vretP (pc := 36) G E rfl dX9_keep_36 (⟨_, rfl, rfl, g210, k210, ⟨π9, X1.keep fun q hq => f210 q (by omega) (by omega)⟩, ⟨e9, X2.keep (f210 _ (by omega) (by omega)) (f210 _ (by omega) (by omega)) (fun q fs z => f210 q (fun y => by rw [y, gQ9] at z; cases z) (fun y => by rw [y, gE9] at z; cases z)), by omega, by omega, by omega⟩, fun q a1 a2 a3 => (f210 _ (by omega) (by omega)).trans ((f209 _ (by omega) ).trans ((f208 _ (by omega) (by omega)))), by omega, by omega, w210⟩)

