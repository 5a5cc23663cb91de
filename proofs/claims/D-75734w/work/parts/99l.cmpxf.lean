/-! TelescopeQueue: what-if questions -/
theorem pEndRow_s {s : pR} {p : Int32} : pEndRow s p (s 15) = upd s 5 p := by
  unfold pEndRow
  funext i
  by_cases c : i = 15
  · subst c; rw [pu_eq, pu_ne (by omega)]
  · rw [pu_ne c]
theorem pEndRow_c {s : pR} {c : Int32} : pEndRow s (s 5) c = upd s 15 c := by
  unfold pEndRow
  congr 1
  funext i
  by_cases e : i = 5
  · subst e; rw [pu_eq]
  · rw [pu_ne e]
theorem pEndRow_0 {s : pR} : pEndRow s (s 5) (s 15) = s := by
  rw [pEndRow_c]
  funext i
  by_cases e : i = 15
  · subst e; rw [pu_eq]
  · rw [pu_ne e]
theorem pDoneN_F {A : Nat} {s : pR} : ∀ {n : Nat}, n ≤ 20 → pDoneN (pF A s) n = pDoneN s n
  | 0, _ => rfl
  | n + 1, h => by rw [pDoneN, pDoneN, pDoneN_F (by omega), pF_o (pX_lo (by omega))]
theorem bl_done {Ω : ax_O} (hA : ax_Amb Ω) {h : ax_H} {w : Nat → Nat} {b : Nat} {pl s : pR} {N V O A : Nat} {D : cD} {π : Nat → cP} {pol : Nat} (B : xBk Ω h w b pl s N V O A D π pol) {g : ax_H} (eg : g = h) : ax_Met Ω yX2_done 4 0 0 [.ref b] g (.inl (some (.int (pDoneN s V)))) g := by
  have M9 := ct_done hA B.sz B.wp B.ws.F B.enF (π := π)
  rw [show sH h b (pF A s, π, .ref (D.1 0), D.1 8) = h from B.is, pDoneN_F B.wp.lV] at M9
  rw [eg]; exact M9
/-- only the State for trials has changed -/
theorem xG.trial {Ω : ax_O} {h h1 : ax_H} {w w1 : Nat → Nat} {X bf tr hi sv lb a : Nat} {pl s : pR} {N V O A u : Nat} {μ : md_S} {D : cD} {π : Nat → cP} {pol : Nat} (G : xG Ω h w X bf tr hi sv lb (.ref a) a pl N V O μ u) (F : xFr (fun o => o = tr + 10) h h1 w w1) (B : xBk Ω h1 w1 tr pl s N V O A D π pol) (p : w1 (tr + 1) = tr + 10 ∧ w1 (tr + 3) = tr + 10) : xG Ω h1 w1 X bf tr hi sv lb (.ref a) a pl N V O μ u :=
  G.frT F (by omega) (by omega) (fun b hb _ => by omega) (B.tr p)
theorem cj_tried {Ω : ax_O} (hA : ax_Amb Ω) {h : ax_H} {w : Nat → Nat} {X bf tr hi sv lb a : Nat} {pl : pR} {N V O A u : Nat} {μ : md_S} {D : cD} {π : Nat → cP} {pol : Nat} (J : xG Ω h w X bf tr hi sv lb (.ref a) a pl N V O μ u) (B : xBk Ω h w a pl (μ.2 4) N V O A D π pol) (o1 : w (a + 1) = 1) (ht : tr ≠ a)  : ax_MetP Ω yX1_tried 13 10 2000 [.ref X] h (ax_Nm fun v h' => v = some (.ref tr) ∧ ∃ w' D' π' pol', xFr (fun o => o = tr + 10) h h' w w' ∧ xBk Ω h' w' tr pl (μ.2 4) N V O A D' π' pol' ∧ (w' (tr + 1) = tr + 10 ∧ w' (tr + 3) = tr + 10)) := by
  refine ax_metP q2081 q113 (by decide +kernel) (by decide) hA (Nat.le_of_ble_eq_true rfl) (fun Γ G E => ?_)
  obtain ⟨fs9, hTr⟩ : ∃ fs, h.1 tr = some (.inr (1, fs)) := by obtain ⟨_, _, _, _, _, _, _, _, _, z, -⟩ := J.t; exact ⟨_, z.obj⟩
  show ax_W Ω Γ 10 2000 h 0 [some (.ref X)] []
  refine ax_aload_n (pc := 0) G dX1_tried_0 rfl rfl ?_
  refine ax_getf (pc := 1) (v := .ref tr) G flX1_37_0 dX1_tried_1 (J.x) rfl ?_
  refine ax_aload_n (pc := 4) G dX1_tried_4 rfl rfl ?_
  refine ax_getf (pc := 5) (v := .ref a) G flX1_72_0 dX1_tried_5 (J.x) rfl ?_
  refine ax_nV (pc := 8) (kb := 0) (nb := 0) G (bl_become hA J.t B o1 ht J.wf J.sz rfl) lVX1_379_1 dX1_tried_8 (hTr) rfl (by decide) (Nat.le_of_ble_eq_true rfl) rfl (fun v9 h1 q9 => ?_)
  obtain ⟨rfl, w1, D1, π1, F1, B1, p1⟩ := q9
  show ax_W Ω Γ _ _ (h1) _ _ (.ref tr :: _)
  exact ax_aretP (pc := 11) G E rfl (Or.inl ⟨_, rfl⟩) (Or.inr ⟨_, rfl⟩) dX1_tried_11 (⟨_, rfl, rfl, w1, D1, π1, pol, F1, B1, p1⟩)

theorem cj_triedS {Ω : ax_O} (hA : ax_Amb Ω) {h : ax_H} {w : Nat → Nat} {X bf tr hi sv lb a : Nat} {pl : pR} {N V O A u : Nat} {μ : md_S} {D : cD} {π : Nat → cP} {pol : Nat} (J : xG Ω h w X bf tr hi sv lb (.ref a) a pl N V O μ u) (B : xBk Ω h w a pl (μ.2 4) N V O A D π pol) (o1 : w (a + 1) = 1) (ht : tr ≠ a) {g : ax_H} (eg : g = h) : ax_MetP Ω yX1_tried 13 10 2000 [.ref X] g (ax_Nm fun v h' => v = some (.ref tr) ∧ ∃ w' D' π' pol', xFr (fun o => o = tr + 10) h h' w w' ∧ xBk Ω h' w' tr pl (μ.2 4) N V O A D' π' pol' ∧ (w' (tr + 1) = tr + 10 ∧ w' (tr + 3) = tr + 10)) := by subst eg; exact cj_tried hA J B o1 ht
theorem cj_finished {Ω : ax_O} (hA : ax_Amb Ω) {h : ax_H} {w : Nat → Nat} {X bf tr hi sv lb a : Nat} {pl : pR} {N V O A u : Nat} {μ : md_S} {D : cD} {π : Nat → cP} {pol : Nat} (J : xG Ω h w X bf tr hi sv lb (.ref a) a pl N V O μ u) (B : xBk Ω h w a pl (μ.2 4) N V O A D π pol) (o1 : w (a + 1) = 1) (ht : tr ≠ a) (p : Nat) (hp4 : p < 4)  : ax_MetP Ω yX1_finished 16 20 2100 [.ref X, .int (nI p)] h (ax_Nm fun v h' => v = some (.ref tr) ∧ ∃ w' D' π' pol', xFr (fun o => o = tr + 10) h h' w w' ∧ xBk Ω h' w' tr pl (pEnd pl (μ.2 4) V A (nI p) (μ.2 4 15)) N V O A D' π' pol' ∧ (w' (tr + 1) = tr + 10 ∧ w' (tr + 3) = tr + 10)) := by
  refine ax_metP q2158 q113 (by decide +kernel) (by decide) hA (Nat.le_of_ble_eq_true rfl) (fun Γ G E => ?_)
  show ax_W Ω Γ 20 2100 h 0 [some (.ref X), some (.int (nI p)), none] []
  refine ax_aload_n (pc := 0) G dX1_finished_0 rfl rfl ?_
  refine ax_nV (pc := 1) (kb := 10) (nb := 100) G (cj_triedS hA J B o1 ht rfl) lVX1_385_0 dX1_finished_1 (J.x) rfl (by decide) (Nat.le_of_ble_eq_true rfl) rfl (fun v9 h1 q9 => ?_)
  obtain ⟨rfl, w1, D1, π1, pol1, F1, B1, p1⟩ := q9
  show ax_W Ω Γ _ _ (h1) _ _ (.ref tr :: _)
  refine ax_astore_n (pc := 4) G dX1_finished_4 rfl (Nat.le_of_ble_eq_true rfl) rfl ?_
  refine ax_aload_n (pc := 5) G dX1_finished_5 rfl rfl ?_
  refine ax_iload_n (pc := 6) G dX1_finished_6 rfl rfl ?_
  refine ax_nV (pc := 7) (kb := 9) (nb := 100) G (bl_setPolicy hA B1 F1.2.2.2 (Nat.le_trans J.sz F1.2.2.1) p (by omega) rfl) lVX1_391_1 dX1_finished_7 (B1.is.obj) rfl (by decide) (Nat.le_of_ble_eq_true rfl) rfl (fun v9 h2 q9 => ?_)
  obtain ⟨rfl, w2, F2, B2⟩ := q9
  show ax_W Ω Γ _ _ (h2) _ _ (_)
  refine ax_aload_n (pc := 10) G dX1_finished_10 rfl rfl ?_
  refine ax_nV (pc := 11) (kb := 9) (nb := 100) G (bl_finish hA B2 rfl) lVX1_395_1 dX1_finished_11 (B2.is.obj) rfl (by decide) (Nat.le_of_ble_eq_true rfl) rfl (fun v9 h3 q9 => ?_)
  obtain ⟨rfl, π3, rfl⟩ := q9
  show ax_W Ω Γ _ _ (sH h2 tr ((pF A (pMany pl V A 4000 (upd (μ.2 4) 5 (nI p))).1), π3, (.ref ((xDr D1 h1.2).1 0)), ((xDr D1 h1.2).1 8))) _ _ (.ref tr :: _)
  exact ax_aretP (pc := 14) G E rfl (Or.inl ⟨_, rfl⟩) (Or.inr ⟨_, rfl⟩) dX1_finished_14 (⟨_, rfl, rfl, w2, _, π3, p, F1.trans (F2.trans (xFr.blk F2.2.2.2 B2.o.1 B2.o.2.2.2.2.1)), (by rw [pEnd, pEndRow_s]; exact B2.many), ⟨(F2.2.1 _ (by have := B1.o.2.2.2.2.1; omega)).trans p1.1, (F2.2.1 _ (by have := B1.o.2.2.2.2.1; omega)).trans p1.2⟩⟩)

theorem cj_finishedS {Ω : ax_O} (hA : ax_Amb Ω) {h : ax_H} {w : Nat → Nat} {X bf tr hi sv lb a : Nat} {pl : pR} {N V O A u : Nat} {μ : md_S} {D : cD} {π : Nat → cP} {pol : Nat} (J : xG Ω h w X bf tr hi sv lb (.ref a) a pl N V O μ u) (B : xBk Ω h w a pl (μ.2 4) N V O A D π pol) (o1 : w (a + 1) = 1) (ht : tr ≠ a) (p : Nat) (hp4 : p < 4) {g : ax_H} (eg : g = h) : ax_MetP Ω yX1_finished 16 20 2100 [.ref X, .int (nI p)] g (ax_Nm fun v h' => v = some (.ref tr) ∧ ∃ w' D' π' pol', xFr (fun o => o = tr + 10) h h' w w' ∧ xBk Ω h' w' tr pl (pEnd pl (μ.2 4) V A (nI p) (μ.2 4 15)) N V O A D' π' pol' ∧ (w' (tr + 1) = tr + 10 ∧ w' (tr + 3) = tr + 10)) := by subst eg; exact cj_finished hA J B o1 ht p hp4
theorem cj_usedIn {Ω : ax_O} (hA : ax_Amb Ω) {h : ax_H} {w : Nat → Nat} {X bf tr hi sv lb a : Nat} {pl : pR} {N V O A u : Nat} {μ : md_S} {D : cD} {π : Nat → cP} {pol : Nat} (J : xG Ω h w X bf tr hi sv lb (.ref a) a pl N V O μ u) (B : xBk Ω h w a pl (μ.2 4) N V O A D π pol) (o1 : w (a + 1) = 1) (ht : tr ≠ a) (k : Nat) (hka : 1 ≤ k) (hk : k ≤ 300)  : ax_MetP Ω yX1_usedIn 20 60 4000 [.ref X, .int (nI k)] h (ax_Nm fun v h' => v = some (.int ((pMany pl V A k (μ.2 4)).1 6 - μ.2 4 6)) ∧ ∃ w' D' π' pol', xFr (fun o => 2 ≤ o) h h' w w' ∧ xG Ω h' w' X bf tr hi sv lb (.ref a) a pl N V O μ u ∧ xBk Ω h' w' a pl (μ.2 4) N V O A D' π' pol' ∧ w' (a + 1) = 1) := by
  refine ax_metP q2076 q113 (by decide +kernel) (by decide) hA (Nat.le_of_ble_eq_true rfl) (fun Γ G E => ?_)
  obtain ⟨s, es⟩ : ∃ x, x = pF A (μ.2 4) := ⟨_, rfl⟩
  have ha := B.sz
  have hp := B.wp
  have hs : pWS s A := by rw [es]; exact B.ws.F
  have I : sIs h a (s, π, .ref (D.1 0), D.1 8) := by rw [es]; exact B.is
  have hE : cEn h a pl s N V O A D := by rw [es]; exact B.enF
  have hX := B.ot J.x (by rw [J.1.2.1]; omega)
  obtain ⟨Q0, hHi0⟩ : ∃ Q, ∀ σ, (sH h a σ).1 hi = some (.inr (7, [.ref Q])) := by obtain ⟨Q, -, -, -, -, -, ⟨x, -⟩, ⟨y, -⟩, -⟩ := J.k; exact ⟨Q, B.ot x (by omega)⟩
  have hHi := hHi0
  have wf := J.wf
  have hz := J.sz
  have hV9 := hp.lV
  have hA9 := hs.lA
  have hO9 := hp.lO
  have hN9 := hp.2.1.1
  have eS : ∀ i, (i < 127 ∨ 227 ≤ i) → s i = μ.2 4 i := fun i hi => by rw [es, pF_o (pX_lo hi)]
  show ax_W Ω Γ 60 4000 h 0 [some (.ref X), some (.int (nI k)), none, none] []
  refine ax_hp (show h = sH h a (s, π, .ref (D.1 0), D.1 8) from (show sH h a (s, π, .ref (D.1 0), D.1 8) = h from I).symm) ?_
  refine ax_aload_n (pc := 0) G dX1_usedIn_0 rfl rfl ?_
  refine ax_cV1 (pc := 1) (kb := 58) (nb := 3988) G (cx_thereY hA (π := π) ha hp hs hE hX) lVX1_79_0 dX1_usedIn_1 (hX _) rfl (by decide) (Nat.le_of_ble_eq_true rfl) rfl ?_
  refine ax_pop (pc := 4) G dX1_usedIn_4 rfl ?_
  refine ax_iload_n (pc := 5) G dX1_usedIn_5 rfl rfl ?_
  refine ax_i2l (pc := 6) G dX1_usedIn_6 rfl ?_
  refine ax_lconst (pc := 7) (v := 1) G dX1_usedIn_7 rfl ?_
  refine ax_ldc2 (pc := 8) G q2077 dX1_usedIn_8 ?_
  refine ax_cS1 (pc := 11) (kb := 58) (nb := 3988) G (ct_in hA ((nI k).toInt64) 1 300) lSX1_62 dX1_usedIn_11 rfl (by decide) (Nat.le_of_ble_eq_true rfl) rfl ?_
  rw [cIn_k (A := 1) (B := 300) (a := (nI 1)) (b := (nI 300)) (nI k) (by decide) (by decide)]
  refine ax_cS0 (pc := 14) (kb := 57) (nb := 3982) G (ct_argYb hA (B := (pIn (nI k) (nI 1) (nI 300))) (py_y hka hk (by omega))) lSX1_144 dX1_usedIn_14 rfl (by decide) (Nat.le_of_ble_eq_true rfl) rfl ?_
  refine ax_aload_n (pc := 17) G dX1_usedIn_17 rfl rfl ?_
  refine ax_nV (pc := 18) (kb := 47) (nb := 1982) G (cj_triedS hA J B o1 ht I) lVX1_385_0 dX1_usedIn_18 (hX _) rfl (by decide) (Nat.le_of_ble_eq_true rfl) rfl (fun v9 h1 q9 => ?_)
  obtain ⟨rfl, w1, D1, π1, pol1, F1, B1, p1⟩ := q9
  show ax_W Ω Γ _ _ (h1) _ _ (.ref tr :: _)
  refine ax_astore_n (pc := 21) G dX1_usedIn_21 rfl (Nat.le_of_ble_eq_true rfl) rfl ?_
  refine ax_aload_n (pc := 22) G dX1_usedIn_22 rfl rfl ?_
  refine ax_iload_n (pc := 23) G dX1_usedIn_23 rfl rfl ?_
  refine ax_nV (pc := 24) (kb := 47) (nb := 1982) G (bl_steps hA B1 k (by omega) rfl) lVX1_388_1 dX1_usedIn_24 (B1.is.obj) rfl (by decide) (Nat.le_of_ble_eq_true rfl) rfl (fun v9 h9 q9 => ?_)
  obtain ⟨rfl, π2, rfl⟩ := q9
  have G1 := J.trial F1 B1 p1
  have Ba := B.fr J.wf F1 (by omega) (by omega)
  have hXt := B1.ot G1.x (by rw [G1.1.2.1]; omega)
  have hOa := B1.ot Ba.is.obj (by rw [Ba.o.1 a (by omega) (by omega) (by omega)]; omega)
  have hTa := B1.ot (Ba.is.arr (k := 14) (by decide) (by decide)) (by rw [Ba.o.1 (a + 14) (by omega) (by omega) (by omega)]; omega)
  show ax_W Ω Γ _ _ (sH h1 tr ((pF A (pMany pl V A k (μ.2 4)).1), π2, (.ref (D1.1 0)), (D1.1 8))) _ _ (.int (nI ((pMany pl V A k (μ.2 4)).2)) :: _)
  refine ax_istore_n (pc := 27) G dX1_usedIn_27 rfl (Nat.le_of_ble_eq_true rfl) rfl ?_
  refine ax_aload_n (pc := 28) G dX1_usedIn_28 rfl rfl ?_
  refine ax_getf (pc := 29) (v := .ref (tr + 14)) G flX1_356_1 dX1_usedIn_29 (sH_obj) rfl ?_
  refine ax_iconst (pc := 32) (v := nI 0) G dX1_usedIn_32 ic_0 ?_
  refine sr_ld (pc := 33) (k := 14) (j := 0) (r := 6) G dX1_usedIn_33 (by decide) (by decide) rfl rfl (show 0 < 8 by omega) ?_
  show ax_W Ω Γ _ _ _ _ _ (.int ((pF A (pMany pl V A k (μ.2 4)).1) 6) :: _)
  refine ax_aload_n (pc := 34) G dX1_usedIn_34 rfl rfl ?_
  refine ax_getf (pc := 35) (v := .ref a) G flX1_72_0 dX1_usedIn_35 (hXt _) rfl ?_
  refine ax_getf (pc := 38) (v := .ref (a + 14)) G flX1_356_1 dX1_usedIn_38 (hOa _) rfl ?_
  refine ax_iconst (pc := 41) (v := nI 0) G dX1_usedIn_41 ic_0 ?_
  refine ax_iaload (pc := 42) G 0 dX1_usedIn_42 (hTa _) rfl (by decide) (by decide) ?_
  show ax_W Ω Γ _ _ _ _ _ (.int ((pF A (μ.2 4)) (6 + 0)) :: _)
  refine ax_isub (pc := 43) G dX1_usedIn_43 ?_
  exact ax_iretP (pc := 44) G E rfl (rfl) dX1_usedIn_44 (⟨_, rfl, congrArg (fun x => some (Value.int x)) (by rw [pF_o (pX_lo (by omega)), pF_o (pX_lo (by omega))]), w1, D, π, pol, (F1.trans (xFr.blk F1.2.2.2 B1.o.1 B1.o.2.2.2.2.1)).mono (fun o c => by omega), G1.trial (xFr.blk F1.2.2.2 B1.o.1 B1.o.2.2.2.2.1) B1.many p1, Ba.fr G1.wf (xFr.blk F1.2.2.2 B1.o.1 B1.o.2.2.2.2.1) (by omega) (by omega), (F1.2.1 _ (by have := B.o.2.2.2.2.1; omega)).trans o1⟩)

theorem cj_doneBy {Ω : ax_O} (hA : ax_Amb Ω) {h : ax_H} {w : Nat → Nat} {X bf tr hi sv lb a : Nat} {pl : pR} {N V O A u : Nat} {μ : md_S} {D : cD} {π : Nat → cP} {pol : Nat} (J : xG Ω h w X bf tr hi sv lb (.ref a) a pl N V O μ u) (B : xBk Ω h w a pl (μ.2 4) N V O A D π pol) (o1 : w (a + 1) = 1) (ht : tr ≠ a) (k : Nat) (hk : k ≤ 3)  : ax_MetP Ω yX1_doneBy 20 60 4000 [.ref X, .int (nI k)] h (ax_Nm fun v h' => v = some (.int (pDoneN (pEnd pl (μ.2 4) V A (nI k) (μ.2 4 15)) V)) ∧ ∃ w' D' π' pol', xFr (fun o => 2 ≤ o) h h' w w' ∧ xG Ω h' w' X bf tr hi sv lb (.ref a) a pl N V O μ u ∧ xBk Ω h' w' a pl (μ.2 4) N V O A D' π' pol' ∧ w' (a + 1) = 1) := by
  refine ax_metP q2154 q113 (by decide +kernel) (by decide) hA (Nat.le_of_ble_eq_true rfl) (fun Γ G E => ?_)
  obtain ⟨s, es⟩ : ∃ x, x = pF A (μ.2 4) := ⟨_, rfl⟩
  have ha := B.sz
  have hp := B.wp
  have hs : pWS s A := by rw [es]; exact B.ws.F
  have I : sIs h a (s, π, .ref (D.1 0), D.1 8) := by rw [es]; exact B.is
  have hE : cEn h a pl s N V O A D := by rw [es]; exact B.enF
  have hX := B.ot J.x (by rw [J.1.2.1]; omega)
  obtain ⟨Q0, hHi0⟩ : ∃ Q, ∀ σ, (sH h a σ).1 hi = some (.inr (7, [.ref Q])) := by obtain ⟨Q, -, -, -, -, -, ⟨x, -⟩, ⟨y, -⟩, -⟩ := J.k; exact ⟨Q, B.ot x (by omega)⟩
  have hHi := hHi0
  have wf := J.wf
  have hz := J.sz
  have hV9 := hp.lV
  have hA9 := hs.lA
  have hO9 := hp.lO
  have hN9 := hp.2.1.1
  have eS : ∀ i, (i < 127 ∨ 227 ≤ i) → s i = μ.2 4 i := fun i hi => by rw [es, pF_o (pX_lo hi)]
  show ax_W Ω Γ 60 4000 h 0 [some (.ref X), some (.int (nI k))] []
  refine ax_hp (show h = sH h a (s, π, .ref (D.1 0), D.1 8) from (show sH h a (s, π, .ref (D.1 0), D.1 8) = h from I).symm) ?_
  refine ax_aload_n (pc := 0) G dX1_doneBy_0 rfl rfl ?_
  refine ax_cV1 (pc := 1) (kb := 58) (nb := 3988) G (cx_thereY hA (π := π) ha hp hs hE hX) lVX1_79_0 dX1_doneBy_1 (hX _) rfl (by decide) (Nat.le_of_ble_eq_true rfl) rfl ?_
  refine ax_pop (pc := 4) G dX1_doneBy_4 rfl ?_
  refine ax_iload_n (pc := 5) G dX1_doneBy_5 rfl rfl ?_
  refine ax_i2l (pc := 6) G dX1_doneBy_6 rfl ?_
  refine ax_lconst (pc := 7) (v := 0) G dX1_doneBy_7 rfl ?_
  refine ax_ldc2 (pc := 8) G q2061 dX1_doneBy_8 ?_
  refine ax_cS1 (pc := 11) (kb := 58) (nb := 3988) G (ct_in hA ((nI k).toInt64) 0 3) lSX1_62 dX1_doneBy_11 rfl (by decide) (Nat.le_of_ble_eq_true rfl) rfl ?_
  rw [cIn_k (A := 0) (B := 3) (a := (nI 0)) (b := (nI 3)) (nI k) (by decide) (by decide)]
  refine ax_cS0 (pc := 14) (kb := 57) (nb := 3982) G (ct_argYb hA (B := (pIn (nI k) (nI 0) (nI 3))) (px_y hk (by omega))) lSX1_144 dX1_doneBy_14 rfl (by decide) (Nat.le_of_ble_eq_true rfl) rfl ?_
  refine ax_aload_n (pc := 17) G dX1_doneBy_17 rfl rfl ?_
  refine ax_iload_n (pc := 18) G dX1_doneBy_18 rfl rfl ?_
  refine ax_nV (pc := 19) (kb := 37) (nb := 1882) G (cj_finishedS hA J B o1 ht k (by omega) I) lVX1_398_0 dX1_doneBy_19 (hX _) rfl (by decide) (Nat.le_of_ble_eq_true rfl) rfl (fun v9 h1 q9 => ?_)
  obtain ⟨rfl, w1, D1, π1, pol1, F1, B1, p1⟩ := q9
  show ax_W Ω Γ _ _ (h1) _ _ (.ref tr :: _)
  refine ax_cV1 (pc := 22) (kb := 37) (nb := 1882) G (bl_done hA B1 rfl) lVX1_401_1 dX1_doneBy_22 (B1.is.obj) rfl (by decide) (Nat.le_of_ble_eq_true rfl) rfl ?_
  exact ax_iretP (pc := 25) G E rfl (rfl) dX1_doneBy_25 (⟨_, rfl, rfl, w1, D, π, pol, F1.mono (fun o c => by omega), J.trial F1 B1 p1, B.fr J.wf F1 (by omega) (by omega), (F1.2.1 _ (by have := B.o.2.2.2.2.1; omega)).trans o1⟩)

theorem cj_shortfall {Ω : ax_O} (hA : ax_Amb Ω) {h : ax_H} {w : Nat → Nat} {X bf tr hi sv lb a : Nat} {pl : pR} {N V O A u : Nat} {μ : md_S} {D : cD} {π : Nat → cP} {pol : Nat} (J : xG Ω h w X bf tr hi sv lb (.ref a) a pl N V O μ u) (B : xBk Ω h w a pl (μ.2 4) N V O A D π pol) (o1 : w (a + 1) = 1) (ht : tr ≠ a) (k : Nat) (hk : k < N)  : ax_MetP Ω yX1_shortfall 20 60 4000 [.ref X, .int (nI k)] h (ax_Nm fun v h' => v = some (.int (pLeft (pEnd pl (μ.2 4) V A (μ.2 4 5) (μ.2 4 15)) k)) ∧ ∃ w' D' π' pol', xFr (fun o => 2 ≤ o) h h' w w' ∧ xG Ω h' w' X bf tr hi sv lb (.ref a) a pl N V O μ u ∧ xBk Ω h' w' a pl (μ.2 4) N V O A D' π' pol' ∧ w' (a + 1) = 1) := by
  refine ax_metP q2192 q113 (by decide +kernel) (by decide) hA (Nat.le_of_ble_eq_true rfl) (fun Γ G E => ?_)
  obtain ⟨s, es⟩ : ∃ x, x = pF A (μ.2 4) := ⟨_, rfl⟩
  have ha := B.sz
  have hp := B.wp
  have hs : pWS s A := by rw [es]; exact B.ws.F
  have I : sIs h a (s, π, .ref (D.1 0), D.1 8) := by rw [es]; exact B.is
  have hE : cEn h a pl s N V O A D := by rw [es]; exact B.enF
  have hX := B.ot J.x (by rw [J.1.2.1]; omega)
  obtain ⟨Q0, hHi0⟩ : ∃ Q, ∀ σ, (sH h a σ).1 hi = some (.inr (7, [.ref Q])) := by obtain ⟨Q, -, -, -, -, -, ⟨x, -⟩, ⟨y, -⟩, -⟩ := J.k; exact ⟨Q, B.ot x (by omega)⟩
  have hHi := hHi0
  have wf := J.wf
  have hz := J.sz
  have hV9 := hp.lV
  have hA9 := hs.lA
  have hO9 := hp.lO
  have hN9 := hp.2.1.1
  have eS : ∀ i, (i < 127 ∨ 227 ≤ i) → s i = μ.2 4 i := fun i hi => by rw [es, pF_o (pX_lo hi)]
  show ax_W Ω Γ 60 4000 h 0 [some (.ref X), some (.int (nI k))] []
  refine ax_hp (show h = sH h a (s, π, .ref (D.1 0), D.1 8) from (show sH h a (s, π, .ref (D.1 0), D.1 8) = h from I).symm) ?_
  refine ax_aload_n (pc := 0) G dX1_shortfall_0 rfl rfl ?_
  refine ax_iload_n (pc := 1) G dX1_shortfall_1 rfl rfl ?_
  refine ax_cV1 (pc := 2) (kb := 57) (nb := 3982) G (cx_withProposalY hA (π := π) ha hp hs hE hX k (by omega)) lVX1_138_0 dX1_shortfall_2 (hX _) rfl (by decide) (Nat.le_of_ble_eq_true rfl) rfl ?_
  refine ax_pop (pc := 5) G dX1_shortfall_5 rfl ?_
  refine ax_aload_n (pc := 6) G dX1_shortfall_6 rfl rfl ?_
  refine ax_nV (pc := 7) (kb := 47) (nb := 1982) G (cj_triedS hA J B o1 ht I) lVX1_385_0 dX1_shortfall_7 (hX _) rfl (by decide) (Nat.le_of_ble_eq_true rfl) rfl (fun v9 h1 q9 => ?_)
  obtain ⟨rfl, w1, D1, π1, pol1, F1, B1, p1⟩ := q9
  show ax_W Ω Γ _ _ (h1) _ _ (.ref tr :: _)
  refine ax_nV (pc := 10) (kb := 47) (nb := 1982) G (bl_finish hA B1 rfl) lVX1_395_1 dX1_shortfall_10 (B1.is.obj) rfl (by decide) (Nat.le_of_ble_eq_true rfl) rfl (fun v9 h9 q9 => ?_)
  obtain ⟨rfl, π3, rfl⟩ := q9
  have G1 := J.trial F1 B1 p1
  have Ba := B.fr J.wf F1 (by omega) (by omega)
  show ax_W Ω Γ _ _ (sH h1 tr ((pF A (pMany pl V A 4000 (μ.2 4)).1), π3, (.ref (D1.1 0)), (D1.1 8))) _ _ (.ref tr :: _)
  refine ax_iload_n (pc := 13) G dX1_shortfall_13 rfl rfl ?_
  refine ax_cV1 (pc := 14) (kb := 47) (nb := 1982) G (ct_left hA (π := π3) k (by omega)) lVX1_157_1 dX1_shortfall_14 sH_obj rfl (by decide) (Nat.le_of_ble_eq_true rfl) rfl ?_
  exact ax_iretP (pc := 17) G E rfl (rfl) dX1_shortfall_17 (⟨_, rfl, congrArg (fun x => some (Value.int x)) (by rw [pLeft_F (by omega), pEnd, pEndRow_0]), w1, D, π, pol, (F1.trans (xFr.blk F1.2.2.2 B1.o.1 B1.o.2.2.2.2.1)).mono (fun o c => by omega), G1.trial (xFr.blk F1.2.2.2 B1.o.1 B1.o.2.2.2.2.1) B1.many p1, Ba.fr G1.wf (xFr.blk F1.2.2.2 B1.o.1 B1.o.2.2.2.2.1) (by omega) (by omega), (F1.2.1 _ (by have := B.o.2.2.2.2.1; omega)).trans o1⟩)

theorem cj_usedWith {Ω : ax_O} (hA : ax_Amb Ω) {h : ax_H} {w : Nat → Nat} {X bf tr hi sv lb a : Nat} {pl : pR} {N V O A u : Nat} {μ : md_S} {D : cD} {π : Nat → cP} {pol : Nat} (J : xG Ω h w X bf tr hi sv lb (.ref a) a pl N V O μ u) (B : xBk Ω h w a pl (μ.2 4) N V O A D π pol) (o1 : w (a + 1) = 1) (ht : tr ≠ a) (k : Nat) (hka : 10 ≤ k) (hk : k ≤ 2000)  : ax_MetP Ω yX1_usedWith 20 60 4000 [.ref X, .int (nI k)] h (ax_Nm fun v h' => v = some (.int (pEnd pl (μ.2 4) V A (μ.2 4 5) (nI k) 6)) ∧ ∃ w' D' π' pol', xFr (fun o => 2 ≤ o) h h' w w' ∧ xG Ω h' w' X bf tr hi sv lb (.ref a) a pl N V O μ u ∧ xBk Ω h' w' a pl (μ.2 4) N V O A D' π' pol' ∧ w' (a + 1) = 1) := by
  refine ax_metP q2184 q113 (by decide +kernel) (by decide) hA (Nat.le_of_ble_eq_true rfl) (fun Γ G E => ?_)
  obtain ⟨s, es⟩ : ∃ x, x = pF A (μ.2 4) := ⟨_, rfl⟩
  have ha := B.sz
  have hp := B.wp
  have hs : pWS s A := by rw [es]; exact B.ws.F
  have I : sIs h a (s, π, .ref (D.1 0), D.1 8) := by rw [es]; exact B.is
  have hE : cEn h a pl s N V O A D := by rw [es]; exact B.enF
  have hX := B.ot J.x (by rw [J.1.2.1]; omega)
  obtain ⟨Q0, hHi0⟩ : ∃ Q, ∀ σ, (sH h a σ).1 hi = some (.inr (7, [.ref Q])) := by obtain ⟨Q, -, -, -, -, -, ⟨x, -⟩, ⟨y, -⟩, -⟩ := J.k; exact ⟨Q, B.ot x (by omega)⟩
  have hHi := hHi0
  have wf := J.wf
  have hz := J.sz
  have hV9 := hp.lV
  have hA9 := hs.lA
  have hO9 := hp.lO
  have hN9 := hp.2.1.1
  have eS : ∀ i, (i < 127 ∨ 227 ≤ i) → s i = μ.2 4 i := fun i hi => by rw [es, pF_o (pX_lo hi)]
  show ax_W Ω Γ 60 4000 h 0 [some (.ref X), some (.int (nI k)), none] []
  refine ax_hp (show h = sH h a (s, π, .ref (D.1 0), D.1 8) from (show sH h a (s, π, .ref (D.1 0), D.1 8) = h from I).symm) ?_
  refine ax_aload_n (pc := 0) G dX1_usedWith_0 rfl rfl ?_
  refine ax_cV1 (pc := 1) (kb := 58) (nb := 3988) G (cx_thereY hA (π := π) ha hp hs hE hX) lVX1_79_0 dX1_usedWith_1 (hX _) rfl (by decide) (Nat.le_of_ble_eq_true rfl) rfl ?_
  refine ax_pop (pc := 4) G dX1_usedWith_4 rfl ?_
  refine ax_iload_n (pc := 5) G dX1_usedWith_5 rfl rfl ?_
  refine ax_i2l (pc := 6) G dX1_usedWith_6 rfl ?_
  refine ax_ldc2 (pc := 7) G q1642 dX1_usedWith_7 ?_
  refine ax_ldc2 (pc := 10) G q2185 dX1_usedWith_10 ?_
  refine ax_cS1 (pc := 13) (kb := 58) (nb := 3988) G (ct_in hA ((nI k).toInt64) 10 2000) lSX1_62 dX1_usedWith_13 rfl (by decide) (Nat.le_of_ble_eq_true rfl) rfl ?_
  rw [cIn_k (A := 10) (B := 2000) (a := (nI 10)) (b := (nI 2000)) (nI k) (by decide) (by decide)]
  refine ax_cS0 (pc := 16) (kb := 57) (nb := 3982) G (ct_argYb hA (B := (pIn (nI k) (nI 10) (nI 2000))) (py_y hka hk (by omega))) lSX1_144 dX1_usedWith_16 rfl (by decide) (Nat.le_of_ble_eq_true rfl) rfl ?_
  refine ax_aload_n (pc := 19) G dX1_usedWith_19 rfl rfl ?_
  refine ax_nV (pc := 20) (kb := 47) (nb := 1982) G (cj_triedS hA J B o1 ht I) lVX1_385_0 dX1_usedWith_20 (hX _) rfl (by decide) (Nat.le_of_ble_eq_true rfl) rfl (fun v9 h1 q9 => ?_)
  obtain ⟨rfl, w1, D1, π1, pol1, F1, B1, p1⟩ := q9
  show ax_W Ω Γ _ _ (h1) _ _ (.ref tr :: _)
  refine ax_astore_n (pc := 23) G dX1_usedWith_23 rfl (Nat.le_of_ble_eq_true rfl) rfl ?_
  refine ax_aload_n (pc := 24) G dX1_usedWith_24 rfl rfl ?_
  refine ax_iload_n (pc := 25) G dX1_usedWith_25 rfl rfl ?_
  have ha := B1.sz
  refine ax_hp (show h1 = sH h1 tr (pF A (μ.2 4), π1, .ref (D1.1 0), D1.1 8) from (show sH h1 tr (pF A (μ.2 4), π1, .ref (D1.1 0), D1.1 8) = h1 from B1.is).symm) ?_
  refine sr_put (pc := 26) (k := 20) (r := 15) G flX1_271_1 dX1_usedWith_26 ha (by decide) (by decide) rfl rfl rfl ?_
  show ax_W Ω Γ _ _ (sH h1 tr (upd (pF A (μ.2 4)) 15 (nI k), π1, (.ref (D1.1 0)), (D1.1 8))) _ _ _
  have G1 := J.trial F1 B1 p1
  have Ba := B.fr J.wf F1 (by omega) (by omega)
  have hc9 : vB (nI k) 10 2000 := vB_n (by omega) (by omega) (by omega)
  have B2 := B1.up (s' := (upd (μ.2 4) 15 (nI k))) (π' := π1) (B1.rw.cad hV9 hc9) (pIm.u (by omega)) (pu_ne (by omega))
  refine ax_hp (show sH h1 tr (upd (pF A (μ.2 4)) 15 (nI k), π1, (.ref (D1.1 0)), (D1.1 8)) = sH h1 tr (pF A (upd (μ.2 4) 15 (nI k)), π1, .ref (D1.1 0), D1.1 8) from by rw [pF_up (by omega)]) ?_
  refine ax_aload_n (pc := 29) G dX1_usedWith_29 rfl rfl ?_
  refine ax_nV (pc := 30) (kb := 47) (nb := 1982) G (bl_finish hA B2 rfl) lVX1_395_1 dX1_usedWith_30 (sH_obj) rfl (by decide) (Nat.le_of_ble_eq_true rfl) rfl (fun v9 h9 q9 => ?_)
  obtain ⟨rfl, π3, rfl⟩ := q9
  rw [sH_sH]
  show ax_W Ω Γ _ _ (sH h1 tr ((pF A (pMany pl V A 4000 (upd (μ.2 4) 15 (nI k))).1), π3, (.ref (D1.1 0)), (D1.1 8))) _ _ (.ref tr :: _)
  refine sr_get (pc := 33) (v := .ref (tr + 14)) G flX1_356_1 dX1_usedWith_33 rfl ?_
  refine ax_iconst (pc := 36) (v := nI 0) G dX1_usedWith_36 ic_0 ?_
  refine sr_ld (pc := 37) (k := 14) (j := 0) (r := 6) G dX1_usedWith_37 (by decide) (by decide) rfl rfl (show 0 < 8 by omega) ?_
  show ax_W Ω Γ _ _ _ _ _ (.int ((pF A (pMany pl V A 4000 (upd (μ.2 4) 15 (nI k))).1) 6) :: _)
  exact ax_iretP (pc := 38) G E rfl (rfl) dX1_usedWith_38 (⟨_, rfl, congrArg (fun x => some (Value.int x)) (by rw [pF_o (pX_lo (by omega)), pEnd, pEndRow_c]), w1, D, π, pol, (F1.trans (xFr.blk F1.2.2.2 B1.o.1 B1.o.2.2.2.2.1)).mono (fun o c => by omega), G1.trial (xFr.blk F1.2.2.2 B1.o.1 B1.o.2.2.2.2.1) (by have q := B2.many (n := 4000) (π' := π3); rw [sH_sH] at q; exact q) p1, Ba.fr G1.wf (xFr.blk F1.2.2.2 B1.o.1 B1.o.2.2.2.2.1) (by omega) (by omega), (F1.2.1 _ (by have := B.o.2.2.2.2.1; omega)).trans o1⟩)

theorem cj_bestPolicy {Ω : ax_O} (hA : ax_Amb Ω) {h : ax_H} {w : Nat → Nat} {X bf tr hi sv lb a : Nat} {pl : pR} {N V O A u : Nat} {μ : md_S} {D : cD} {π : Nat → cP} {pol : Nat} (J : xG Ω h w X bf tr hi sv lb (.ref a) a pl N V O μ u) (B : xBk Ω h w a pl (μ.2 4) N V O A D π pol) (o1 : w (a + 1) = 1) (ht : tr ≠ a)  : ax_MetP Ω yX1_bestPolicy 20 100 9000 [.ref X] h (ax_Nm fun v h' => v = some (.int (pBest (fun n => pEnd pl (μ.2 4) V A (nI n) (μ.2 4 15) 6) 4).1) ∧ ∃ w' D' π' pol', xFr (fun o => 2 ≤ o) h h' w w' ∧ xG Ω h' w' X bf tr hi sv lb (.ref a) a pl N V O μ u ∧ xBk Ω h' w' a pl (μ.2 4) N V O A D' π' pol' ∧ w' (a + 1) = 1) := by
  refine ax_metP q2177 q113 (by decide +kernel) (by decide) hA (Nat.le_of_ble_eq_true rfl) (fun Γ G E => ?_)
  obtain ⟨s, es⟩ : ∃ x, x = pF A (μ.2 4) := ⟨_, rfl⟩
  have ha := B.sz
  have hp := B.wp
  have hs : pWS s A := by rw [es]; exact B.ws.F
  have I : sIs h a (s, π, .ref (D.1 0), D.1 8) := by rw [es]; exact B.is
  have hE : cEn h a pl s N V O A D := by rw [es]; exact B.enF
  have hX := B.ot J.x (by rw [J.1.2.1]; omega)
  obtain ⟨Q0, hHi0⟩ : ∃ Q, ∀ σ, (sH h a σ).1 hi = some (.inr (7, [.ref Q])) := by obtain ⟨Q, -, -, -, -, -, ⟨x, -⟩, ⟨y, -⟩, -⟩ := J.k; exact ⟨Q, B.ot x (by omega)⟩
  have hHi := hHi0
  have wf := J.wf
  have hz := J.sz
  have hV9 := hp.lV
  have hA9 := hs.lA
  have hO9 := hp.lO
  have hN9 := hp.2.1.1
  have eS : ∀ i, (i < 127 ∨ 227 ≤ i) → s i = μ.2 4 i := fun i hi => by rw [es, pF_o (pX_lo hi)]
  have L0 : ∀ (n i : Nat) (hh : ax_H) (ww : Nat → Nat), i + n = 4 → xFr (fun o => 2 ≤ o) h hh w ww → xG Ω hh ww X bf tr hi sv lb (.ref a) a pl N V O μ u → xBk Ω hh ww a pl (μ.2 4) N V O A D π pol → ww (a + 1) = 1 → ax_W Ω Γ (n * 20 + 2) (n * 2100 + 20) hh 11 [some (.ref X), some (.int ((pBest (fun n => pEnd pl (μ.2 4) V A (nI n) (μ.2 4 15) 6) i).1)), some (.int ((pBest (fun n => pEnd pl (μ.2 4) V A (nI n) (μ.2 4 15) 6) i).2)), some (.int (nI i)), none] [] := by
    intro n
    induction n with
    | zero =>
      intro i hh ww hi F8 J8 B8 o8
      have hi9 : i = 4 := by omega
      subst hi9
      refine ax_iload_n (pc := 11) G dX1_bestPolicy_11 rfl rfl ?_
      refine ax_iconst (pc := 12) (v := nI 4) G dX1_bestPolicy_12 ic_4 ?_
      refine ax_icmp_ge (pc := 13) (tgt := 48) G dX1_bestPolicy_13 rfl (fun _ => ?_) (fun c9 => absurd (by decide) c9)
      refine ax_iload_n (pc := 48) G dX1_bestPolicy_48 rfl rfl ?_
      exact ax_iretP (pc := 49) G E rfl (rfl) dX1_bestPolicy_49 (⟨_, rfl, rfl, ww, D, π, pol, F8, J8, B8, o8⟩)
    | succ n ih =>
      intro i hh ww hi F8 J8 B8 o8
      refine ax_more (kb := (n * 20 + 2) + 20) (nb := (n * 2100 + 20) + 2100) (by omega) (by omega) ?_
      refine ax_iload_n (pc := 11) G dX1_bestPolicy_11 rfl rfl ?_
      refine ax_iconst (pc := 12) (v := nI 4) G dX1_bestPolicy_12 ic_4 ?_
      refine ax_icmp_geN (pc := 13) (tgt := 48) G dX1_bestPolicy_13 rfl (by omega) (by omega) (fun c13 => ?_) (fun c13 => ?_)
      · omega
      · refine ax_aload_n (pc := 16) G dX1_bestPolicy_16 rfl rfl ?_
        refine ax_iload_n (pc := 17) G dX1_bestPolicy_17 rfl rfl ?_
        refine ax_nV (pc := 18) (kb := (n * 20 + 2)) (nb := (n * 2100 + 20)) G (cj_finishedS hA J8 B8 o8 ht i (by omega) rfl) lVX1_398_0 dX1_bestPolicy_18 (J8.x) rfl (by decide) (Nat.le_of_ble_eq_true rfl) rfl (fun v9 h1 q9 => ?_)
        obtain ⟨rfl, w1, D1, π1, pol1, F1, B1, p1⟩ := q9
        show ax_W Ω Γ _ _ (h1) _ _ (.ref tr :: _)
        refine ax_getf (pc := 21) (v := .ref (tr + 14)) G flX1_356_1 dX1_bestPolicy_21 (B1.is.obj) rfl ?_
        refine ax_iconst (pc := 24) (v := nI 0) G dX1_bestPolicy_24 ic_0 ?_
        refine ax_iaload (pc := 25) G 0 dX1_bestPolicy_25 (B1.is.arr (k := 14) (by decide) (by decide)) rfl (by decide) (by decide) ?_
        show ax_W Ω Γ _ _ _ _ _ (.int ((pF A (pEnd pl (μ.2 4) V A (nI i) (μ.2 4 15))) (6 + 0)) :: _)
        refine ax_top (show Value.int ((pF A (pEnd pl (μ.2 4) V A (nI i) (μ.2 4 15))) (6 + 0)) = .int ((fun n => pEnd pl (μ.2 4) V A (nI n) (μ.2 4 15) 6) i) from congrArg Value.int (pF_o (pX_lo (by omega)))) ?_
        refine ax_istore (pc := 26) G dX1_bestPolicy_26 (Nat.le_of_ble_eq_true rfl) rfl ?_
        refine ax_iload (pc := 28) G dX1_bestPolicy_28 rfl ?_
        refine ax_iload_n (pc := 30) G dX1_bestPolicy_30 rfl rfl ?_
        refine ax_icmp_gt (pc := 31) (tgt := 37) G dX1_bestPolicy_31 rfl (fun c31 => ?_) (fun c31 => ?_)
        · refine ax_iload_n (pc := 37) G dX1_bestPolicy_37 rfl rfl ?_
          refine ax_istore_n (pc := 38) G dX1_bestPolicy_38 rfl (Nat.le_of_ble_eq_true rfl) rfl ?_
          refine ax_iload (pc := 39) G dX1_bestPolicy_39 rfl ?_
          refine ax_istore_n (pc := 41) G dX1_bestPolicy_41 rfl (Nat.le_of_ble_eq_true rfl) rfl ?_
          refine ax_iincN (pc := 42) (n := 1) G dX1_bestPolicy_42 rfl rfl ic_1 ?_
          refine ax_goto (pc := 45) (tgt := 11) G dX1_bestPolicy_45 rfl ?_
          have q := ih (i + 1) h1 w1 (by omega) (F8.trans (F1.mono fun o c => by omega)) (J8.trial F1 B1 p1) (B8.fr J8.wf F1 (by omega) (by omega)) ((F1.2.1 _ (by have := B8.o.2.2.2.2.1; omega)).trans o8)
          rw [show pBest (fun n => pEnd pl (μ.2 4) V A (nI n) (μ.2 4 15) 6) (i + 1) = (nI i, (fun n => pEnd pl (μ.2 4) V A (nI n) (μ.2 4 15) 6) i) from by rw [pBest, if_neg (Int32.not_le.mpr c31)]] at q
          exact ax_last (xs := [some (.ref X), some (.int (nI i)), some (.int ((fun n => pEnd pl (μ.2 4) V A (nI n) (μ.2 4 15) 6) i)), some (.int (nI (i + 1)))]) q
        · refine ax_goto (pc := 34) (tgt := 42) G dX1_bestPolicy_34 rfl ?_
          refine ax_iincN (pc := 42) (n := 1) G dX1_bestPolicy_42 rfl rfl ic_1 ?_
          refine ax_goto (pc := 45) (tgt := 11) G dX1_bestPolicy_45 rfl ?_
          have q := ih (i + 1) h1 w1 (by omega) (F8.trans (F1.mono fun o c => by omega)) (J8.trial F1 B1 p1) (B8.fr J8.wf F1 (by omega) (by omega)) ((F1.2.1 _ (by have := B8.o.2.2.2.2.1; omega)).trans o8)
          rw [show pBest (fun n => pEnd pl (μ.2 4) V A (nI n) (μ.2 4 15) 6) (i + 1) = pBest (fun n => pEnd pl (μ.2 4) V A (nI n) (μ.2 4 15) 6) i from by rw [pBest, if_pos (Int32.not_lt.mp c31)]] at q
          exact ax_last (xs := [some (.ref X), some (.int ((pBest (fun n => pEnd pl (μ.2 4) V A (nI n) (μ.2 4 15) 6) i).1)), some (.int ((pBest (fun n => pEnd pl (μ.2 4) V A (nI n) (μ.2 4 15) 6) i).2)), some (.int (nI (i + 1)))]) q
  show ax_W Ω Γ 100 9000 h 0 [some (.ref X), none, none, none, none] []
  refine ax_hp (show h = sH h a (s, π, .ref (D.1 0), D.1 8) from (show sH h a (s, π, .ref (D.1 0), D.1 8) = h from I).symm) ?_
  refine ax_aload_n (pc := 0) G dX1_bestPolicy_0 rfl rfl ?_
  refine ax_cV1 (pc := 1) (kb := 98) (nb := 8988) G (cx_thereY hA (π := π) ha hp hs hE hX) lVX1_79_0 dX1_bestPolicy_1 (hX _) rfl (by decide) (Nat.le_of_ble_eq_true rfl) rfl ?_
  refine ax_pop (pc := 4) G dX1_bestPolicy_4 rfl ?_
  refine ax_iconst (pc := 5) (v := nI 0) G dX1_bestPolicy_5 ic_0 ?_
  refine ax_istore_n (pc := 6) G dX1_bestPolicy_6 rfl (Nat.le_of_ble_eq_true rfl) rfl ?_
  refine ax_iconst (pc := 7) (v := (-1)) G dX1_bestPolicy_7 (by decide) ?_
  refine ax_istore_n (pc := 8) G dX1_bestPolicy_8 rfl (Nat.le_of_ble_eq_true rfl) rfl ?_
  refine ax_iconst (pc := 9) (v := nI 0) G dX1_bestPolicy_9 ic_0 ?_
  refine ax_istore_n (pc := 10) G dX1_bestPolicy_10 rfl (Nat.le_of_ble_eq_true rfl) rfl ?_
  rw [show sH h a (s, π, .ref (D.1 0), D.1 8) = h from I]
  exact ax_more (by omega) (by omega) (L0 4 0 h w (by omega) (xFr.rf wf) J B o1)

theorem cq_usedIn_N {Ω : ax_O} (hA : ax_Amb Ω) {h : ax_H} {X bf tr hi sv lb : Nat} {x1 x2 x3 : Int32} (hX : h.1 X = some (.inr (0, [.ref bf, .int x1, .int x2, .int x3, .null, .ref tr, .ref hi, .ref sv, .ref lb]))) (k : Int32)  : ax_Met Ω yX1_usedIn 20 4 24 [.ref X, .int k] h (.inr h.2) (ax_add h (.inr (21, []))) := by
  refine ax_met q2076 q113 (by decide +kernel) (by decide) hA (Nat.le_of_ble_eq_true rfl) (fun Γ G E => ?_)
  show ax_W Ω Γ 4 24 h 0 [some (.ref X), some (.int k), none, none] []
  refine ax_aload_n (pc := 0) G dX1_usedIn_0 rfl rfl ?_
  refine ax_callV (pc := 1) (kb := 2) (nb := 12) G (cx_thereN hA hX) lVX1_79_0 dX1_usedIn_1 (hX) rfl (by decide) (Nat.le_of_ble_eq_true rfl) rfl (fun _ e9 => by cases e9) (fun q9 e9 => ?_)
  cases e9
  exact ax_out G E (fun x hx => by cases hx)

theorem cq_usedIn_B {Ω : ax_O} (hA : ax_Amb Ω) {h : ax_H} {a : Nat} {pl s : pR} {π : Nat → cP} {N V O A : Nat} {D : cD} (ha : Ω.2.1.heap.size ≤ a) (hp : pWP pl N V O) (hs : pWS s A) (hE : cEn h a pl s N V O A D) {X bf tr hi sv lb : Nat} {x1 x2 x3 : Int32} (hX : ∀ σ, (sH h a σ).1 X = some (.inr (0, [.ref bf, .int x1, .int x2, .int x3, .ref a, .ref tr, .ref hi, .ref sv, .ref lb]))) (k : Int32) (hb : pIn k (nI 1) (nI 300) = false)  : ax_Met Ω yX1_usedIn 20 4 24 [.ref X, .int k] (sH h a (s, π, (.ref (D.1 0)), (D.1 8))) (.inr (sH h a (s, π, (.ref (D.1 0)), (D.1 8))).2) (ax_add (sH h a (s, π, (.ref (D.1 0)), (D.1 8))) (.inr (20, []))) := by
  refine ax_met q2076 q113 (by decide +kernel) (by decide) hA (Nat.le_of_ble_eq_true rfl) (fun Γ G E => ?_)
  have hV9 := hp.lV
  have hA9 := hs.lA
  have hO9 := hp.lO
  show ax_W Ω Γ 4 24 (sH h a (s, π, (.ref (D.1 0)), (D.1 8))) 0 [some (.ref X), some (.int k), none, none] []
  refine ax_aload_n (pc := 0) G dX1_usedIn_0 rfl rfl ?_
  refine ax_cV1 (pc := 1) (kb := 2) (nb := 12) G (cx_thereY hA (π := π) ha hp hs hE hX) lVX1_79_0 dX1_usedIn_1 (hX _) rfl (by decide) (Nat.le_of_ble_eq_true rfl) rfl ?_
  refine ax_pop (pc := 4) G dX1_usedIn_4 rfl ?_
  refine ax_iload_n (pc := 5) G dX1_usedIn_5 rfl rfl ?_
  refine ax_i2l (pc := 6) G dX1_usedIn_6 rfl ?_
  refine ax_lconst (pc := 7) (v := 1) G dX1_usedIn_7 rfl ?_
  refine ax_ldc2 (pc := 8) G q2077 dX1_usedIn_8 ?_
  refine ax_cS1 (pc := 11) (kb := 2) (nb := 12) G (ct_in hA k.toInt64 1 300) lSX1_62 dX1_usedIn_11 rfl (by decide) (Nat.le_of_ble_eq_true rfl) rfl ?_
  rw [cIn_k (A := 1) (B := 300) (a := (nI 1)) (b := (nI 300)) k (by decide) (by decide)]
  refine ax_callS (pc := 14) (kb := 1) (nb := 6) G (ct_argNb hA (B := (pIn k (nI 1) (nI 300))) (hb)) lSX1_144 dX1_usedIn_14 rfl (by decide) (Nat.le_of_ble_eq_true rfl) rfl (fun _ e9 => by cases e9) (fun q9 e9 => ?_)
  cases e9
  exact ax_out G E (fun x hx => by cases hx)

theorem cq_doneBy_N {Ω : ax_O} (hA : ax_Amb Ω) {h : ax_H} {X bf tr hi sv lb : Nat} {x1 x2 x3 : Int32} (hX : h.1 X = some (.inr (0, [.ref bf, .int x1, .int x2, .int x3, .null, .ref tr, .ref hi, .ref sv, .ref lb]))) (k : Int32)  : ax_Met Ω yX1_doneBy 20 4 24 [.ref X, .int k] h (.inr h.2) (ax_add h (.inr (21, []))) := by
  refine ax_met q2154 q113 (by decide +kernel) (by decide) hA (Nat.le_of_ble_eq_true rfl) (fun Γ G E => ?_)
  show ax_W Ω Γ 4 24 h 0 [some (.ref X), some (.int k)] []
  refine ax_aload_n (pc := 0) G dX1_doneBy_0 rfl rfl ?_
  refine ax_callV (pc := 1) (kb := 2) (nb := 12) G (cx_thereN hA hX) lVX1_79_0 dX1_doneBy_1 (hX) rfl (by decide) (Nat.le_of_ble_eq_true rfl) rfl (fun _ e9 => by cases e9) (fun q9 e9 => ?_)
  cases e9
  exact ax_out G E (fun x hx => by cases hx)

theorem cq_doneBy_B {Ω : ax_O} (hA : ax_Amb Ω) {h : ax_H} {a : Nat} {pl s : pR} {π : Nat → cP} {N V O A : Nat} {D : cD} (ha : Ω.2.1.heap.size ≤ a) (hp : pWP pl N V O) (hs : pWS s A) (hE : cEn h a pl s N V O A D) {X bf tr hi sv lb : Nat} {x1 x2 x3 : Int32} (hX : ∀ σ, (sH h a σ).1 X = some (.inr (0, [.ref bf, .int x1, .int x2, .int x3, .ref a, .ref tr, .ref hi, .ref sv, .ref lb]))) (k : Int32) (hb : pIn k (nI 0) (nI 3) = false)  : ax_Met Ω yX1_doneBy 20 4 24 [.ref X, .int k] (sH h a (s, π, (.ref (D.1 0)), (D.1 8))) (.inr (sH h a (s, π, (.ref (D.1 0)), (D.1 8))).2) (ax_add (sH h a (s, π, (.ref (D.1 0)), (D.1 8))) (.inr (20, []))) := by
  refine ax_met q2154 q113 (by decide +kernel) (by decide) hA (Nat.le_of_ble_eq_true rfl) (fun Γ G E => ?_)
  have hV9 := hp.lV
  have hA9 := hs.lA
  have hO9 := hp.lO
  show ax_W Ω Γ 4 24 (sH h a (s, π, (.ref (D.1 0)), (D.1 8))) 0 [some (.ref X), some (.int k)] []
  refine ax_aload_n (pc := 0) G dX1_doneBy_0 rfl rfl ?_
  refine ax_cV1 (pc := 1) (kb := 2) (nb := 12) G (cx_thereY hA (π := π) ha hp hs hE hX) lVX1_79_0 dX1_doneBy_1 (hX _) rfl (by decide) (Nat.le_of_ble_eq_true rfl) rfl ?_
  refine ax_pop (pc := 4) G dX1_doneBy_4 rfl ?_
  refine ax_iload_n (pc := 5) G dX1_doneBy_5 rfl rfl ?_
  refine ax_i2l (pc := 6) G dX1_doneBy_6 rfl ?_
  refine ax_lconst (pc := 7) (v := 0) G dX1_doneBy_7 rfl ?_
  refine ax_ldc2 (pc := 8) G q2061 dX1_doneBy_8 ?_
  refine ax_cS1 (pc := 11) (kb := 2) (nb := 12) G (ct_in hA k.toInt64 0 3) lSX1_62 dX1_doneBy_11 rfl (by decide) (Nat.le_of_ble_eq_true rfl) rfl ?_
  rw [cIn_k (A := 0) (B := 3) (a := (nI 0)) (b := (nI 3)) k (by decide) (by decide)]
  refine ax_callS (pc := 14) (kb := 1) (nb := 6) G (ct_argNb hA (B := (pIn k (nI 0) (nI 3))) (hb)) lSX1_144 dX1_doneBy_14 rfl (by decide) (Nat.le_of_ble_eq_true rfl) rfl (fun _ e9 => by cases e9) (fun q9 e9 => ?_)
  cases e9
  exact ax_out G E (fun x hx => by cases hx)

theorem cq_bestPolicy_N {Ω : ax_O} (hA : ax_Amb Ω) {h : ax_H} {X bf tr hi sv lb : Nat} {x1 x2 x3 : Int32} (hX : h.1 X = some (.inr (0, [.ref bf, .int x1, .int x2, .int x3, .null, .ref tr, .ref hi, .ref sv, .ref lb])))  : ax_Met Ω yX1_bestPolicy 20 4 24 [.ref X] h (.inr h.2) (ax_add h (.inr (21, []))) := by
  refine ax_met q2177 q113 (by decide +kernel) (by decide) hA (Nat.le_of_ble_eq_true rfl) (fun Γ G E => ?_)
  show ax_W Ω Γ 4 24 h 0 [some (.ref X), none, none, none, none] []
  refine ax_aload_n (pc := 0) G dX1_bestPolicy_0 rfl rfl ?_
  refine ax_callV (pc := 1) (kb := 2) (nb := 12) G (cx_thereN hA hX) lVX1_79_0 dX1_bestPolicy_1 (hX) rfl (by decide) (Nat.le_of_ble_eq_true rfl) rfl (fun _ e9 => by cases e9) (fun q9 e9 => ?_)
  cases e9
  exact ax_out G E (fun x hx => by cases hx)

theorem cq_usedWith_N {Ω : ax_O} (hA : ax_Amb Ω) {h : ax_H} {X bf tr hi sv lb : Nat} {x1 x2 x3 : Int32} (hX : h.1 X = some (.inr (0, [.ref bf, .int x1, .int x2, .int x3, .null, .ref tr, .ref hi, .ref sv, .ref lb]))) (k : Int32)  : ax_Met Ω yX1_usedWith 20 4 24 [.ref X, .int k] h (.inr h.2) (ax_add h (.inr (21, []))) := by
  refine ax_met q2184 q113 (by decide +kernel) (by decide) hA (Nat.le_of_ble_eq_true rfl) (fun Γ G E => ?_)
  show ax_W Ω Γ 4 24 h 0 [some (.ref X), some (.int k), none] []
  refine ax_aload_n (pc := 0) G dX1_usedWith_0 rfl rfl ?_
  refine ax_callV (pc := 1) (kb := 2) (nb := 12) G (cx_thereN hA hX) lVX1_79_0 dX1_usedWith_1 (hX) rfl (by decide) (Nat.le_of_ble_eq_true rfl) rfl (fun _ e9 => by cases e9) (fun q9 e9 => ?_)
  cases e9
  exact ax_out G E (fun x hx => by cases hx)

theorem cq_usedWith_B {Ω : ax_O} (hA : ax_Amb Ω) {h : ax_H} {a : Nat} {pl s : pR} {π : Nat → cP} {N V O A : Nat} {D : cD} (ha : Ω.2.1.heap.size ≤ a) (hp : pWP pl N V O) (hs : pWS s A) (hE : cEn h a pl s N V O A D) {X bf tr hi sv lb : Nat} {x1 x2 x3 : Int32} (hX : ∀ σ, (sH h a σ).1 X = some (.inr (0, [.ref bf, .int x1, .int x2, .int x3, .ref a, .ref tr, .ref hi, .ref sv, .ref lb]))) (k : Int32) (hb : pIn k (nI 10) (nI 2000) = false)  : ax_Met Ω yX1_usedWith 20 4 24 [.ref X, .int k] (sH h a (s, π, (.ref (D.1 0)), (D.1 8))) (.inr (sH h a (s, π, (.ref (D.1 0)), (D.1 8))).2) (ax_add (sH h a (s, π, (.ref (D.1 0)), (D.1 8))) (.inr (20, []))) := by
  refine ax_met q2184 q113 (by decide +kernel) (by decide) hA (Nat.le_of_ble_eq_true rfl) (fun Γ G E => ?_)
  have hV9 := hp.lV
  have hA9 := hs.lA
  have hO9 := hp.lO
  show ax_W Ω Γ 4 24 (sH h a (s, π, (.ref (D.1 0)), (D.1 8))) 0 [some (.ref X), some (.int k), none] []
  refine ax_aload_n (pc := 0) G dX1_usedWith_0 rfl rfl ?_
  refine ax_cV1 (pc := 1) (kb := 2) (nb := 12) G (cx_thereY hA (π := π) ha hp hs hE hX) lVX1_79_0 dX1_usedWith_1 (hX _) rfl (by decide) (Nat.le_of_ble_eq_true rfl) rfl ?_
  refine ax_pop (pc := 4) G dX1_usedWith_4 rfl ?_
  refine ax_iload_n (pc := 5) G dX1_usedWith_5 rfl rfl ?_
  refine ax_i2l (pc := 6) G dX1_usedWith_6 rfl ?_
  refine ax_ldc2 (pc := 7) G q1642 dX1_usedWith_7 ?_
  refine ax_ldc2 (pc := 10) G q2185 dX1_usedWith_10 ?_
  refine ax_cS1 (pc := 13) (kb := 2) (nb := 12) G (ct_in hA k.toInt64 10 2000) lSX1_62 dX1_usedWith_13 rfl (by decide) (Nat.le_of_ble_eq_true rfl) rfl ?_
  rw [cIn_k (A := 10) (B := 2000) (a := (nI 10)) (b := (nI 2000)) k (by decide) (by decide)]
  refine ax_callS (pc := 16) (kb := 1) (nb := 6) G (ct_argNb hA (B := (pIn k (nI 10) (nI 2000))) (hb)) lSX1_144 dX1_usedWith_16 rfl (by decide) (Nat.le_of_ble_eq_true rfl) rfl (fun _ e9 => by cases e9) (fun q9 e9 => ?_)
  cases e9
  exact ax_out G E (fun x hx => by cases hx)

theorem cq_shortfall_N {Ω : ax_O} (hA : ax_Amb Ω) {h : ax_H} {X bf tr hi sv lb : Nat} {x1 x2 x3 : Int32} (hX : h.1 X = some (.inr (0, [.ref bf, .int x1, .int x2, .int x3, .null, .ref tr, .ref hi, .ref sv, .ref lb]))) (k : Int32)  : ax_Met Ω yX1_shortfall 20 4 24 [.ref X, .int k] h (.inr h.2) (ax_add h (.inr (21, []))) := by
  refine ax_met q2192 q113 (by decide +kernel) (by decide) hA (Nat.le_of_ble_eq_true rfl) (fun Γ G E => ?_)
  show ax_W Ω Γ 4 24 h 0 [some (.ref X), some (.int k)] []
  refine ax_aload_n (pc := 0) G dX1_shortfall_0 rfl rfl ?_
  refine ax_iload_n (pc := 1) G dX1_shortfall_1 rfl rfl ?_
  refine ax_callV (pc := 2) (kb := 1) (nb := 6) G (cx_withProposalN hA hX k) lVX1_138_0 dX1_shortfall_2 (hX) rfl (by decide) (Nat.le_of_ble_eq_true rfl) rfl (fun _ e9 => by cases e9) (fun q9 e9 => ?_)
  cases e9
  exact ax_out G E (fun x hx => by cases hx)

theorem cq_shortfall_B {Ω : ax_O} (hA : ax_Amb Ω) {h : ax_H} {a : Nat} {pl s : pR} {π : Nat → cP} {N V O A : Nat} {D : cD} (ha : Ω.2.1.heap.size ≤ a) (hp : pWP pl N V O) (hs : pWS s A) (hE : cEn h a pl s N V O A D) {X bf tr hi sv lb : Nat} {x1 x2 x3 : Int32} (hX : ∀ σ, (sH h a σ).1 X = some (.inr (0, [.ref bf, .int x1, .int x2, .int x3, .ref a, .ref tr, .ref hi, .ref sv, .ref lb]))) (k : Int32) (hb : pIn k (nI 0) (nI N - nI 1) = false)  : ax_Met Ω yX1_shortfall 20 4 24 [.ref X, .int k] (sH h a (s, π, (.ref (D.1 0)), (D.1 8))) (.inr (sH h a (s, π, (.ref (D.1 0)), (D.1 8))).2) (ax_add (sH h a (s, π, (.ref (D.1 0)), (D.1 8))) (.inr (22, []))) := by
  refine ax_met q2192 q113 (by decide +kernel) (by decide) hA (Nat.le_of_ble_eq_true rfl) (fun Γ G E => ?_)
  have hV9 := hp.lV
  have hA9 := hs.lA
  have hO9 := hp.lO
  have hN9 := hp.2.1.1
  show ax_W Ω Γ 4 24 (sH h a (s, π, (.ref (D.1 0)), (D.1 8))) 0 [some (.ref X), some (.int k)] []
  refine ax_aload_n (pc := 0) G dX1_shortfall_0 rfl rfl ?_
  refine ax_iload_n (pc := 1) G dX1_shortfall_1 rfl rfl ?_
  refine ax_callV (pc := 2) (kb := 1) (nb := 6) G (cx_withProposalB hA (π := π) ha hp hs hE hX k hb) lVX1_138_0 dX1_shortfall_2 (hX _) rfl (by decide) (Nat.le_of_ble_eq_true rfl) rfl (fun _ e9 => by cases e9) (fun q9 e9 => ?_)
  cases e9
  exact ax_out G E (fun x hx => by cases hx)

