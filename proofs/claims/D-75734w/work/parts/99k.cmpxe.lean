/-! TelescopeQueue: what is changed -/
theorem pF_add {A i : Nat} {s : pR} {v : Int32} (hi : i < 127 ∨ 227 ≤ i) : pAdd (pF A s) i v = pF A (pAdd s i v) := by
  unfold pAdd
  rw [pF_up hi, pF_o (pX_lo hi)]
theorem cMd_e {pl s : pR} : pAdd (cMd s (pl 4)) 0 (pl 4) = pDumps pl s := by
  funext i
  unfold pDumps cMd
  by_cases c0 : i = 0
  · subst c0; simp (disch := omega) only [↓pads_ne, ↓pad_ne, ↓pu_ne, ↓pad_eq]
  · by_cases c3 : i = 3
    · subst c3; simp (disch := omega) only [↓pads_ne, ↓pad_ne, ↓pu_ne, ↓pu_eqq]; rfl
    · by_cases c9 : i = 9
      · subst c9; simp (disch := omega) only [↓pads_ne, ↓pads_eq, ↓pad_ne, ↓pu_ne, ↓pad_eq]
      · by_cases c12 : i = 12
        · subst c12; simp (disch := omega) only [↓pads_ne, ↓pads_eq, ↓pad_ne, ↓pu_ne, ↓pad_eq]; rfl
        · simp (disch := omega) only [↓pads_ne, ↓pad_ne, ↓pu_ne]
theorem pF_dump {A : Nat} {pl s : pR} : pDumps pl (pF A s) = pF A (pDumps pl s) := by
  unfold pDumps pAdds
  rw [pF_up (by omega), pF_add (by omega), pF_add (by omega), pF_add (by omega)]
theorem pF_cal {A : Nat} {pl s : pR} : pCalibrates pl (pF A s) = pF A (pCalibrates pl s) := by
  unfold pCalibrates pAdds
  rw [pF_add (by omega), pF_o (pX_lo (by omega)), pF_up (by omega), pF_add (by omega), pF_add (by omega)]
theorem pLeft_F {A q : Nat} {s : pR} (h : q < 6) : pLeft (pF A s) q = pLeft s q := by
  unfold pLeft
  rw [pF_o (pX_lo (by omega)), pF_o (pX_lo (by omega)), pF_o (pX_lo (by omega))]
theorem xG.blk {Ω : ax_O} {h : ax_H} {w : Nat → Nat} {X bf tr hi sv lb a e : Nat} {pl : pR} {N V O u : Nat} {μ : md_S} (G : xG Ω h w X bf tr hi sv lb (.ref a) a pl N V O μ u) (o : xBo Ω h w a e) (ht : tr ≠ a) {σ : cS} : xG Ω (sH h a σ) w X bf tr hi sv lb (.ref a) a pl N V O μ u :=
  G.fr (xFr.blk G.wf o.1 o.2.2.2.2.1) (by omega) (by omega) (fun b hb => by omega) ht
theorem xFr.two {Ω : ax_O} {h h1 : ax_H} {w w1 : Nat → Nat} {a e : Nat} (F : xFr (fun o => o = 2) h h1 w w1) (o : xBo Ω h1 w1 a e) {σ : cS} : xFr (fun o => 2 ≤ o) h (sH h1 a σ) w w1 :=
  (F.mono fun o c => by omega).trans ((xFr.blk F.2.2.2 o.1 o.2.2.2.2.1).mono fun o c => by omega)
theorem py_y {k lo n : Nat} (h0 : lo ≤ k) (h : k ≤ n) (hn : n ≤ 100000) : pIn (nI k) (nI lo) (nI n) = true := by
  unfold pIn
  rw [decide_eq_true (show nI lo ≤ nI k from nI_le h0 (by omega)), decide_eq_true (show nI k ≤ nI n from nI_le h (by omega))]; rfl
theorem cj_run {Ω : ax_O} (hA : ax_Amb Ω) {h : ax_H} {w : Nat → Nat} {X bf tr hi sv lb a : Nat} {pl : pR} {N V O A u : Nat} {μ : md_S} {D : cD} {π : Nat → cP} {pol : Nat} (J : xG Ω h w X bf tr hi sv lb (.ref a) a pl N V O μ u) (B : xBk Ω h w a pl (μ.2 4) N V O A D π pol) (o1 : w (a + 1) = 1) (ht : tr ≠ a) (k : Nat) (hka : 1 ≤ k) (hk : k ≤ 300)  : ax_MetP Ω yX1_run 20 60 4000 [.ref X, .int (nI k)] h (ax_Nm fun v h' => v = some (.int (nI (pMany pl V A k (μ.2 4)).2)) ∧ ∃ w' D' π' pol', xFr (fun o => 2 ≤ o) h h' w w' ∧ xG Ω h' w' X bf tr hi sv lb (.ref a) a pl N V O (mKeep μ u) (pU u) ∧ xBk Ω h' w' a pl ((pMany pl V A k (μ.2 4)).1) N V O A D' π' pol' ∧ w' (a + 1) = 1) := by
  refine ax_metP q2384 q113 (by decide +kernel) (by decide) hA (Nat.le_of_ble_eq_true rfl) (fun Γ G E => ?_)
  obtain ⟨s, es⟩ : ∃ x, x = pF A (μ.2 4) := ⟨_, rfl⟩
  have ha := B.sz
  have hp := B.wp
  have hs : pWS s A := by rw [es]; exact B.ws.F
  have I : sIs h a (s, π, .ref (D.1 0), D.1 8) := by rw [es]; exact B.is
  have hE : cEn h a pl s N V O A D := by rw [es]; exact B.enF
  have hX := B.ot J.x (by rw [J.1.2.1]; omega)
  obtain ⟨Q0, hHi0⟩ : ∃ Q, ∀ σ, (sH h a σ).1 hi = some (.inr (7, [.ref Q])) := by obtain ⟨Q, -, -, -, -, -, ⟨x, -⟩, ⟨y, -⟩, -⟩ := J.k; exact ⟨Q, B.ot x (by omega)⟩
  have hHi := hHi0
  have wf := J.wf
  have hz := J.sz
  have hV9 := hp.lV
  have hA9 := hs.lA
  have hO9 := hp.lO
  have hN9 := hp.2.1.1
  have eS : ∀ i, (i < 127 ∨ 227 ≤ i) → s i = μ.2 4 i := fun i hi => by rw [es, pF_o (pX_lo hi)]
  show ax_W Ω Γ 60 4000 h 0 [some (.ref X), some (.int (nI k))] []
  refine ax_hp (show h = sH h a (s, π, .ref (D.1 0), D.1 8) from (show sH h a (s, π, .ref (D.1 0), D.1 8) = h from I).symm) ?_
  refine ax_aload_n (pc := 0) G dX1_run_0 rfl rfl ?_
  refine ax_cV1 (pc := 1) (kb := 58) (nb := 3988) G (cx_thereY hA (π := π) ha hp hs hE hX) lVX1_79_0 dX1_run_1 (hX _) rfl (by decide) (Nat.le_of_ble_eq_true rfl) rfl ?_
  refine ax_pop (pc := 4) G dX1_run_4 rfl ?_
  refine ax_iload_n (pc := 5) G dX1_run_5 rfl rfl ?_
  refine ax_i2l (pc := 6) G dX1_run_6 rfl ?_
  refine ax_lconst (pc := 7) (v := 1) G dX1_run_7 rfl ?_
  refine ax_ldc2 (pc := 8) G q2077 dX1_run_8 ?_
  refine ax_cS1 (pc := 11) (kb := 58) (nb := 3988) G (ct_in hA ((nI k).toInt64) 1 300) lSX1_62 dX1_run_11 rfl (by decide) (Nat.le_of_ble_eq_true rfl) rfl ?_
  rw [cIn_k (A := 1) (B := 300) (a := (nI 1)) (b := (nI 300)) (nI k) (by decide) (by decide)]
  refine ax_cS0 (pc := 14) (kb := 57) (nb := 3982) G (ct_argYb hA (B := (pIn (nI k) (nI 1) (nI 300))) (py_y hka hk (by omega))) lSX1_144 dX1_run_14 rfl (by decide) (Nat.le_of_ble_eq_true rfl) rfl ?_
  refine ax_aload_n (pc := 17) G dX1_run_17 rfl rfl ?_
  refine ax_getf (pc := 18) (v := .ref hi) G flX1_44_0 dX1_run_18 (hX _) rfl ?_
  refine ax_aload_n (pc := 21) G dX1_run_21 rfl rfl ?_
  refine ax_getf (pc := 22) (v := .ref a) G flX1_72_0 dX1_run_22 (hX _) rfl ?_
  refine ax_nV (pc := 25) (kb := 28) (nb := 1256) G (cj_keepS hA J B o1 ht I) lVX1_437_7 dX1_run_25 (hHi _) rfl (by decide) (Nat.le_of_ble_eq_true rfl) rfl (fun v9 h1 q9 => ?_)
  obtain ⟨rfl, w1, F1, G1, B1, p1⟩ := q9
  have I1 : sIs h1 a (s, π, .ref (D.1 0), D.1 8) := by rw [es]; exact B1.is
  have hE : cEn h1 a pl s N V O A D := by rw [es]; exact B1.enF
  have hX := B1.ot G1.x (by rw [G1.1.2.1]; omega)
  obtain ⟨Q01, hHi01⟩ : ∃ Q, ∀ σ, (sH h1 a σ).1 hi = some (.inr (7, [.ref Q])) := by obtain ⟨Q, -, -, -, -, -, ⟨x, -⟩, ⟨y, -⟩, -⟩ := G1.k; exact ⟨Q, B1.ot x (by omega)⟩
  have hHi := hHi01
  refine ax_hp (show h1 = sH h1 a (s, π, .ref (D.1 0), D.1 8) from (show sH h1 a (s, π, .ref (D.1 0), D.1 8) = h1 from I1).symm) ?_
  show ax_W Ω Γ _ _ (sH h1 a (s, π, (.ref (D.1 0)), (D.1 8))) _ _ (_)
  refine ax_aload_n (pc := 28) G dX1_run_28 rfl rfl ?_
  refine ax_getf (pc := 29) (v := .ref a) G flX1_72_0 dX1_run_29 (hX _) rfl ?_
  refine ax_iload_n (pc := 32) G dX1_run_32 rfl rfl ?_
  refine ax_nV (pc := 33) (kb := 28) (nb := 1256) G (bl_steps hA B1 k (by omega) I1) lVX1_388_1 dX1_run_33 sH_obj rfl (by decide) (Nat.le_of_ble_eq_true rfl) rfl (fun v9 h9 q9 => ?_)
  obtain ⟨rfl, π1, rfl⟩ := q9
  show ax_W Ω Γ _ _ (sH h1 a (pF A (pMany pl V A k (μ.2 4)).1, π1, .ref (D.1 0), D.1 8)) _ _ (.int (nI ((pMany pl V A k (μ.2 4)).2)) :: _)
  exact ax_iretP (pc := 36) G E rfl (rfl) dX1_run_36 (⟨_, rfl, rfl, w1, D, π1, pol, F1.two B1.o, G1.blk B1.o ht, B1.many, p1⟩)

theorem cj_setPolicy {Ω : ax_O} (hA : ax_Amb Ω) {h : ax_H} {w : Nat → Nat} {X bf tr hi sv lb a : Nat} {pl : pR} {N V O A u : Nat} {μ : md_S} {D : cD} {π : Nat → cP} {pol : Nat} (J : xG Ω h w X bf tr hi sv lb (.ref a) a pl N V O μ u) (B : xBk Ω h w a pl (μ.2 4) N V O A D π pol) (o1 : w (a + 1) = 1) (ht : tr ≠ a) (k : Nat) (hk : k ≤ 3)  : ax_MetP Ω yX1_setPolicy 20 60 4000 [.ref X, .int (nI k)] h (ax_Nm fun v h' => v = some (.int (μ.2 4 5)) ∧ ∃ w' D' π' pol', xFr (fun o => 2 ≤ o) h h' w w' ∧ xG Ω h' w' X bf tr hi sv lb (.ref a) a pl N V O (mKeep μ u) (pU u) ∧ xBk Ω h' w' a pl (upd (μ.2 4) 5 (nI k)) N V O A D' π' pol' ∧ w' (a + 1) = 1) := by
  refine ax_metP q2449 q113 (by decide +kernel) (by decide) hA (Nat.le_of_ble_eq_true rfl) (fun Γ G E => ?_)
  obtain ⟨s, es⟩ : ∃ x, x = pF A (μ.2 4) := ⟨_, rfl⟩
  have ha := B.sz
  have hp := B.wp
  have hs : pWS s A := by rw [es]; exact B.ws.F
  have I : sIs h a (s, π, .ref (D.1 0), D.1 8) := by rw [es]; exact B.is
  have hE : cEn h a pl s N V O A D := by rw [es]; exact B.enF
  have hX := B.ot J.x (by rw [J.1.2.1]; omega)
  obtain ⟨Q0, hHi0⟩ : ∃ Q, ∀ σ, (sH h a σ).1 hi = some (.inr (7, [.ref Q])) := by obtain ⟨Q, -, -, -, -, -, ⟨x, -⟩, ⟨y, -⟩, -⟩ := J.k; exact ⟨Q, B.ot x (by omega)⟩
  have hHi := hHi0
  have wf := J.wf
  have hz := J.sz
  have hV9 := hp.lV
  have hA9 := hs.lA
  have hO9 := hp.lO
  have hN9 := hp.2.1.1
  have eS : ∀ i, (i < 127 ∨ 227 ≤ i) → s i = μ.2 4 i := fun i hi => by rw [es, pF_o (pX_lo hi)]
  show ax_W Ω Γ 60 4000 h 0 [some (.ref X), some (.int (nI k)), none] []
  refine ax_hp (show h = sH h a (s, π, .ref (D.1 0), D.1 8) from (show sH h a (s, π, .ref (D.1 0), D.1 8) = h from I).symm) ?_
  refine ax_aload_n (pc := 0) G dX1_setPolicy_0 rfl rfl ?_
  refine ax_cV1 (pc := 1) (kb := 58) (nb := 3988) G (cx_thereY hA (π := π) ha hp hs hE hX) lVX1_79_0 dX1_setPolicy_1 (hX _) rfl (by decide) (Nat.le_of_ble_eq_true rfl) rfl ?_
  refine ax_pop (pc := 4) G dX1_setPolicy_4 rfl ?_
  refine ax_iload_n (pc := 5) G dX1_setPolicy_5 rfl rfl ?_
  refine ax_i2l (pc := 6) G dX1_setPolicy_6 rfl ?_
  refine ax_lconst (pc := 7) (v := 0) G dX1_setPolicy_7 rfl ?_
  refine ax_ldc2 (pc := 8) G q2061 dX1_setPolicy_8 ?_
  refine ax_cS1 (pc := 11) (kb := 58) (nb := 3988) G (ct_in hA ((nI k).toInt64) 0 3) lSX1_62 dX1_setPolicy_11 rfl (by decide) (Nat.le_of_ble_eq_true rfl) rfl ?_
  rw [cIn_k (A := 0) (B := 3) (a := (nI 0)) (b := (nI 3)) (nI k) (by decide) (by decide)]
  refine ax_cS0 (pc := 14) (kb := 57) (nb := 3982) G (ct_argYb hA (B := (pIn (nI k) (nI 0) (nI 3))) (px_y hk (by omega))) lSX1_144 dX1_setPolicy_14 rfl (by decide) (Nat.le_of_ble_eq_true rfl) rfl ?_
  refine ax_aload_n (pc := 17) G dX1_setPolicy_17 rfl rfl ?_
  refine ax_getf (pc := 18) (v := .ref hi) G flX1_44_0 dX1_setPolicy_18 (hX _) rfl ?_
  refine ax_aload_n (pc := 21) G dX1_setPolicy_21 rfl rfl ?_
  refine ax_getf (pc := 22) (v := .ref a) G flX1_72_0 dX1_setPolicy_22 (hX _) rfl ?_
  refine ax_nV (pc := 25) (kb := 28) (nb := 1256) G (cj_keepS hA J B o1 ht I) lVX1_437_7 dX1_setPolicy_25 (hHi _) rfl (by decide) (Nat.le_of_ble_eq_true rfl) rfl (fun v9 h1 q9 => ?_)
  obtain ⟨rfl, w1, F1, G1, B1, p1⟩ := q9
  have I1 : sIs h1 a (s, π, .ref (D.1 0), D.1 8) := by rw [es]; exact B1.is
  have hE : cEn h1 a pl s N V O A D := by rw [es]; exact B1.enF
  have hX := B1.ot G1.x (by rw [G1.1.2.1]; omega)
  obtain ⟨Q01, hHi01⟩ : ∃ Q, ∀ σ, (sH h1 a σ).1 hi = some (.inr (7, [.ref Q])) := by obtain ⟨Q, -, -, -, -, -, ⟨x, -⟩, ⟨y, -⟩, -⟩ := G1.k; exact ⟨Q, B1.ot x (by omega)⟩
  have hHi := hHi01
  refine ax_hp (show h1 = sH h1 a (s, π, .ref (D.1 0), D.1 8) from (show sH h1 a (s, π, .ref (D.1 0), D.1 8) = h1 from I1).symm) ?_
  show ax_W Ω Γ _ _ (sH h1 a (s, π, (.ref (D.1 0)), (D.1 8))) _ _ (_)
  refine ax_aload_n (pc := 28) G dX1_setPolicy_28 rfl rfl ?_
  refine ax_getf (pc := 29) (v := .ref a) G flX1_72_0 dX1_setPolicy_29 (hX _) rfl ?_
  refine sr_get (pc := 32) (v := .int (s 5)) G flX1_286_1 dX1_setPolicy_32 rfl ?_
  refine ax_istore_n (pc := 35) G dX1_setPolicy_35 rfl (Nat.le_of_ble_eq_true rfl) rfl ?_
  refine ax_aload_n (pc := 36) G dX1_setPolicy_36 rfl rfl ?_
  refine ax_getf (pc := 37) (v := .ref a) G flX1_72_0 dX1_setPolicy_37 (hX _) rfl ?_
  refine ax_iload_n (pc := 40) G dX1_setPolicy_40 rfl rfl ?_
  refine ax_nV (pc := 41) (kb := 27) (nb := 1256) G (bl_setPolicy hA B1 G1.wf G1.sz k (by omega) I1) lVX1_391_1 dX1_setPolicy_41 sH_obj rfl (by decide) (Nat.le_of_ble_eq_true rfl) rfl (fun v9 h2 q9 => ?_)
  obtain ⟨rfl, w2, F2, B2⟩ := q9
  have G2 := G1.fr F2 (by omega) (by omega) (fun b hb => by omega) ht
  show ax_W Ω Γ _ _ (h2) _ _ (_)
  refine ax_iload_n (pc := 44) G dX1_setPolicy_44 rfl rfl ?_
  exact ax_iretP (pc := 45) G E rfl (rfl) dX1_setPolicy_45 (⟨_, rfl, congrArg (fun x => some (Value.int x)) (eS 5 (by omega)), w2, _, _, _, (F1.mono fun o c => by omega).trans (F2.mono fun o c => by omega), G2, B2, (F2.2.1 _ (by have := B1.o.2.2.2.2.1; omega)).trans p1⟩)

theorem cj_change {Ω : ax_O} (hA : ax_Amb Ω) {h : ax_H} {w : Nat → Nat} {X bf tr hi sv lb a : Nat} {pl : pR} {N V O A u : Nat} {μ : md_S} {D : cD} {π : Nat → cP} {pol : Nat} (J : xG Ω h w X bf tr hi sv lb (.ref a) a pl N V O μ u) (B : xBk Ω h w a pl (μ.2 4) N V O A D π pol) (o1 : w (a + 1) = 1) (ht : tr ≠ a) (k : Nat) (hk : k < V) (f t : Int32) (hf : μ.2 4 (47 + k) = f) (nf : ¬ f = nI 1) (nt : ¬ t = nI 1)  : ax_MetP Ω yX1_change 20 60 4000 [.ref X, .int (nI k), .int f, .int t] h (ax_Nm fun v h' => v = some (.int (nI 1)) ∧ ∃ w' D' π' pol', xFr (fun o => 2 ≤ o) h h' w w' ∧ xG Ω h' w' X bf tr hi sv lb (.ref a) a pl N V O (mKeep μ u) (pU u) ∧ xBk Ω h' w' a pl (upd (μ.2 4) (47 + k) t) N V O A D' π' pol' ∧ w' (a + 1) = 1) := by
  refine ax_metP q2460 q113 (by decide +kernel) (by decide) hA (Nat.le_of_ble_eq_true rfl) (fun Γ G E => ?_)
  obtain ⟨s, es⟩ : ∃ x, x = pF A (μ.2 4) := ⟨_, rfl⟩
  have ha := B.sz
  have hp := B.wp
  have hs : pWS s A := by rw [es]; exact B.ws.F
  have I : sIs h a (s, π, .ref (D.1 0), D.1 8) := by rw [es]; exact B.is
  have hE : cEn h a pl s N V O A D := by rw [es]; exact B.enF
  have hX := B.ot J.x (by rw [J.1.2.1]; omega)
  obtain ⟨Q0, hHi0⟩ : ∃ Q, ∀ σ, (sH h a σ).1 hi = some (.inr (7, [.ref Q])) := by obtain ⟨Q, -, -, -, -, -, ⟨x, -⟩, ⟨y, -⟩, -⟩ := J.k; exact ⟨Q, B.ot x (by omega)⟩
  have hHi := hHi0
  have wf := J.wf
  have hz := J.sz
  have hV9 := hp.lV
  have hA9 := hs.lA
  have hO9 := hp.lO
  have hN9 := hp.2.1.1
  have eS : ∀ i, (i < 127 ∨ 227 ≤ i) → s i = μ.2 4 i := fun i hi => by rw [es, pF_o (pX_lo hi)]
  show ax_W Ω Γ 60 4000 h 0 [some (.ref X), some (.int (nI k)), some (.int f), some (.int t), none] []
  refine ax_hp (show h = sH h a (s, π, .ref (D.1 0), D.1 8) from (show sH h a (s, π, .ref (D.1 0), D.1 8) = h from I).symm) ?_
  refine ax_aload_n (pc := 0) G dX1_change_0 rfl rfl ?_
  refine ax_iload_n (pc := 1) G dX1_change_1 rfl rfl ?_
  refine ax_cV1 (pc := 2) (kb := 57) (nb := 3982) G (cx_withVisitY hA (π := π) ha hp hs hE hX k (by omega)) lVX1_186_0 dX1_change_2 (hX _) rfl (by decide) (Nat.le_of_ble_eq_true rfl) rfl ?_
  refine ax_astore (pc := 5) G dX1_change_5 (Nat.le_of_ble_eq_true rfl) rfl ?_
  refine ax_aload (pc := 7) G dX1_change_7 rfl ?_
  refine sr_get (pc := 9) (v := .ref (a + 8)) G flX1_161_1 dX1_change_9 rfl ?_
  refine ax_iload_n (pc := 12) G dX1_change_12 rfl rfl ?_
  refine sr_ld (pc := 13) (k := 8) (j := k) (r := 47 + k) G dX1_change_13 (by decide) (by decide) rfl rfl (show k < 20 by omega) ?_
  show ax_W Ω Γ _ _ _ _ _ (.int (s (47 + k)) :: _)
  refine ax_iload_n (pc := 14) G dX1_change_14 rfl rfl ?_
  refine ax_icmp_eq (pc := 15) (tgt := 20) G dX1_change_15 rfl (fun _ => ?_) (fun c9 => absurd ((eS _ (by omega)).trans hf) c9)
  refine ax_aload_n (pc := 20) G dX1_change_20 rfl rfl ?_
  refine ax_getf (pc := 21) (v := .ref hi) G flX1_44_0 dX1_change_21 (hX _) rfl ?_
  refine ax_aload (pc := 24) G dX1_change_24 rfl ?_
  refine ax_nV (pc := 26) (kb := 28) (nb := 1256) G (cj_keepS hA J B o1 ht I) lVX1_437_7 dX1_change_26 (hHi _) rfl (by decide) (Nat.le_of_ble_eq_true rfl) rfl (fun v9 h1 q9 => ?_)
  obtain ⟨rfl, w1, F1, G1, B1, p1⟩ := q9
  have I1 : sIs h1 a (s, π, .ref (D.1 0), D.1 8) := by rw [es]; exact B1.is
  have hE : cEn h1 a pl s N V O A D := by rw [es]; exact B1.enF
  have hX := B1.ot G1.x (by rw [G1.1.2.1]; omega)
  obtain ⟨Q01, hHi01⟩ : ∃ Q, ∀ σ, (sH h1 a σ).1 hi = some (.inr (7, [.ref Q])) := by obtain ⟨Q, -, -, -, -, -, ⟨x, -⟩, ⟨y, -⟩, -⟩ := G1.k; exact ⟨Q, B1.ot x (by omega)⟩
  have hHi := hHi01
  refine ax_hp (show h1 = sH h1 a (s, π, .ref (D.1 0), D.1 8) from (show sH h1 a (s, π, .ref (D.1 0), D.1 8) = h1 from I1).symm) ?_
  show ax_W Ω Γ _ _ (sH h1 a (s, π, (.ref (D.1 0)), (D.1 8))) _ _ (_)
  refine ax_aload (pc := 29) G dX1_change_29 rfl ?_
  refine sr_get (pc := 31) (v := .ref (a + 8)) G flX1_161_1 dX1_change_31 rfl ?_
  refine ax_iload_n (pc := 34) G dX1_change_34 rfl rfl ?_
  refine ax_iload_n (pc := 35) G dX1_change_35 rfl rfl ?_
  refine sr_st (pc := 36) (k := 8) (j := k) (r := 47 + k) G dX1_change_36 ha (by decide) (by decide) rfl rfl (show k < 20 by omega) ?_
  show ax_W Ω Γ _ _ (sH h1 a (upd s (47 + k) t, π, (.ref (D.1 0)), (D.1 8))) _ _ _
  refine ax_hp (show sH h1 a (upd s (47 + k) t, π, .ref (D.1 0), D.1 8) = sH h1 a (pF A (upd (μ.2 4) (47 + k) t), π, .ref (D.1 0), D.1 8) from by rw [es, pF_up (by omega)]) ?_
  refine ax_iconst (pc := 37) (v := nI 1) G dX1_change_37 ic_1 ?_
  exact ax_iretP (pc := 38) G E rfl (rfl) dX1_change_38 (⟨_, rfl, rfl, w1, D, π, pol, F1.two B1.o, G1.blk B1.o ht, B1.up (B1.rw.st hV9 (by omega) (by rw [hf]; exact nf) nt) (pIm.u (by omega)) (pu_ne (by omega)), p1⟩)

theorem cj_setPriority {Ω : ax_O} (hA : ax_Amb Ω) {h : ax_H} {w : Nat → Nat} {X bf tr hi sv lb a : Nat} {pl : pR} {N V O A u : Nat} {μ : md_S} {D : cD} {π : Nat → cP} {pol : Nat} (J : xG Ω h w X bf tr hi sv lb (.ref a) a pl N V O μ u) (B : xBk Ω h w a pl (μ.2 4) N V O A D π pol) (o1 : w (a + 1) = 1) (ht : tr ≠ a) (k : Nat) (hk : k < V) (p : Nat) (hpa : 1 ≤ p) (hpb : p ≤ 9)  : ax_MetP Ω yX1_setPriority 20 60 4000 [.ref X, .int (nI k), .int (nI p)] h (ax_Nm fun v h' => v = some (.int (μ.2 4 (107 + k))) ∧ ∃ w' D' π' pol', xFr (fun o => 2 ≤ o) h h' w w' ∧ xG Ω h' w' X bf tr hi sv lb (.ref a) a pl N V O (mKeep μ u) (pU u) ∧ xBk Ω h' w' a pl (upd (μ.2 4) (107 + k) (nI p)) N V O A D' π' pol' ∧ w' (a + 1) = 1) := by
  refine ax_metP q2474 q113 (by decide +kernel) (by decide) hA (Nat.le_of_ble_eq_true rfl) (fun Γ G E => ?_)
  obtain ⟨s, es⟩ : ∃ x, x = pF A (μ.2 4) := ⟨_, rfl⟩
  have ha := B.sz
  have hp := B.wp
  have hs : pWS s A := by rw [es]; exact B.ws.F
  have I : sIs h a (s, π, .ref (D.1 0), D.1 8) := by rw [es]; exact B.is
  have hE : cEn h a pl s N V O A D := by rw [es]; exact B.enF
  have hX := B.ot J.x (by rw [J.1.2.1]; omega)
  obtain ⟨Q0, hHi0⟩ : ∃ Q, ∀ σ, (sH h a σ).1 hi = some (.inr (7, [.ref Q])) := by obtain ⟨Q, -, -, -, -, -, ⟨x, -⟩, ⟨y, -⟩, -⟩ := J.k; exact ⟨Q, B.ot x (by omega)⟩
  have hHi := hHi0
  have wf := J.wf
  have hz := J.sz
  have hV9 := hp.lV
  have hA9 := hs.lA
  have hO9 := hp.lO
  have hN9 := hp.2.1.1
  have eS : ∀ i, (i < 127 ∨ 227 ≤ i) → s i = μ.2 4 i := fun i hi => by rw [es, pF_o (pX_lo hi)]
  show ax_W Ω Γ 60 4000 h 0 [some (.ref X), some (.int (nI k)), some (.int (nI p)), none, none] []
  refine ax_hp (show h = sH h a (s, π, .ref (D.1 0), D.1 8) from (show sH h a (s, π, .ref (D.1 0), D.1 8) = h from I).symm) ?_
  refine ax_aload_n (pc := 0) G dX1_setPriority_0 rfl rfl ?_
  refine ax_iload_n (pc := 1) G dX1_setPriority_1 rfl rfl ?_
  refine ax_cV1 (pc := 2) (kb := 57) (nb := 3982) G (cx_withVisitY hA (π := π) ha hp hs hE hX k (by omega)) lVX1_186_0 dX1_setPriority_2 (hX _) rfl (by decide) (Nat.le_of_ble_eq_true rfl) rfl ?_
  refine ax_astore_n (pc := 5) G dX1_setPriority_5 rfl (Nat.le_of_ble_eq_true rfl) rfl ?_
  refine ax_iload_n (pc := 6) G dX1_setPriority_6 rfl rfl ?_
  refine ax_i2l (pc := 7) G dX1_setPriority_7 rfl ?_
  refine ax_lconst (pc := 8) (v := 1) G dX1_setPriority_8 rfl ?_
  refine ax_ldc2 (pc := 9) G q2475 dX1_setPriority_9 ?_
  refine ax_cS1 (pc := 12) (kb := 57) (nb := 3982) G (ct_in hA ((nI p).toInt64) 1 9) lSX1_62 dX1_setPriority_12 rfl (by decide) (Nat.le_of_ble_eq_true rfl) rfl ?_
  rw [cIn_k (A := 1) (B := 9) (a := (nI 1)) (b := (nI 9)) (nI p) (by decide) (by decide)]
  refine ax_cS0 (pc := 15) (kb := 56) (nb := 3976) G (ct_argYb hA (B := (pIn (nI p) (nI 1) (nI 9))) (py_y hpa hpb (by omega))) lSX1_144 dX1_setPriority_15 rfl (by decide) (Nat.le_of_ble_eq_true rfl) rfl ?_
  refine ax_aload_n (pc := 18) G dX1_setPriority_18 rfl rfl ?_
  refine ax_getf (pc := 19) (v := .ref hi) G flX1_44_0 dX1_setPriority_19 (hX _) rfl ?_
  refine ax_aload_n (pc := 22) G dX1_setPriority_22 rfl rfl ?_
  refine ax_nV (pc := 23) (kb := 27) (nb := 1250) G (cj_keepS hA J B o1 ht I) lVX1_437_7 dX1_setPriority_23 (hHi _) rfl (by decide) (Nat.le_of_ble_eq_true rfl) rfl (fun v9 h1 q9 => ?_)
  obtain ⟨rfl, w1, F1, G1, B1, p1⟩ := q9
  have I1 : sIs h1 a (s, π, .ref (D.1 0), D.1 8) := by rw [es]; exact B1.is
  have hE : cEn h1 a pl s N V O A D := by rw [es]; exact B1.enF
  have hX := B1.ot G1.x (by rw [G1.1.2.1]; omega)
  obtain ⟨Q01, hHi01⟩ : ∃ Q, ∀ σ, (sH h1 a σ).1 hi = some (.inr (7, [.ref Q])) := by obtain ⟨Q, -, -, -, -, -, ⟨x, -⟩, ⟨y, -⟩, -⟩ := G1.k; exact ⟨Q, B1.ot x (by omega)⟩
  have hHi := hHi01
  refine ax_hp (show h1 = sH h1 a (s, π, .ref (D.1 0), D.1 8) from (show sH h1 a (s, π, .ref (D.1 0), D.1 8) = h1 from I1).symm) ?_
  show ax_W Ω Γ _ _ (sH h1 a (s, π, (.ref (D.1 0)), (D.1 8))) _ _ (_)
  refine ax_aload_n (pc := 26) G dX1_setPriority_26 rfl rfl ?_
  refine sr_get (pc := 27) (v := .ref (a + 11)) G flX1_201_1 dX1_setPriority_27 rfl ?_
  refine ax_iload_n (pc := 30) G dX1_setPriority_30 rfl rfl ?_
  refine sr_ld (pc := 31) (k := 11) (j := k) (r := 107 + k) G dX1_setPriority_31 (by decide) (by decide) rfl rfl (show k < 20 by omega) ?_
  show ax_W Ω Γ _ _ _ _ _ (.int (s (107 + k)) :: _)
  refine ax_istore (pc := 32) G dX1_setPriority_32 (Nat.le_of_ble_eq_true rfl) rfl ?_
  refine ax_aload_n (pc := 34) G dX1_setPriority_34 rfl rfl ?_
  refine sr_get (pc := 35) (v := .ref (a + 11)) G flX1_201_1 dX1_setPriority_35 rfl ?_
  refine ax_iload_n (pc := 38) G dX1_setPriority_38 rfl rfl ?_
  refine ax_iload_n (pc := 39) G dX1_setPriority_39 rfl rfl ?_
  refine sr_st (pc := 40) (k := 11) (j := k) (r := 107 + k) G dX1_setPriority_40 ha (by decide) (by decide) rfl rfl (show k < 20 by omega) ?_
  show ax_W Ω Γ _ _ (sH h1 a (upd s (107 + k) (nI p), π, (.ref (D.1 0)), (D.1 8))) _ _ _
  refine ax_hp (show sH h1 a (upd s (107 + k) (nI p), π, .ref (D.1 0), D.1 8) = sH h1 a (pF A (upd (μ.2 4) (107 + k) (nI p)), π, .ref (D.1 0), D.1 8) from by rw [es, pF_up (by omega)]) ?_
  refine ax_iload (pc := 41) G dX1_setPriority_41 rfl ?_
  exact ax_iretP (pc := 43) G E rfl (rfl) dX1_setPriority_43 (⟨_, rfl, congrArg (fun x => some (Value.int x)) (eS _ (by omega)), w1, D, π, pol, F1.two B1.o, G1.blk B1.o ht, B1.up (B1.rw.pri hV9 (by omega) (vB_n (by omega) (by omega) (by omega))) (pIm.u (by omega)) (pu_ne (by omega)), p1⟩)

theorem cj_grant {Ω : ax_O} (hA : ax_Amb Ω) {h : ax_H} {w : Nat → Nat} {X bf tr hi sv lb a : Nat} {pl : pR} {N V O A u : Nat} {μ : md_S} {D : cD} {π : Nat → cP} {pol : Nat} (J : xG Ω h w X bf tr hi sv lb (.ref a) a pl N V O μ u) (B : xBk Ω h w a pl (μ.2 4) N V O A D π pol) (o1 : w (a + 1) = 1) (ht : tr ≠ a) (k : Nat) (hk : k < N) (mi : Int32) (m1 : pIn mi (-2000) (nI 2000) = true) (m2 : ¬ pLeft (μ.2 4) k + mi < 0) (m3 : ¬ nI 9999 < μ.2 4 (17 + k) + mi)  : ax_MetP Ω yX1_grant 20 60 4000 [.ref X, .int (nI k), .int mi] h (ax_Nm fun v h' => v = some (.int (pLeft (pAdd (μ.2 4) (17 + k) mi) k)) ∧ ∃ w' D' π' pol', xFr (fun o => 2 ≤ o) h h' w w' ∧ xG Ω h' w' X bf tr hi sv lb (.ref a) a pl N V O (mKeep μ u) (pU u) ∧ xBk Ω h' w' a pl (pAdd (μ.2 4) (17 + k) mi) N V O A D' π' pol' ∧ w' (a + 1) = 1) := by
  refine ax_metP q2482 q113 (by decide +kernel) (by decide) hA (Nat.le_of_ble_eq_true rfl) (fun Γ G E => ?_)
  obtain ⟨s, es⟩ : ∃ x, x = pF A (μ.2 4) := ⟨_, rfl⟩
  have ha := B.sz
  have hp := B.wp
  have hs : pWS s A := by rw [es]; exact B.ws.F
  have I : sIs h a (s, π, .ref (D.1 0), D.1 8) := by rw [es]; exact B.is
  have hE : cEn h a pl s N V O A D := by rw [es]; exact B.enF
  have hX := B.ot J.x (by rw [J.1.2.1]; omega)
  obtain ⟨Q0, hHi0⟩ : ∃ Q, ∀ σ, (sH h a σ).1 hi = some (.inr (7, [.ref Q])) := by obtain ⟨Q, -, -, -, -, -, ⟨x, -⟩, ⟨y, -⟩, -⟩ := J.k; exact ⟨Q, B.ot x (by omega)⟩
  have hHi := hHi0
  have wf := J.wf
  have hz := J.sz
  have hV9 := hp.lV
  have hA9 := hs.lA
  have hO9 := hp.lO
  have hN9 := hp.2.1.1
  have eS : ∀ i, (i < 127 ∨ 227 ≤ i) → s i = μ.2 4 i := fun i hi => by rw [es, pF_o (pX_lo hi)]
  show ax_W Ω Γ 60 4000 h 0 [some (.ref X), some (.int (nI k)), some (.int mi), none] []
  refine ax_hp (show h = sH h a (s, π, .ref (D.1 0), D.1 8) from (show sH h a (s, π, .ref (D.1 0), D.1 8) = h from I).symm) ?_
  refine ax_aload_n (pc := 0) G dX1_grant_0 rfl rfl ?_
  refine ax_iload_n (pc := 1) G dX1_grant_1 rfl rfl ?_
  refine ax_cV1 (pc := 2) (kb := 57) (nb := 3982) G (cx_withProposalY hA (π := π) ha hp hs hE hX k (by omega)) lVX1_138_0 dX1_grant_2 (hX _) rfl (by decide) (Nat.le_of_ble_eq_true rfl) rfl ?_
  refine ax_astore_n (pc := 5) G dX1_grant_5 rfl (Nat.le_of_ble_eq_true rfl) rfl ?_
  refine ax_iload_n (pc := 6) G dX1_grant_6 rfl rfl ?_
  refine ax_i2l (pc := 7) G dX1_grant_7 rfl ?_
  refine ax_ldc2 (pc := 8) G q2483 dX1_grant_8 ?_
  refine ax_ldc2 (pc := 11) G q2185 dX1_grant_11 ?_
  refine ax_cS1 (pc := 14) (kb := 57) (nb := 3982) G (ct_in hA mi.toInt64 (-2000) 2000) lSX1_62 dX1_grant_14 rfl (by decide) (Nat.le_of_ble_eq_true rfl) rfl ?_
  rw [cIn_k (A := (-2000)) (B := 2000) (a := (-2000)) (b := (nI 2000)) mi (by decide) (by decide)]
  refine ax_if_eq (pc := 17) (tgt := 48) G dX1_grant_17 rfl (fun c9 => absurd c9 (by rw [m1]; decide)) (fun _ => ?_)
  refine ax_aload_n (pc := 20) G dX1_grant_20 rfl rfl ?_
  refine ax_iload_n (pc := 21) G dX1_grant_21 rfl rfl ?_
  refine ax_cV1 (pc := 22) (kb := 57) (nb := 3982) G (ct_left hA (π := π) k (by omega)) lVX1_157_1 dX1_grant_22 sH_obj rfl (by decide) (Nat.le_of_ble_eq_true rfl) rfl ?_
  refine ax_iload_n (pc := 25) G dX1_grant_25 rfl rfl ?_
  refine ax_iadd (pc := 26) G dX1_grant_26 ?_
  refine ax_if_lt (pc := 27) (tgt := 48) G dX1_grant_27 rfl (fun c9 => absurd c9 (by rw [show pLeft s k = pLeft (μ.2 4) k from by rw [es]; exact pLeft_F (by omega)]; exact m2)) (fun _ => ?_)
  refine ax_aload_n (pc := 30) G dX1_grant_30 rfl rfl ?_
  refine sr_get (pc := 31) (v := .ref (a + 4)) G flX1_147_1 dX1_grant_31 rfl ?_
  refine ax_iload_n (pc := 34) G dX1_grant_34 rfl rfl ?_
  refine sr_ld (pc := 35) (k := 4) (j := k) (r := 17 + k) G dX1_grant_35 (by decide) (by decide) rfl rfl (show k < 6 by omega) ?_
  show ax_W Ω Γ _ _ _ _ _ (.int (s (17 + k)) :: _)
  refine ax_iload_n (pc := 36) G dX1_grant_36 rfl rfl ?_
  refine ax_iadd (pc := 37) G dX1_grant_37 ?_
  refine ax_sipush (pc := 38) (v := nI 9999) G dX1_grant_38 is_9999 ?_
  refine ax_icmp_gt (pc := 41) (tgt := 48) G dX1_grant_41 rfl (fun c9 => absurd c9 (by rw [eS _ (by omega)]; exact m3)) (fun _ => ?_)
  refine ax_iconst (pc := 44) (v := nI 1) G dX1_grant_44 ic_1 ?_
  refine ax_goto (pc := 45) (tgt := 49) G dX1_grant_45 rfl ?_
  refine ax_cS0 (pc := 49) (kb := 56) (nb := 3976) G (ct_argY hA) lSX1_144 dX1_grant_49 rfl (by decide) (Nat.le_of_ble_eq_true rfl) rfl ?_
  refine ax_aload_n (pc := 52) G dX1_grant_52 rfl rfl ?_
  refine ax_getf (pc := 53) (v := .ref hi) G flX1_44_0 dX1_grant_53 (hX _) rfl ?_
  refine ax_aload_n (pc := 56) G dX1_grant_56 rfl rfl ?_
  refine ax_nV (pc := 57) (kb := 27) (nb := 1250) G (cj_keepS hA J B o1 ht I) lVX1_437_7 dX1_grant_57 (hHi _) rfl (by decide) (Nat.le_of_ble_eq_true rfl) rfl (fun v9 h1 q9 => ?_)
  obtain ⟨rfl, w1, F1, G1, B1, p1⟩ := q9
  have I1 : sIs h1 a (s, π, .ref (D.1 0), D.1 8) := by rw [es]; exact B1.is
  have hE : cEn h1 a pl s N V O A D := by rw [es]; exact B1.enF
  have hX := B1.ot G1.x (by rw [G1.1.2.1]; omega)
  obtain ⟨Q01, hHi01⟩ : ∃ Q, ∀ σ, (sH h1 a σ).1 hi = some (.inr (7, [.ref Q])) := by obtain ⟨Q, -, -, -, -, -, ⟨x, -⟩, ⟨y, -⟩, -⟩ := G1.k; exact ⟨Q, B1.ot x (by omega)⟩
  have hHi := hHi01
  refine ax_hp (show h1 = sH h1 a (s, π, .ref (D.1 0), D.1 8) from (show sH h1 a (s, π, .ref (D.1 0), D.1 8) = h1 from I1).symm) ?_
  show ax_W Ω Γ _ _ (sH h1 a (s, π, (.ref (D.1 0)), (D.1 8))) _ _ (_)
  refine ax_aload_n (pc := 60) G dX1_grant_60 rfl rfl ?_
  refine sr_get (pc := 61) (v := .ref (a + 4)) G flX1_147_1 dX1_grant_61 rfl ?_
  refine ax_iload_n (pc := 64) G dX1_grant_64 rfl rfl ?_
  refine ax_dup2_11 (pc := 65) G dX1_grant_65 rfl rfl ?_
  refine sr_ld (pc := 66) (k := 4) (j := k) (r := 17 + k) G dX1_grant_66 (by decide) (by decide) rfl rfl (show k < 6 by omega) ?_
  show ax_W Ω Γ _ _ _ _ _ (.int (s (17 + k)) :: _)
  refine ax_iload_n (pc := 67) G dX1_grant_67 rfl rfl ?_
  refine ax_iadd (pc := 68) G dX1_grant_68 ?_
  refine sr_st (pc := 69) (k := 4) (j := k) (r := 17 + k) G dX1_grant_69 ha (by decide) (by decide) rfl rfl (show k < 6 by omega) ?_
  show ax_W Ω Γ _ _ (sH h1 a (pAdd s (17 + k) mi, π, (.ref (D.1 0)), (D.1 8))) _ _ _
  refine ax_aload_n (pc := 70) G dX1_grant_70 rfl rfl ?_
  refine ax_iload_n (pc := 71) G dX1_grant_71 rfl rfl ?_
  refine ax_cV1 (pc := 72) (kb := 27) (nb := 1250) G (ct_left hA (π := π) k (by omega)) lVX1_157_1 dX1_grant_72 sH_obj rfl (by decide) (Nat.le_of_ble_eq_true rfl) rfl ?_
  refine ax_hp (show sH h1 a (pAdd s (17 + k) mi, π, .ref (D.1 0), D.1 8) = sH h1 a (pF A (pAdd (μ.2 4) (17 + k) mi), π, .ref (D.1 0), D.1 8) from by rw [es, pF_add (by omega)]) ?_
  exact ax_iretP (pc := 75) G E rfl (rfl) dX1_grant_75 (⟨_, rfl, congrArg (fun x => some (Value.int x)) (by rw [es, pF_add (by omega), pLeft_F (by omega)]), w1, D, π, pol, F1.two B1.o, G1.blk B1.o ht, B1.up (B1.rw.grant hV9 (by omega) m1 m2 m3) (pIm.u (by omega)) (pad_ne (by omega)), p1⟩)

theorem cj_dump {Ω : ax_O} (hA : ax_Amb Ω) {h : ax_H} {w : Nat → Nat} {X bf tr hi sv lb a : Nat} {pl : pR} {N V O A u : Nat} {μ : md_S} {D : cD} {π : Nat → cP} {pol : Nat} (J : xG Ω h w X bf tr hi sv lb (.ref a) a pl N V O μ u) (B : xBk Ω h w a pl (μ.2 4) N V O A D π pol) (o1 : w (a + 1) = 1) (ht : tr ≠ a) (hc : ¬ pl 0 < μ.2 4 0 + pl 4)  : ax_MetP Ω yX1_dump 20 60 4000 [.ref X] h (ax_Nm fun v h' => v = some (.int (μ.2 4 3)) ∧ ∃ w' D' π' pol', xFr (fun o => 2 ≤ o) h h' w w' ∧ xG Ω h' w' X bf tr hi sv lb (.ref a) a pl N V O (mKeep μ u) (pU u) ∧ xBk Ω h' w' a pl (pDumps pl (μ.2 4)) N V O A D' π' pol' ∧ w' (a + 1) = 1) := by
  refine ax_metP q2490 q113 (by decide +kernel) (by decide) hA (Nat.le_of_ble_eq_true rfl) (fun Γ G E => ?_)
  obtain ⟨s, es⟩ : ∃ x, x = pF A (μ.2 4) := ⟨_, rfl⟩
  have ha := B.sz
  have hp := B.wp
  have hs : pWS s A := by rw [es]; exact B.ws.F
  have I : sIs h a (s, π, .ref (D.1 0), D.1 8) := by rw [es]; exact B.is
  have hE : cEn h a pl s N V O A D := by rw [es]; exact B.enF
  have hX := B.ot J.x (by rw [J.1.2.1]; omega)
  obtain ⟨Q0, hHi0⟩ : ∃ Q, ∀ σ, (sH h a σ).1 hi = some (.inr (7, [.ref Q])) := by obtain ⟨Q, -, -, -, -, -, ⟨x, -⟩, ⟨y, -⟩, -⟩ := J.k; exact ⟨Q, B.ot x (by omega)⟩
  have hHi := hHi0
  have wf := J.wf
  have hz := J.sz
  have hV9 := hp.lV
  have hA9 := hs.lA
  have hO9 := hp.lO
  have hN9 := hp.2.1.1
  have eS : ∀ i, (i < 127 ∨ 227 ≤ i) → s i = μ.2 4 i := fun i hi => by rw [es, pF_o (pX_lo hi)]
  show ax_W Ω Γ 60 4000 h 0 [some (.ref X), none] []
  refine ax_hp (show h = sH h a (s, π, .ref (D.1 0), D.1 8) from (show sH h a (s, π, .ref (D.1 0), D.1 8) = h from I).symm) ?_
  refine ax_aload_n (pc := 0) G dX1_dump_0 rfl rfl ?_
  refine ax_cV1 (pc := 1) (kb := 58) (nb := 3988) G (cx_thereY hA (π := π) ha hp hs hE hX) lVX1_79_0 dX1_dump_1 (hX _) rfl (by decide) (Nat.le_of_ble_eq_true rfl) rfl ?_
  refine ax_pop (pc := 4) G dX1_dump_4 rfl ?_
  refine ax_aload_n (pc := 5) G dX1_dump_5 rfl rfl ?_
  refine ax_getf (pc := 6) (v := .ref a) G flX1_72_0 dX1_dump_6 (hX _) rfl ?_
  refine sr_get (pc := 9) (v := .int (s 0)) G flX1_243_1 dX1_dump_9 rfl ?_
  refine ax_aload_n (pc := 12) G dX1_dump_12 rfl rfl ?_
  refine ax_getf (pc := 13) (v := .ref a) G flX1_72_0 dX1_dump_13 (hX _) rfl ?_
  refine sr_get (pc := 16) (v := .ref (D.1 0)) G flX1_83_1 dX1_dump_16 rfl ?_
  refine ax_getf (pc := 19) (v := .int (pl 4)) G flX1_268_10 dX1_dump_19 (((hE (s, π, (.ref (D.1 0)), (D.1 8))).1).1) rfl ?_
  refine ax_iadd (pc := 22) G dX1_dump_22 ?_
  refine ax_aload_n (pc := 23) G dX1_dump_23 rfl rfl ?_
  refine ax_getf (pc := 24) (v := .ref a) G flX1_72_0 dX1_dump_24 (hX _) rfl ?_
  refine sr_get (pc := 27) (v := .ref (D.1 0)) G flX1_83_1 dX1_dump_27 rfl ?_
  refine ax_getf (pc := 30) (v := .int (pl 0)) G flX1_256_10 dX1_dump_30 (((hE (s, π, (.ref (D.1 0)), (D.1 8))).1).1) rfl ?_
  refine ax_icmp_gt (pc := 33) (tgt := 40) G dX1_dump_33 rfl (fun c9 => absurd c9 (by rw [eS 0 (by omega)]; exact hc)) (fun _ => ?_)
  refine ax_iconst (pc := 36) (v := nI 1) G dX1_dump_36 ic_1 ?_
  refine ax_goto (pc := 37) (tgt := 41) G dX1_dump_37 rfl ?_
  refine ax_cS0 (pc := 41) (kb := 57) (nb := 3982) G (ct_argY hA) lSX1_144 dX1_dump_41 rfl (by decide) (Nat.le_of_ble_eq_true rfl) rfl ?_
  refine ax_aload_n (pc := 44) G dX1_dump_44 rfl rfl ?_
  refine ax_getf (pc := 45) (v := .ref hi) G flX1_44_0 dX1_dump_45 (hX _) rfl ?_
  refine ax_aload_n (pc := 48) G dX1_dump_48 rfl rfl ?_
  refine ax_getf (pc := 49) (v := .ref a) G flX1_72_0 dX1_dump_49 (hX _) rfl ?_
  refine ax_nV (pc := 52) (kb := 28) (nb := 1256) G (cj_keepS hA J B o1 ht I) lVX1_437_7 dX1_dump_52 (hHi _) rfl (by decide) (Nat.le_of_ble_eq_true rfl) rfl (fun v9 h1 q9 => ?_)
  obtain ⟨rfl, w1, F1, G1, B1, p1⟩ := q9
  have I1 : sIs h1 a (s, π, .ref (D.1 0), D.1 8) := by rw [es]; exact B1.is
  have hE : cEn h1 a pl s N V O A D := by rw [es]; exact B1.enF
  have hX := B1.ot G1.x (by rw [G1.1.2.1]; omega)
  obtain ⟨Q01, hHi01⟩ : ∃ Q, ∀ σ, (sH h1 a σ).1 hi = some (.inr (7, [.ref Q])) := by obtain ⟨Q, -, -, -, -, -, ⟨x, -⟩, ⟨y, -⟩, -⟩ := G1.k; exact ⟨Q, B1.ot x (by omega)⟩
  have hHi := hHi01
  refine ax_hp (show h1 = sH h1 a (s, π, .ref (D.1 0), D.1 8) from (show sH h1 a (s, π, .ref (D.1 0), D.1 8) = h1 from I1).symm) ?_
  show ax_W Ω Γ _ _ (sH h1 a (s, π, (.ref (D.1 0)), (D.1 8))) _ _ (_)
  refine ax_aload_n (pc := 55) G dX1_dump_55 rfl rfl ?_
  refine ax_getf (pc := 56) (v := .ref a) G flX1_72_0 dX1_dump_56 (hX _) rfl ?_
  refine sr_get (pc := 59) (v := .int (s 3)) G flX1_248_1 dX1_dump_59 rfl ?_
  refine ax_istore_n (pc := 62) G dX1_dump_62 rfl (Nat.le_of_ble_eq_true rfl) rfl ?_
  refine ax_aload_n (pc := 63) G dX1_dump_63 rfl rfl ?_
  refine ax_getf (pc := 64) (v := .ref a) G flX1_72_0 dX1_dump_64 (hX _) rfl ?_
  refine ax_aload_n (pc := 67) G dX1_dump_67 rfl rfl ?_
  refine ax_getf (pc := 68) (v := .ref a) G flX1_72_0 dX1_dump_68 (hX _) rfl ?_
  refine sr_get (pc := 71) (v := .ref (D.1 0)) G flX1_83_1 dX1_dump_71 rfl ?_
  refine ax_getf (pc := 74) (v := .int (pl 4)) G flX1_268_10 dX1_dump_74 (((hE (s, π, (.ref (D.1 0)), (D.1 8))).1).1) rfl ?_
  refine ax_cV0 (pc := 77) (kb := 28) (nb := 1256) G (ct_makeDump hA (π := π) ha hp hs hE (pl 4)) lVX1_449_1 dX1_dump_77 sH_obj rfl (by decide) (Nat.le_of_ble_eq_true rfl) rfl ?_
  show ax_W Ω Γ _ _ (sH h1 a (cMd s (pl 4), π, (.ref (D.1 0)), (D.1 8))) _ _ _
  refine ax_aload_n (pc := 80) G dX1_dump_80 rfl rfl ?_
  refine ax_getf (pc := 81) (v := .ref a) G flX1_72_0 dX1_dump_81 (hX _) rfl ?_
  refine ax_dup (pc := 84) G dX1_dump_84 rfl ?_
  refine sr_get (pc := 85) (v := .int ((cMd s (pl 4)) 0)) G flX1_243_1 dX1_dump_85 rfl ?_
  refine ax_aload_n (pc := 88) G dX1_dump_88 rfl rfl ?_
  refine ax_getf (pc := 89) (v := .ref a) G flX1_72_0 dX1_dump_89 (hX _) rfl ?_
  refine sr_get (pc := 92) (v := .ref (D.1 0)) G flX1_83_1 dX1_dump_92 rfl ?_
  refine ax_getf (pc := 95) (v := .int (pl 4)) G flX1_268_10 dX1_dump_95 (((hE (cMd s (pl 4), π, (.ref (D.1 0)), (D.1 8))).1).1) rfl ?_
  refine ax_iadd (pc := 98) G dX1_dump_98 ?_
  refine sr_put (pc := 99) (k := 15) (r := 0) G flX1_243_1 dX1_dump_99 ha (by decide) (by decide) rfl rfl rfl ?_
  show ax_W Ω Γ _ _ (sH h1 a (pAdd (cMd s (pl 4)) 0 (pl 4), π, (.ref (D.1 0)), (D.1 8))) _ _ _
  refine ax_hp (show sH h1 a (pAdd (cMd s (pl 4)) 0 (pl 4), π, .ref (D.1 0), D.1 8) = sH h1 a (pF A (pDumps pl (μ.2 4)), π, .ref (D.1 0), D.1 8) from by rw [cMd_e, es, pF_dump]) ?_
  refine ax_iload_n (pc := 102) G dX1_dump_102 rfl rfl ?_
  exact ax_iretP (pc := 103) G E rfl (rfl) dX1_dump_103 (⟨_, rfl, congrArg (fun x => some (Value.int x)) (eS 3 (by omega)), w1, D, π, pol, F1.two B1.o, G1.blk B1.o ht, B1.up (B1.rw.dump hV9 B1.bp hc) pIm.dump (by unfold pDumps; simp (disch := omega) only [↓pads_ne, ↓pad_ne, ↓pu_ne]), p1⟩)

theorem cj_calibrate {Ω : ax_O} (hA : ax_Amb Ω) {h : ax_H} {w : Nat → Nat} {X bf tr hi sv lb a : Nat} {pl : pR} {N V O A u : Nat} {μ : md_S} {D : cD} {π : Nat → cP} {pol : Nat} (J : xG Ω h w X bf tr hi sv lb (.ref a) a pl N V O μ u) (B : xBk Ω h w a pl (μ.2 4) N V O A D π pol) (o1 : w (a + 1) = 1) (ht : tr ≠ a) (hc : ¬ pl 0 < μ.2 4 0 + pl 6)  : ax_MetP Ω yX1_calibrate 20 60 4000 [.ref X] h (ax_Nm fun v h' => v = some (.int (pCalibrates pl (μ.2 4) 0)) ∧ ∃ w' D' π' pol', xFr (fun o => 2 ≤ o) h h' w w' ∧ xG Ω h' w' X bf tr hi sv lb (.ref a) a pl N V O (mKeep μ u) (pU u) ∧ xBk Ω h' w' a pl (pCalibrates pl (μ.2 4)) N V O A D' π' pol' ∧ w' (a + 1) = 1) := by
  refine ax_metP q2498 q113 (by decide +kernel) (by decide) hA (Nat.le_of_ble_eq_true rfl) (fun Γ G E => ?_)
  obtain ⟨s, es⟩ : ∃ x, x = pF A (μ.2 4) := ⟨_, rfl⟩
  have ha := B.sz
  have hp := B.wp
  have hs : pWS s A := by rw [es]; exact B.ws.F
  have I : sIs h a (s, π, .ref (D.1 0), D.1 8) := by rw [es]; exact B.is
  have hE : cEn h a pl s N V O A D := by rw [es]; exact B.enF
  have hX := B.ot J.x (by rw [J.1.2.1]; omega)
  obtain ⟨Q0, hHi0⟩ : ∃ Q, ∀ σ, (sH h a σ).1 hi = some (.inr (7, [.ref Q])) := by obtain ⟨Q, -, -, -, -, -, ⟨x, -⟩, ⟨y, -⟩, -⟩ := J.k; exact ⟨Q, B.ot x (by omega)⟩
  have hHi := hHi0
  have wf := J.wf
  have hz := J.sz
  have hV9 := hp.lV
  have hA9 := hs.lA
  have hO9 := hp.lO
  have hN9 := hp.2.1.1
  have eS : ∀ i, (i < 127 ∨ 227 ≤ i) → s i = μ.2 4 i := fun i hi => by rw [es, pF_o (pX_lo hi)]
  show ax_W Ω Γ 60 4000 h 0 [some (.ref X)] []
  refine ax_hp (show h = sH h a (s, π, .ref (D.1 0), D.1 8) from (show sH h a (s, π, .ref (D.1 0), D.1 8) = h from I).symm) ?_
  refine ax_aload_n (pc := 0) G dX1_calibrate_0 rfl rfl ?_
  refine ax_cV1 (pc := 1) (kb := 58) (nb := 3988) G (cx_thereY hA (π := π) ha hp hs hE hX) lVX1_79_0 dX1_calibrate_1 (hX _) rfl (by decide) (Nat.le_of_ble_eq_true rfl) rfl ?_
  refine ax_pop (pc := 4) G dX1_calibrate_4 rfl ?_
  refine ax_aload_n (pc := 5) G dX1_calibrate_5 rfl rfl ?_
  refine ax_getf (pc := 6) (v := .ref a) G flX1_72_0 dX1_calibrate_6 (hX _) rfl ?_
  refine sr_get (pc := 9) (v := .int (s 0)) G flX1_243_1 dX1_calibrate_9 rfl ?_
  refine ax_aload_n (pc := 12) G dX1_calibrate_12 rfl rfl ?_
  refine ax_getf (pc := 13) (v := .ref a) G flX1_72_0 dX1_calibrate_13 (hX _) rfl ?_
  refine sr_get (pc := 16) (v := .ref (D.1 0)) G flX1_83_1 dX1_calibrate_16 rfl ?_
  refine ax_getf (pc := 19) (v := .int (pl 6)) G flX1_274_10 dX1_calibrate_19 (((hE (s, π, (.ref (D.1 0)), (D.1 8))).1).1) rfl ?_
  refine ax_iadd (pc := 22) G dX1_calibrate_22 ?_
  refine ax_aload_n (pc := 23) G dX1_calibrate_23 rfl rfl ?_
  refine ax_getf (pc := 24) (v := .ref a) G flX1_72_0 dX1_calibrate_24 (hX _) rfl ?_
  refine sr_get (pc := 27) (v := .ref (D.1 0)) G flX1_83_1 dX1_calibrate_27 rfl ?_
  refine ax_getf (pc := 30) (v := .int (pl 0)) G flX1_256_10 dX1_calibrate_30 (((hE (s, π, (.ref (D.1 0)), (D.1 8))).1).1) rfl ?_
  refine ax_icmp_gt (pc := 33) (tgt := 40) G dX1_calibrate_33 rfl (fun c9 => absurd c9 (by rw [eS 0 (by omega)]; exact hc)) (fun _ => ?_)
  refine ax_iconst (pc := 36) (v := nI 1) G dX1_calibrate_36 ic_1 ?_
  refine ax_goto (pc := 37) (tgt := 41) G dX1_calibrate_37 rfl ?_
  refine ax_cS0 (pc := 41) (kb := 57) (nb := 3982) G (ct_argY hA) lSX1_144 dX1_calibrate_41 rfl (by decide) (Nat.le_of_ble_eq_true rfl) rfl ?_
  refine ax_aload_n (pc := 44) G dX1_calibrate_44 rfl rfl ?_
  refine ax_getf (pc := 45) (v := .ref hi) G flX1_44_0 dX1_calibrate_45 (hX _) rfl ?_
  refine ax_aload_n (pc := 48) G dX1_calibrate_48 rfl rfl ?_
  refine ax_getf (pc := 49) (v := .ref a) G flX1_72_0 dX1_calibrate_49 (hX _) rfl ?_
  refine ax_nV (pc := 52) (kb := 28) (nb := 1256) G (cj_keepS hA J B o1 ht I) lVX1_437_7 dX1_calibrate_52 (hHi _) rfl (by decide) (Nat.le_of_ble_eq_true rfl) rfl (fun v9 h1 q9 => ?_)
  obtain ⟨rfl, w1, F1, G1, B1, p1⟩ := q9
  have I1 : sIs h1 a (s, π, .ref (D.1 0), D.1 8) := by rw [es]; exact B1.is
  have hE : cEn h1 a pl s N V O A D := by rw [es]; exact B1.enF
  have hX := B1.ot G1.x (by rw [G1.1.2.1]; omega)
  obtain ⟨Q01, hHi01⟩ : ∃ Q, ∀ σ, (sH h1 a σ).1 hi = some (.inr (7, [.ref Q])) := by obtain ⟨Q, -, -, -, -, -, ⟨x, -⟩, ⟨y, -⟩, -⟩ := G1.k; exact ⟨Q, B1.ot x (by omega)⟩
  have hHi := hHi01
  refine ax_hp (show h1 = sH h1 a (s, π, .ref (D.1 0), D.1 8) from (show sH h1 a (s, π, .ref (D.1 0), D.1 8) = h1 from I1).symm) ?_
  show ax_W Ω Γ _ _ (sH h1 a (s, π, (.ref (D.1 0)), (D.1 8))) _ _ (_)
  refine ax_aload_n (pc := 55) G dX1_calibrate_55 rfl rfl ?_
  refine ax_getf (pc := 56) (v := .ref a) G flX1_72_0 dX1_calibrate_56 (hX _) rfl ?_
  refine ax_cV0 (pc := 59) (kb := 28) (nb := 1256) G (ct_makeCal hA (π := π) ha hp hs hE) lVX1_452_1 dX1_calibrate_59 sH_obj rfl (by decide) (Nat.le_of_ble_eq_true rfl) rfl ?_
  show ax_W Ω Γ _ _ (sH h1 a (pCalibrates pl s, π, (.ref (D.1 0)), (D.1 8))) _ _ _
  refine ax_hp (show sH h1 a (pCalibrates pl s, π, .ref (D.1 0), D.1 8) = sH h1 a (pF A (pCalibrates pl (μ.2 4)), π, .ref (D.1 0), D.1 8) from by rw [es, pF_cal]) ?_
  refine ax_aload_n (pc := 62) G dX1_calibrate_62 rfl rfl ?_
  refine ax_getf (pc := 63) (v := .ref a) G flX1_72_0 dX1_calibrate_63 (hX _) rfl ?_
  refine sr_get (pc := 66) (v := .int ((pF A (pCalibrates pl (μ.2 4))) 0)) G flX1_243_1 dX1_calibrate_66 rfl ?_
  exact ax_iretP (pc := 69) G E rfl (rfl) dX1_calibrate_69 (⟨_, rfl, congrArg (fun x => some (Value.int x)) (pF_o (pX_lo (by omega))), w1, D, π, pol, F1.two B1.o, G1.blk B1.o ht, B1.up (B1.rw.cal hV9 B1.bp hc) pIm.cal (by unfold pCalibrates; simp (disch := omega) only [↓pads_ne, ↓pad_ne, ↓pu_ne]), p1⟩)

theorem cj_cancel {Ω : ax_O} (hA : ax_Amb Ω) {h : ax_H} {w : Nat → Nat} {X bf tr hi sv lb a : Nat} {pl : pR} {N V O A u : Nat} {μ : md_S} {D : cD} {π : Nat → cP} {pol : Nat} (J : xG Ω h w X bf tr hi sv lb (.ref a) a pl N V O μ u) (B : xBk Ω h w a pl (μ.2 4) N V O A D π pol) (o1 : w (a + 1) = 1) (ht : tr ≠ a) (k : Nat) (hk : k < V) (hf : μ.2 4 (47 + k) = nI 0)  : ax_MetP Ω yX1_cancel 21 60 4000 [.ref X, .int (nI k)] h (ax_Nm fun v h' => v = some (.int (nI 1)) ∧ ∃ w' D' π' pol', xFr (fun o => 2 ≤ o) h h' w w' ∧ xG Ω h' w' X bf tr hi sv lb (.ref a) a pl N V O (mKeep μ u) (pU u) ∧ xBk Ω h' w' a pl (upd (μ.2 4) (47 + k) (nI 2)) N V O A D' π' pol' ∧ w' (a + 1) = 1) := by
  refine ax_metP q2456 q113 (by decide +kernel) (by decide) hA (Nat.le_of_ble_eq_true rfl) (fun Γ G E => ?_)
  show ax_W Ω Γ 60 4000 h 0 [some (.ref X), some (.int (nI k))] []
  refine ax_aload_n (pc := 0) G dX1_cancel_0 rfl rfl ?_
  refine ax_iload_n (pc := 1) G dX1_cancel_1 rfl rfl ?_
  refine ax_iconst (pc := 2) (v := nI 0) G dX1_cancel_2 ic_0 ?_
  refine ax_iconst (pc := 3) (v := nI 2) G dX1_cancel_3 ic_2 ?_
  refine ax_nV (pc := 4) (kb := 0) (nb := 0) G (cj_change hA J B o1 ht k hk (nI 0) (nI 2) hf (by decide) (by decide)) lVX1_441_0 dX1_cancel_4 (J.x) rfl (by decide) (Nat.le_of_ble_eq_true rfl) rfl (fun v9 h1 q9 => ?_)
  have Q9 := q9
  obtain ⟨rfl, _⟩ := q9
  show ax_W Ω Γ _ _ (h1) _ _ (.int (nI 1) :: _)
  exact ax_iretP (pc := 7) G E rfl (rfl) dX1_cancel_7 (⟨_, rfl, Q9⟩)

theorem cj_requeue {Ω : ax_O} (hA : ax_Amb Ω) {h : ax_H} {w : Nat → Nat} {X bf tr hi sv lb a : Nat} {pl : pR} {N V O A u : Nat} {μ : md_S} {D : cD} {π : Nat → cP} {pol : Nat} (J : xG Ω h w X bf tr hi sv lb (.ref a) a pl N V O μ u) (B : xBk Ω h w a pl (μ.2 4) N V O A D π pol) (o1 : w (a + 1) = 1) (ht : tr ≠ a) (k : Nat) (hk : k < V) (hf : μ.2 4 (47 + k) = nI 2)  : ax_MetP Ω yX1_requeue 21 60 4000 [.ref X, .int (nI k)] h (ax_Nm fun v h' => v = some (.int (nI 1)) ∧ ∃ w' D' π' pol', xFr (fun o => 2 ≤ o) h h' w w' ∧ xG Ω h' w' X bf tr hi sv lb (.ref a) a pl N V O (mKeep μ u) (pU u) ∧ xBk Ω h' w' a pl (upd (μ.2 4) (47 + k) (nI 0)) N V O A D' π' pol' ∧ w' (a + 1) = 1) := by
  refine ax_metP q2467 q113 (by decide +kernel) (by decide) hA (Nat.le_of_ble_eq_true rfl) (fun Γ G E => ?_)
  show ax_W Ω Γ 60 4000 h 0 [some (.ref X), some (.int (nI k))] []
  refine ax_aload_n (pc := 0) G dX1_requeue_0 rfl rfl ?_
  refine ax_iload_n (pc := 1) G dX1_requeue_1 rfl rfl ?_
  refine ax_iconst (pc := 2) (v := nI 2) G dX1_requeue_2 ic_2 ?_
  refine ax_iconst (pc := 3) (v := nI 0) G dX1_requeue_3 ic_0 ?_
  refine ax_nV (pc := 4) (kb := 0) (nb := 0) G (cj_change hA J B o1 ht k hk (nI 2) (nI 0) hf (by decide) (by decide)) lVX1_441_0 dX1_requeue_4 (J.x) rfl (by decide) (Nat.le_of_ble_eq_true rfl) rfl (fun v9 h1 q9 => ?_)
  have Q9 := q9
  obtain ⟨rfl, _⟩ := q9
  show ax_W Ω Γ _ _ (h1) _ _ (.int (nI 1) :: _)
  exact ax_iretP (pc := 7) G E rfl (rfl) dX1_requeue_7 (⟨_, rfl, Q9⟩)

theorem cq_run_N {Ω : ax_O} (hA : ax_Amb Ω) {h : ax_H} {X bf tr hi sv lb : Nat} {x1 x2 x3 : Int32} (hX : h.1 X = some (.inr (0, [.ref bf, .int x1, .int x2, .int x3, .null, .ref tr, .ref hi, .ref sv, .ref lb]))) (k : Int32)  : ax_Met Ω yX1_run 20 4 24 [.ref X, .int k] h (.inr h.2) (ax_add h (.inr (21, []))) := by
  refine ax_met q2384 q113 (by decide +kernel) (by decide) hA (Nat.le_of_ble_eq_true rfl) (fun Γ G E => ?_)
  show ax_W Ω Γ 4 24 h 0 [some (.ref X), some (.int k)] []
  refine ax_aload_n (pc := 0) G dX1_run_0 rfl rfl ?_
  refine ax_callV (pc := 1) (kb := 2) (nb := 12) G (cx_thereN hA hX) lVX1_79_0 dX1_run_1 (hX) rfl (by decide) (Nat.le_of_ble_eq_true rfl) rfl (fun _ e9 => by cases e9) (fun q9 e9 => ?_)
  cases e9
  exact ax_out G E (fun x hx => by cases hx)

theorem cq_run_B {Ω : ax_O} (hA : ax_Amb Ω) {h : ax_H} {a : Nat} {pl s : pR} {π : Nat → cP} {N V O A : Nat} {D : cD} (ha : Ω.2.1.heap.size ≤ a) (hp : pWP pl N V O) (hs : pWS s A) (hE : cEn h a pl s N V O A D) {X bf tr hi sv lb : Nat} {x1 x2 x3 : Int32} (hX : ∀ σ, (sH h a σ).1 X = some (.inr (0, [.ref bf, .int x1, .int x2, .int x3, .ref a, .ref tr, .ref hi, .ref sv, .ref lb]))) (k : Int32) (hb : pIn k (nI 1) (nI 300) = false)  : ax_Met Ω yX1_run 20 4 24 [.ref X, .int k] (sH h a (s, π, (.ref (D.1 0)), (D.1 8))) (.inr (sH h a (s, π, (.ref (D.1 0)), (D.1 8))).2) (ax_add (sH h a (s, π, (.ref (D.1 0)), (D.1 8))) (.inr (20, []))) := by
  refine ax_met q2384 q113 (by decide +kernel) (by decide) hA (Nat.le_of_ble_eq_true rfl) (fun Γ G E => ?_)
  have hV9 := hp.lV
  have hA9 := hs.lA
  have hO9 := hp.lO
  show ax_W Ω Γ 4 24 (sH h a (s, π, (.ref (D.1 0)), (D.1 8))) 0 [some (.ref X), some (.int k)] []
  refine ax_aload_n (pc := 0) G dX1_run_0 rfl rfl ?_
  refine ax_cV1 (pc := 1) (kb := 2) (nb := 12) G (cx_thereY hA (π := π) ha hp hs hE hX) lVX1_79_0 dX1_run_1 (hX _) rfl (by decide) (Nat.le_of_ble_eq_true rfl) rfl ?_
  refine ax_pop (pc := 4) G dX1_run_4 rfl ?_
  refine ax_iload_n (pc := 5) G dX1_run_5 rfl rfl ?_
  refine ax_i2l (pc := 6) G dX1_run_6 rfl ?_
  refine ax_lconst (pc := 7) (v := 1) G dX1_run_7 rfl ?_
  refine ax_ldc2 (pc := 8) G q2077 dX1_run_8 ?_
  refine ax_cS1 (pc := 11) (kb := 2) (nb := 12) G (ct_in hA k.toInt64 1 300) lSX1_62 dX1_run_11 rfl (by decide) (Nat.le_of_ble_eq_true rfl) rfl ?_
  rw [cIn_k (A := 1) (B := 300) (a := (nI 1)) (b := (nI 300)) k (by decide) (by decide)]
  refine ax_callS (pc := 14) (kb := 1) (nb := 6) G (ct_argNb hA (B := (pIn k (nI 1) (nI 300))) (hb)) lSX1_144 dX1_run_14 rfl (by decide) (Nat.le_of_ble_eq_true rfl) rfl (fun _ e9 => by cases e9) (fun q9 e9 => ?_)
  cases e9
  exact ax_out G E (fun x hx => by cases hx)

theorem cq_setPolicy_N {Ω : ax_O} (hA : ax_Amb Ω) {h : ax_H} {X bf tr hi sv lb : Nat} {x1 x2 x3 : Int32} (hX : h.1 X = some (.inr (0, [.ref bf, .int x1, .int x2, .int x3, .null, .ref tr, .ref hi, .ref sv, .ref lb]))) (k : Int32)  : ax_Met Ω yX1_setPolicy 20 4 24 [.ref X, .int k] h (.inr h.2) (ax_add h (.inr (21, []))) := by
  refine ax_met q2449 q113 (by decide +kernel) (by decide) hA (Nat.le_of_ble_eq_true rfl) (fun Γ G E => ?_)
  show ax_W Ω Γ 4 24 h 0 [some (.ref X), some (.int k), none] []
  refine ax_aload_n (pc := 0) G dX1_setPolicy_0 rfl rfl ?_
  refine ax_callV (pc := 1) (kb := 2) (nb := 12) G (cx_thereN hA hX) lVX1_79_0 dX1_setPolicy_1 (hX) rfl (by decide) (Nat.le_of_ble_eq_true rfl) rfl (fun _ e9 => by cases e9) (fun q9 e9 => ?_)
  cases e9
  exact ax_out G E (fun x hx => by cases hx)

theorem cq_setPolicy_B {Ω : ax_O} (hA : ax_Amb Ω) {h : ax_H} {a : Nat} {pl s : pR} {π : Nat → cP} {N V O A : Nat} {D : cD} (ha : Ω.2.1.heap.size ≤ a) (hp : pWP pl N V O) (hs : pWS s A) (hE : cEn h a pl s N V O A D) {X bf tr hi sv lb : Nat} {x1 x2 x3 : Int32} (hX : ∀ σ, (sH h a σ).1 X = some (.inr (0, [.ref bf, .int x1, .int x2, .int x3, .ref a, .ref tr, .ref hi, .ref sv, .ref lb]))) (k : Int32) (hb : pIn k (nI 0) (nI 3) = false)  : ax_Met Ω yX1_setPolicy 20 4 24 [.ref X, .int k] (sH h a (s, π, (.ref (D.1 0)), (D.1 8))) (.inr (sH h a (s, π, (.ref (D.1 0)), (D.1 8))).2) (ax_add (sH h a (s, π, (.ref (D.1 0)), (D.1 8))) (.inr (20, []))) := by
  refine ax_met q2449 q113 (by decide +kernel) (by decide) hA (Nat.le_of_ble_eq_true rfl) (fun Γ G E => ?_)
  have hV9 := hp.lV
  have hA9 := hs.lA
  have hO9 := hp.lO
  show ax_W Ω Γ 4 24 (sH h a (s, π, (.ref (D.1 0)), (D.1 8))) 0 [some (.ref X), some (.int k), none] []
  refine ax_aload_n (pc := 0) G dX1_setPolicy_0 rfl rfl ?_
  refine ax_cV1 (pc := 1) (kb := 2) (nb := 12) G (cx_thereY hA (π := π) ha hp hs hE hX) lVX1_79_0 dX1_setPolicy_1 (hX _) rfl (by decide) (Nat.le_of_ble_eq_true rfl) rfl ?_
  refine ax_pop (pc := 4) G dX1_setPolicy_4 rfl ?_
  refine ax_iload_n (pc := 5) G dX1_setPolicy_5 rfl rfl ?_
  refine ax_i2l (pc := 6) G dX1_setPolicy_6 rfl ?_
  refine ax_lconst (pc := 7) (v := 0) G dX1_setPolicy_7 rfl ?_
  refine ax_ldc2 (pc := 8) G q2061 dX1_setPolicy_8 ?_
  refine ax_cS1 (pc := 11) (kb := 2) (nb := 12) G (ct_in hA k.toInt64 0 3) lSX1_62 dX1_setPolicy_11 rfl (by decide) (Nat.le_of_ble_eq_true rfl) rfl ?_
  rw [cIn_k (A := 0) (B := 3) (a := (nI 0)) (b := (nI 3)) k (by decide) (by decide)]
  refine ax_callS (pc := 14) (kb := 1) (nb := 6) G (ct_argNb hA (B := (pIn k (nI 0) (nI 3))) (hb)) lSX1_144 dX1_setPolicy_14 rfl (by decide) (Nat.le_of_ble_eq_true rfl) rfl (fun _ e9 => by cases e9) (fun q9 e9 => ?_)
  cases e9
  exact ax_out G E (fun x hx => by cases hx)

theorem cq_setPriority_N {Ω : ax_O} (hA : ax_Amb Ω) {h : ax_H} {X bf tr hi sv lb : Nat} {x1 x2 x3 : Int32} (hX : h.1 X = some (.inr (0, [.ref bf, .int x1, .int x2, .int x3, .null, .ref tr, .ref hi, .ref sv, .ref lb]))) (k : Int32) (w : Int32)  : ax_Met Ω yX1_setPriority 20 4 24 [.ref X, .int k, .int w] h (.inr h.2) (ax_add h (.inr (21, []))) := by
  refine ax_met q2474 q113 (by decide +kernel) (by decide) hA (Nat.le_of_ble_eq_true rfl) (fun Γ G E => ?_)
  show ax_W Ω Γ 4 24 h 0 [some (.ref X), some (.int k), some (.int w), none, none] []
  refine ax_aload_n (pc := 0) G dX1_setPriority_0 rfl rfl ?_
  refine ax_iload_n (pc := 1) G dX1_setPriority_1 rfl rfl ?_
  refine ax_callV (pc := 2) (kb := 1) (nb := 6) G (cx_withVisitN hA hX k) lVX1_186_0 dX1_setPriority_2 (hX) rfl (by decide) (Nat.le_of_ble_eq_true rfl) rfl (fun _ e9 => by cases e9) (fun q9 e9 => ?_)
  cases e9
  exact ax_out G E (fun x hx => by cases hx)

theorem cq_setPriority_B {Ω : ax_O} (hA : ax_Amb Ω) {h : ax_H} {a : Nat} {pl s : pR} {π : Nat → cP} {N V O A : Nat} {D : cD} (ha : Ω.2.1.heap.size ≤ a) (hp : pWP pl N V O) (hs : pWS s A) (hE : cEn h a pl s N V O A D) {X bf tr hi sv lb : Nat} {x1 x2 x3 : Int32} (hX : ∀ σ, (sH h a σ).1 X = some (.inr (0, [.ref bf, .int x1, .int x2, .int x3, .ref a, .ref tr, .ref hi, .ref sv, .ref lb]))) (k w : Int32) (hb : pIn k (nI 0) (nI V - nI 1) = false)  : ax_Met Ω yX1_setPriority 20 4 24 [.ref X, .int k, .int w] (sH h a (s, π, (.ref (D.1 0)), (D.1 8))) (.inr (sH h a (s, π, (.ref (D.1 0)), (D.1 8))).2) (ax_add (sH h a (s, π, (.ref (D.1 0)), (D.1 8))) (.inr (22, []))) := by
  refine ax_met q2474 q113 (by decide +kernel) (by decide) hA (Nat.le_of_ble_eq_true rfl) (fun Γ G E => ?_)
  have hV9 := hp.lV
  have hA9 := hs.lA
  have hO9 := hp.lO
  show ax_W Ω Γ 4 24 (sH h a (s, π, (.ref (D.1 0)), (D.1 8))) 0 [some (.ref X), some (.int k), some (.int w), none, none] []
  refine ax_aload_n (pc := 0) G dX1_setPriority_0 rfl rfl ?_
  refine ax_iload_n (pc := 1) G dX1_setPriority_1 rfl rfl ?_
  refine ax_callV (pc := 2) (kb := 1) (nb := 6) G (cx_withVisitB hA (π := π) ha hp hs hE hX k hb) lVX1_186_0 dX1_setPriority_2 (hX _) rfl (by decide) (Nat.le_of_ble_eq_true rfl) rfl (fun _ e9 => by cases e9) (fun q9 e9 => ?_)
  cases e9
  exact ax_out G E (fun x hx => by cases hx)

theorem cq_setPriority_C {Ω : ax_O} (hA : ax_Amb Ω) {h : ax_H} {a : Nat} {pl s : pR} {π : Nat → cP} {N V O A : Nat} {D : cD} (ha : Ω.2.1.heap.size ≤ a) (hp : pWP pl N V O) (hs : pWS s A) (hE : cEn h a pl s N V O A D) {X bf tr hi sv lb : Nat} {x1 x2 x3 : Int32} (hX : ∀ σ, (sH h a σ).1 X = some (.inr (0, [.ref bf, .int x1, .int x2, .int x3, .ref a, .ref tr, .ref hi, .ref sv, .ref lb]))) (k : Nat) (hk : k < V) (w : Int32) (hb : pIn w (nI 1) (nI 9) = false)  : ax_Met Ω yX1_setPriority 20 4 24 [.ref X, .int (nI k), .int w] (sH h a (s, π, (.ref (D.1 0)), (D.1 8))) (.inr (sH h a (s, π, (.ref (D.1 0)), (D.1 8))).2) (ax_add (sH h a (s, π, (.ref (D.1 0)), (D.1 8))) (.inr (20, []))) := by
  refine ax_met q2474 q113 (by decide +kernel) (by decide) hA (Nat.le_of_ble_eq_true rfl) (fun Γ G E => ?_)
  have hV9 := hp.lV
  have hA9 := hs.lA
  have hO9 := hp.lO
  show ax_W Ω Γ 4 24 (sH h a (s, π, (.ref (D.1 0)), (D.1 8))) 0 [some (.ref X), some (.int (nI k)), some (.int w), none, none] []
  refine ax_aload_n (pc := 0) G dX1_setPriority_0 rfl rfl ?_
  refine ax_iload_n (pc := 1) G dX1_setPriority_1 rfl rfl ?_
  refine ax_cV1 (pc := 2) (kb := 1) (nb := 6) G (cx_withVisitY hA (π := π) ha hp hs hE hX k (by omega)) lVX1_186_0 dX1_setPriority_2 (hX _) rfl (by decide) (Nat.le_of_ble_eq_true rfl) rfl ?_
  refine ax_astore_n (pc := 5) G dX1_setPriority_5 rfl (Nat.le_of_ble_eq_true rfl) rfl ?_
  refine ax_iload_n (pc := 6) G dX1_setPriority_6 rfl rfl ?_
  refine ax_i2l (pc := 7) G dX1_setPriority_7 rfl ?_
  refine ax_lconst (pc := 8) (v := 1) G dX1_setPriority_8 rfl ?_
  refine ax_ldc2 (pc := 9) G q2475 dX1_setPriority_9 ?_
  refine ax_cS1 (pc := 12) (kb := 1) (nb := 6) G (ct_in hA w.toInt64 1 9) lSX1_62 dX1_setPriority_12 rfl (by decide) (Nat.le_of_ble_eq_true rfl) rfl ?_
  rw [cIn_k (A := 1) (B := 9) (a := (nI 1)) (b := (nI 9)) w (by decide) (by decide)]
  refine ax_callS (pc := 15) (kb := 0) (nb := 0) G (ct_argNb hA (B := (pIn w (nI 1) (nI 9))) (hb)) lSX1_144 dX1_setPriority_15 rfl (by decide) (Nat.le_of_ble_eq_true rfl) rfl (fun _ e9 => by cases e9) (fun q9 e9 => ?_)
  cases e9
  exact ax_out G E (fun x hx => by cases hx)

theorem cq_grant_N {Ω : ax_O} (hA : ax_Amb Ω) {h : ax_H} {X bf tr hi sv lb : Nat} {x1 x2 x3 : Int32} (hX : h.1 X = some (.inr (0, [.ref bf, .int x1, .int x2, .int x3, .null, .ref tr, .ref hi, .ref sv, .ref lb]))) (k : Int32) (w : Int32)  : ax_Met Ω yX1_grant 20 4 24 [.ref X, .int k, .int w] h (.inr h.2) (ax_add h (.inr (21, []))) := by
  refine ax_met q2482 q113 (by decide +kernel) (by decide) hA (Nat.le_of_ble_eq_true rfl) (fun Γ G E => ?_)
  show ax_W Ω Γ 4 24 h 0 [some (.ref X), some (.int k), some (.int w), none] []
  refine ax_aload_n (pc := 0) G dX1_grant_0 rfl rfl ?_
  refine ax_iload_n (pc := 1) G dX1_grant_1 rfl rfl ?_
  refine ax_callV (pc := 2) (kb := 1) (nb := 6) G (cx_withProposalN hA hX k) lVX1_138_0 dX1_grant_2 (hX) rfl (by decide) (Nat.le_of_ble_eq_true rfl) rfl (fun _ e9 => by cases e9) (fun q9 e9 => ?_)
  cases e9
  exact ax_out G E (fun x hx => by cases hx)

theorem cq_grant_B {Ω : ax_O} (hA : ax_Amb Ω) {h : ax_H} {a : Nat} {pl s : pR} {π : Nat → cP} {N V O A : Nat} {D : cD} (ha : Ω.2.1.heap.size ≤ a) (hp : pWP pl N V O) (hs : pWS s A) (hE : cEn h a pl s N V O A D) {X bf tr hi sv lb : Nat} {x1 x2 x3 : Int32} (hX : ∀ σ, (sH h a σ).1 X = some (.inr (0, [.ref bf, .int x1, .int x2, .int x3, .ref a, .ref tr, .ref hi, .ref sv, .ref lb]))) (k w : Int32) (hb : pIn k (nI 0) (nI N - nI 1) = false)  : ax_Met Ω yX1_grant 20 4 24 [.ref X, .int k, .int w] (sH h a (s, π, (.ref (D.1 0)), (D.1 8))) (.inr (sH h a (s, π, (.ref (D.1 0)), (D.1 8))).2) (ax_add (sH h a (s, π, (.ref (D.1 0)), (D.1 8))) (.inr (22, []))) := by
  refine ax_met q2482 q113 (by decide +kernel) (by decide) hA (Nat.le_of_ble_eq_true rfl) (fun Γ G E => ?_)
  have hV9 := hp.lV
  have hA9 := hs.lA
  have hO9 := hp.lO
  have hN9 := hp.2.1.1
  show ax_W Ω Γ 4 24 (sH h a (s, π, (.ref (D.1 0)), (D.1 8))) 0 [some (.ref X), some (.int k), some (.int w), none] []
  refine ax_aload_n (pc := 0) G dX1_grant_0 rfl rfl ?_
  refine ax_iload_n (pc := 1) G dX1_grant_1 rfl rfl ?_
  refine ax_callV (pc := 2) (kb := 1) (nb := 6) G (cx_withProposalB hA (π := π) ha hp hs hE hX k hb) lVX1_138_0 dX1_grant_2 (hX _) rfl (by decide) (Nat.le_of_ble_eq_true rfl) rfl (fun _ e9 => by cases e9) (fun q9 e9 => ?_)
  cases e9
  exact ax_out G E (fun x hx => by cases hx)

theorem cq_grant_C1 {Ω : ax_O} (hA : ax_Amb Ω) {h : ax_H} {a : Nat} {pl s : pR} {π : Nat → cP} {N V O A : Nat} {D : cD} (ha : Ω.2.1.heap.size ≤ a) (hp : pWP pl N V O) (hs : pWS s A) (hE : cEn h a pl s N V O A D) {X bf tr hi sv lb : Nat} {x1 x2 x3 : Int32} (hX : ∀ σ, (sH h a σ).1 X = some (.inr (0, [.ref bf, .int x1, .int x2, .int x3, .ref a, .ref tr, .ref hi, .ref sv, .ref lb]))) (k : Nat) (hk : k < N) (w : Int32) (hb : pIn w (-2000) (nI 2000) = false)  : ax_Met Ω yX1_grant 20 4 24 [.ref X, .int (nI k), .int w] (sH h a (s, π, (.ref (D.1 0)), (D.1 8))) (.inr (sH h a (s, π, (.ref (D.1 0)), (D.1 8))).2) (ax_add (sH h a (s, π, (.ref (D.1 0)), (D.1 8))) (.inr (20, []))) := by
  refine ax_met q2482 q113 (by decide +kernel) (by decide) hA (Nat.le_of_ble_eq_true rfl) (fun Γ G E => ?_)
  have hV9 := hp.lV
  have hA9 := hs.lA
  have hO9 := hp.lO
  have hN9 := hp.2.1.1
  show ax_W Ω Γ 4 24 (sH h a (s, π, (.ref (D.1 0)), (D.1 8))) 0 [some (.ref X), some (.int (nI k)), some (.int w), none] []
  refine ax_aload_n (pc := 0) G dX1_grant_0 rfl rfl ?_
  refine ax_iload_n (pc := 1) G dX1_grant_1 rfl rfl ?_
  refine ax_cV1 (pc := 2) (kb := 1) (nb := 6) G (cx_withProposalY hA (π := π) ha hp hs hE hX k (by omega)) lVX1_138_0 dX1_grant_2 (hX _) rfl (by decide) (Nat.le_of_ble_eq_true rfl) rfl ?_
  refine ax_astore_n (pc := 5) G dX1_grant_5 rfl (Nat.le_of_ble_eq_true rfl) rfl ?_
  refine ax_iload_n (pc := 6) G dX1_grant_6 rfl rfl ?_
  refine ax_i2l (pc := 7) G dX1_grant_7 rfl ?_
  refine ax_ldc2 (pc := 8) G q2483 dX1_grant_8 ?_
  refine ax_ldc2 (pc := 11) G q2185 dX1_grant_11 ?_
  refine ax_cS1 (pc := 14) (kb := 1) (nb := 6) G (ct_in hA w.toInt64 (-2000) 2000) lSX1_62 dX1_grant_14 rfl (by decide) (Nat.le_of_ble_eq_true rfl) rfl ?_
  rw [cIn_k (A := (-2000)) (B := 2000) (a := (-2000)) (b := (nI 2000)) w (by decide) (by decide)]
  refine ax_if_eq (pc := 17) (tgt := 48) G dX1_grant_17 rfl (fun _ => ?_) (fun c9 => absurd (by rw [hb]; rfl) c9)
  refine ax_iconst (pc := 48) (v := nI 0) G dX1_grant_48 ic_0 ?_
  refine ax_callS (pc := 49) (kb := 0) (nb := 0) G (ct_argN hA) lSX1_144 dX1_grant_49 rfl (by decide) (Nat.le_of_ble_eq_true rfl) rfl (fun _ e9 => by cases e9) (fun q9 e9 => ?_)
  cases e9
  exact ax_out G E (fun x hx => by cases hx)

theorem cq_grant_C2 {Ω : ax_O} (hA : ax_Amb Ω) {h : ax_H} {a : Nat} {pl s : pR} {π : Nat → cP} {N V O A : Nat} {D : cD} (ha : Ω.2.1.heap.size ≤ a) (hp : pWP pl N V O) (hs : pWS s A) (hE : cEn h a pl s N V O A D) {X bf tr hi sv lb : Nat} {x1 x2 x3 : Int32} (hX : ∀ σ, (sH h a σ).1 X = some (.inr (0, [.ref bf, .int x1, .int x2, .int x3, .ref a, .ref tr, .ref hi, .ref sv, .ref lb]))) (k : Nat) (hk : k < N) (w : Int32) (m1 : pIn w (-2000) (nI 2000) = true) (hb : pLeft s k + w < 0)  : ax_Met Ω yX1_grant 20 4 24 [.ref X, .int (nI k), .int w] (sH h a (s, π, (.ref (D.1 0)), (D.1 8))) (.inr (sH h a (s, π, (.ref (D.1 0)), (D.1 8))).2) (ax_add (sH h a (s, π, (.ref (D.1 0)), (D.1 8))) (.inr (20, []))) := by
  refine ax_met q2482 q113 (by decide +kernel) (by decide) hA (Nat.le_of_ble_eq_true rfl) (fun Γ G E => ?_)
  have hV9 := hp.lV
  have hA9 := hs.lA
  have hO9 := hp.lO
  have hN9 := hp.2.1.1
  show ax_W Ω Γ 4 24 (sH h a (s, π, (.ref (D.1 0)), (D.1 8))) 0 [some (.ref X), some (.int (nI k)), some (.int w), none] []
  refine ax_aload_n (pc := 0) G dX1_grant_0 rfl rfl ?_
  refine ax_iload_n (pc := 1) G dX1_grant_1 rfl rfl ?_
  refine ax_cV1 (pc := 2) (kb := 1) (nb := 6) G (cx_withProposalY hA (π := π) ha hp hs hE hX k (by omega)) lVX1_138_0 dX1_grant_2 (hX _) rfl (by decide) (Nat.le_of_ble_eq_true rfl) rfl ?_
  refine ax_astore_n (pc := 5) G dX1_grant_5 rfl (Nat.le_of_ble_eq_true rfl) rfl ?_
  refine ax_iload_n (pc := 6) G dX1_grant_6 rfl rfl ?_
  refine ax_i2l (pc := 7) G dX1_grant_7 rfl ?_
  refine ax_ldc2 (pc := 8) G q2483 dX1_grant_8 ?_
  refine ax_ldc2 (pc := 11) G q2185 dX1_grant_11 ?_
  refine ax_cS1 (pc := 14) (kb := 1) (nb := 6) G (ct_in hA w.toInt64 (-2000) 2000) lSX1_62 dX1_grant_14 rfl (by decide) (Nat.le_of_ble_eq_true rfl) rfl ?_
  rw [cIn_k (A := (-2000)) (B := 2000) (a := (-2000)) (b := (nI 2000)) w (by decide) (by decide)]
  refine ax_if_eq (pc := 17) (tgt := 48) G dX1_grant_17 rfl (fun c9 => absurd c9 (by rw [m1]; decide)) (fun _ => ?_)
  refine ax_aload_n (pc := 20) G dX1_grant_20 rfl rfl ?_
  refine ax_iload_n (pc := 21) G dX1_grant_21 rfl rfl ?_
  refine ax_cV1 (pc := 22) (kb := 1) (nb := 6) G (ct_left hA (π := π) k (by omega)) lVX1_157_1 dX1_grant_22 sH_obj rfl (by decide) (Nat.le_of_ble_eq_true rfl) rfl ?_
  refine ax_iload_n (pc := 25) G dX1_grant_25 rfl rfl ?_
  refine ax_iadd (pc := 26) G dX1_grant_26 ?_
  refine ax_if_lt (pc := 27) (tgt := 48) G dX1_grant_27 rfl (fun _ => ?_) (fun c9 => absurd hb c9)
  refine ax_iconst (pc := 48) (v := nI 0) G dX1_grant_48 ic_0 ?_
  refine ax_callS (pc := 49) (kb := 0) (nb := 0) G (ct_argN hA) lSX1_144 dX1_grant_49 rfl (by decide) (Nat.le_of_ble_eq_true rfl) rfl (fun _ e9 => by cases e9) (fun q9 e9 => ?_)
  cases e9
  exact ax_out G E (fun x hx => by cases hx)

theorem cq_grant_C3 {Ω : ax_O} (hA : ax_Amb Ω) {h : ax_H} {a : Nat} {pl s : pR} {π : Nat → cP} {N V O A : Nat} {D : cD} (ha : Ω.2.1.heap.size ≤ a) (hp : pWP pl N V O) (hs : pWS s A) (hE : cEn h a pl s N V O A D) {X bf tr hi sv lb : Nat} {x1 x2 x3 : Int32} (hX : ∀ σ, (sH h a σ).1 X = some (.inr (0, [.ref bf, .int x1, .int x2, .int x3, .ref a, .ref tr, .ref hi, .ref sv, .ref lb]))) (k : Nat) (hk : k < N) (w : Int32) (m1 : pIn w (-2000) (nI 2000) = true) (m2 : ¬ pLeft s k + w < 0) (hb : nI 9999 < s (17 + k) + w)  : ax_Met Ω yX1_grant 20 4 24 [.ref X, .int (nI k), .int w] (sH h a (s, π, (.ref (D.1 0)), (D.1 8))) (.inr (sH h a (s, π, (.ref (D.1 0)), (D.1 8))).2) (ax_add (sH h a (s, π, (.ref (D.1 0)), (D.1 8))) (.inr (20, []))) := by
  refine ax_met q2482 q113 (by decide +kernel) (by decide) hA (Nat.le_of_ble_eq_true rfl) (fun Γ G E => ?_)
  have hV9 := hp.lV
  have hA9 := hs.lA
  have hO9 := hp.lO
  have hN9 := hp.2.1.1
  show ax_W Ω Γ 4 24 (sH h a (s, π, (.ref (D.1 0)), (D.1 8))) 0 [some (.ref X), some (.int (nI k)), some (.int w), none] []
  refine ax_aload_n (pc := 0) G dX1_grant_0 rfl rfl ?_
  refine ax_iload_n (pc := 1) G dX1_grant_1 rfl rfl ?_
  refine ax_cV1 (pc := 2) (kb := 1) (nb := 6) G (cx_withProposalY hA (π := π) ha hp hs hE hX k (by omega)) lVX1_138_0 dX1_grant_2 (hX _) rfl (by decide) (Nat.le_of_ble_eq_true rfl) rfl ?_
  refine ax_astore_n (pc := 5) G dX1_grant_5 rfl (Nat.le_of_ble_eq_true rfl) rfl ?_
  refine ax_iload_n (pc := 6) G dX1_grant_6 rfl rfl ?_
  refine ax_i2l (pc := 7) G dX1_grant_7 rfl ?_
  refine ax_ldc2 (pc := 8) G q2483 dX1_grant_8 ?_
  refine ax_ldc2 (pc := 11) G q2185 dX1_grant_11 ?_
  refine ax_cS1 (pc := 14) (kb := 1) (nb := 6) G (ct_in hA w.toInt64 (-2000) 2000) lSX1_62 dX1_grant_14 rfl (by decide) (Nat.le_of_ble_eq_true rfl) rfl ?_
  rw [cIn_k (A := (-2000)) (B := 2000) (a := (-2000)) (b := (nI 2000)) w (by decide) (by decide)]
  refine ax_if_eq (pc := 17) (tgt := 48) G dX1_grant_17 rfl (fun c9 => absurd c9 (by rw [m1]; decide)) (fun _ => ?_)
  refine ax_aload_n (pc := 20) G dX1_grant_20 rfl rfl ?_
  refine ax_iload_n (pc := 21) G dX1_grant_21 rfl rfl ?_
  refine ax_cV1 (pc := 22) (kb := 1) (nb := 6) G (ct_left hA (π := π) k (by omega)) lVX1_157_1 dX1_grant_22 sH_obj rfl (by decide) (Nat.le_of_ble_eq_true rfl) rfl ?_
  refine ax_iload_n (pc := 25) G dX1_grant_25 rfl rfl ?_
  refine ax_iadd (pc := 26) G dX1_grant_26 ?_
  refine ax_if_lt (pc := 27) (tgt := 48) G dX1_grant_27 rfl (fun c9 => absurd c9 m2) (fun _ => ?_)
  refine ax_aload_n (pc := 30) G dX1_grant_30 rfl rfl ?_
  refine sr_get (pc := 31) (v := .ref (a + 4)) G flX1_147_1 dX1_grant_31 rfl ?_
  refine ax_iload_n (pc := 34) G dX1_grant_34 rfl rfl ?_
  refine sr_ld (pc := 35) (k := 4) (j := k) (r := 17 + k) G dX1_grant_35 (by decide) (by decide) rfl rfl (show k < 6 by omega) ?_
  show ax_W Ω Γ _ _ _ _ _ (.int (s (17 + k)) :: _)
  refine ax_iload_n (pc := 36) G dX1_grant_36 rfl rfl ?_
  refine ax_iadd (pc := 37) G dX1_grant_37 ?_
  refine ax_sipush (pc := 38) (v := nI 9999) G dX1_grant_38 is_9999 ?_
  refine ax_icmp_gt (pc := 41) (tgt := 48) G dX1_grant_41 rfl (fun _ => ?_) (fun c9 => absurd hb c9)
  refine ax_iconst (pc := 48) (v := nI 0) G dX1_grant_48 ic_0 ?_
  refine ax_callS (pc := 49) (kb := 0) (nb := 0) G (ct_argN hA) lSX1_144 dX1_grant_49 rfl (by decide) (Nat.le_of_ble_eq_true rfl) rfl (fun _ e9 => by cases e9) (fun q9 e9 => ?_)
  cases e9
  exact ax_out G E (fun x hx => by cases hx)

theorem cq_dump_N {Ω : ax_O} (hA : ax_Amb Ω) {h : ax_H} {X bf tr hi sv lb : Nat} {x1 x2 x3 : Int32} (hX : h.1 X = some (.inr (0, [.ref bf, .int x1, .int x2, .int x3, .null, .ref tr, .ref hi, .ref sv, .ref lb])))  : ax_Met Ω yX1_dump 20 4 24 [.ref X] h (.inr h.2) (ax_add h (.inr (21, []))) := by
  refine ax_met q2490 q113 (by decide +kernel) (by decide) hA (Nat.le_of_ble_eq_true rfl) (fun Γ G E => ?_)
  show ax_W Ω Γ 4 24 h 0 [some (.ref X), none] []
  refine ax_aload_n (pc := 0) G dX1_dump_0 rfl rfl ?_
  refine ax_callV (pc := 1) (kb := 2) (nb := 12) G (cx_thereN hA hX) lVX1_79_0 dX1_dump_1 (hX) rfl (by decide) (Nat.le_of_ble_eq_true rfl) rfl (fun _ e9 => by cases e9) (fun q9 e9 => ?_)
  cases e9
  exact ax_out G E (fun x hx => by cases hx)

theorem cq_dump_B {Ω : ax_O} (hA : ax_Amb Ω) {h : ax_H} {a : Nat} {pl s : pR} {π : Nat → cP} {N V O A : Nat} {D : cD} (ha : Ω.2.1.heap.size ≤ a) (hp : pWP pl N V O) (hs : pWS s A) (hE : cEn h a pl s N V O A D) {X bf tr hi sv lb : Nat} {x1 x2 x3 : Int32} (hX : ∀ σ, (sH h a σ).1 X = some (.inr (0, [.ref bf, .int x1, .int x2, .int x3, .ref a, .ref tr, .ref hi, .ref sv, .ref lb]))) (hb : pl 0 < s 0 + pl 4)  : ax_Met Ω yX1_dump 20 4 24 [.ref X] (sH h a (s, π, (.ref (D.1 0)), (D.1 8))) (.inr (sH h a (s, π, (.ref (D.1 0)), (D.1 8))).2) (ax_add (sH h a (s, π, (.ref (D.1 0)), (D.1 8))) (.inr (20, []))) := by
  refine ax_met q2490 q113 (by decide +kernel) (by decide) hA (Nat.le_of_ble_eq_true rfl) (fun Γ G E => ?_)
  have hV9 := hp.lV
  have hA9 := hs.lA
  have hO9 := hp.lO
  show ax_W Ω Γ 4 24 (sH h a (s, π, (.ref (D.1 0)), (D.1 8))) 0 [some (.ref X), none] []
  refine ax_aload_n (pc := 0) G dX1_dump_0 rfl rfl ?_
  refine ax_cV1 (pc := 1) (kb := 2) (nb := 12) G (cx_thereY hA (π := π) ha hp hs hE hX) lVX1_79_0 dX1_dump_1 (hX _) rfl (by decide) (Nat.le_of_ble_eq_true rfl) rfl ?_
  refine ax_pop (pc := 4) G dX1_dump_4 rfl ?_
  refine ax_aload_n (pc := 5) G dX1_dump_5 rfl rfl ?_
  refine ax_getf (pc := 6) (v := .ref a) G flX1_72_0 dX1_dump_6 (hX _) rfl ?_
  refine sr_get (pc := 9) (v := .int (s 0)) G flX1_243_1 dX1_dump_9 rfl ?_
  refine ax_aload_n (pc := 12) G dX1_dump_12 rfl rfl ?_
  refine ax_getf (pc := 13) (v := .ref a) G flX1_72_0 dX1_dump_13 (hX _) rfl ?_
  refine sr_get (pc := 16) (v := .ref (D.1 0)) G flX1_83_1 dX1_dump_16 rfl ?_
  refine ax_getf (pc := 19) (v := .int (pl 4)) G flX1_268_10 dX1_dump_19 (((hE (s, π, (.ref (D.1 0)), (D.1 8))).1).1) rfl ?_
  refine ax_iadd (pc := 22) G dX1_dump_22 ?_
  refine ax_aload_n (pc := 23) G dX1_dump_23 rfl rfl ?_
  refine ax_getf (pc := 24) (v := .ref a) G flX1_72_0 dX1_dump_24 (hX _) rfl ?_
  refine sr_get (pc := 27) (v := .ref (D.1 0)) G flX1_83_1 dX1_dump_27 rfl ?_
  refine ax_getf (pc := 30) (v := .int (pl 0)) G flX1_256_10 dX1_dump_30 (((hE (s, π, (.ref (D.1 0)), (D.1 8))).1).1) rfl ?_
  refine ax_icmp_gt (pc := 33) (tgt := 40) G dX1_dump_33 rfl (fun _ => ?_) (fun c9 => absurd hb c9)
  refine ax_iconst (pc := 40) (v := nI 0) G dX1_dump_40 ic_0 ?_
  refine ax_callS (pc := 41) (kb := 1) (nb := 6) G (ct_argN hA) lSX1_144 dX1_dump_41 rfl (by decide) (Nat.le_of_ble_eq_true rfl) rfl (fun _ e9 => by cases e9) (fun q9 e9 => ?_)
  cases e9
  exact ax_out G E (fun x hx => by cases hx)

theorem cq_calibrate_N {Ω : ax_O} (hA : ax_Amb Ω) {h : ax_H} {X bf tr hi sv lb : Nat} {x1 x2 x3 : Int32} (hX : h.1 X = some (.inr (0, [.ref bf, .int x1, .int x2, .int x3, .null, .ref tr, .ref hi, .ref sv, .ref lb])))  : ax_Met Ω yX1_calibrate 20 4 24 [.ref X] h (.inr h.2) (ax_add h (.inr (21, []))) := by
  refine ax_met q2498 q113 (by decide +kernel) (by decide) hA (Nat.le_of_ble_eq_true rfl) (fun Γ G E => ?_)
  show ax_W Ω Γ 4 24 h 0 [some (.ref X)] []
  refine ax_aload_n (pc := 0) G dX1_calibrate_0 rfl rfl ?_
  refine ax_callV (pc := 1) (kb := 2) (nb := 12) G (cx_thereN hA hX) lVX1_79_0 dX1_calibrate_1 (hX) rfl (by decide) (Nat.le_of_ble_eq_true rfl) rfl (fun _ e9 => by cases e9) (fun q9 e9 => ?_)
  cases e9
  exact ax_out G E (fun x hx => by cases hx)

theorem cq_calibrate_B {Ω : ax_O} (hA : ax_Amb Ω) {h : ax_H} {a : Nat} {pl s : pR} {π : Nat → cP} {N V O A : Nat} {D : cD} (ha : Ω.2.1.heap.size ≤ a) (hp : pWP pl N V O) (hs : pWS s A) (hE : cEn h a pl s N V O A D) {X bf tr hi sv lb : Nat} {x1 x2 x3 : Int32} (hX : ∀ σ, (sH h a σ).1 X = some (.inr (0, [.ref bf, .int x1, .int x2, .int x3, .ref a, .ref tr, .ref hi, .ref sv, .ref lb]))) (hb : pl 0 < s 0 + pl 6)  : ax_Met Ω yX1_calibrate 20 4 24 [.ref X] (sH h a (s, π, (.ref (D.1 0)), (D.1 8))) (.inr (sH h a (s, π, (.ref (D.1 0)), (D.1 8))).2) (ax_add (sH h a (s, π, (.ref (D.1 0)), (D.1 8))) (.inr (20, []))) := by
  refine ax_met q2498 q113 (by decide +kernel) (by decide) hA (Nat.le_of_ble_eq_true rfl) (fun Γ G E => ?_)
  have hV9 := hp.lV
  have hA9 := hs.lA
  have hO9 := hp.lO
  show ax_W Ω Γ 4 24 (sH h a (s, π, (.ref (D.1 0)), (D.1 8))) 0 [some (.ref X)] []
  refine ax_aload_n (pc := 0) G dX1_calibrate_0 rfl rfl ?_
  refine ax_cV1 (pc := 1) (kb := 2) (nb := 12) G (cx_thereY hA (π := π) ha hp hs hE hX) lVX1_79_0 dX1_calibrate_1 (hX _) rfl (by decide) (Nat.le_of_ble_eq_true rfl) rfl ?_
  refine ax_pop (pc := 4) G dX1_calibrate_4 rfl ?_
  refine ax_aload_n (pc := 5) G dX1_calibrate_5 rfl rfl ?_
  refine ax_getf (pc := 6) (v := .ref a) G flX1_72_0 dX1_calibrate_6 (hX _) rfl ?_
  refine sr_get (pc := 9) (v := .int (s 0)) G flX1_243_1 dX1_calibrate_9 rfl ?_
  refine ax_aload_n (pc := 12) G dX1_calibrate_12 rfl rfl ?_
  refine ax_getf (pc := 13) (v := .ref a) G flX1_72_0 dX1_calibrate_13 (hX _) rfl ?_
  refine sr_get (pc := 16) (v := .ref (D.1 0)) G flX1_83_1 dX1_calibrate_16 rfl ?_
  refine ax_getf (pc := 19) (v := .int (pl 6)) G flX1_274_10 dX1_calibrate_19 (((hE (s, π, (.ref (D.1 0)), (D.1 8))).1).1) rfl ?_
  refine ax_iadd (pc := 22) G dX1_calibrate_22 ?_
  refine ax_aload_n (pc := 23) G dX1_calibrate_23 rfl rfl ?_
  refine ax_getf (pc := 24) (v := .ref a) G flX1_72_0 dX1_calibrate_24 (hX _) rfl ?_
  refine sr_get (pc := 27) (v := .ref (D.1 0)) G flX1_83_1 dX1_calibrate_27 rfl ?_
  refine ax_getf (pc := 30) (v := .int (pl 0)) G flX1_256_10 dX1_calibrate_30 (((hE (s, π, (.ref (D.1 0)), (D.1 8))).1).1) rfl ?_
  refine ax_icmp_gt (pc := 33) (tgt := 40) G dX1_calibrate_33 rfl (fun _ => ?_) (fun c9 => absurd hb c9)
  refine ax_iconst (pc := 40) (v := nI 0) G dX1_calibrate_40 ic_0 ?_
  refine ax_callS (pc := 41) (kb := 1) (nb := 6) G (ct_argN hA) lSX1_144 dX1_calibrate_41 rfl (by decide) (Nat.le_of_ble_eq_true rfl) rfl (fun _ e9 => by cases e9) (fun q9 e9 => ?_)
  cases e9
  exact ax_out G E (fun x hx => by cases hx)

theorem cq_change_N {Ω : ax_O} (hA : ax_Amb Ω) {h : ax_H} {X bf tr hi sv lb : Nat} {x1 x2 x3 : Int32} (hX : h.1 X = some (.inr (0, [.ref bf, .int x1, .int x2, .int x3, .null, .ref tr, .ref hi, .ref sv, .ref lb]))) (k : Int32) (f : Int32) (t : Int32)  : ax_Met Ω yX1_change 20 4 24 [.ref X, .int k, .int f, .int t] h (.inr h.2) (ax_add h (.inr (21, []))) := by
  refine ax_met q2460 q113 (by decide +kernel) (by decide) hA (Nat.le_of_ble_eq_true rfl) (fun Γ G E => ?_)
  show ax_W Ω Γ 4 24 h 0 [some (.ref X), some (.int k), some (.int f), some (.int t), none] []
  refine ax_aload_n (pc := 0) G dX1_change_0 rfl rfl ?_
  refine ax_iload_n (pc := 1) G dX1_change_1 rfl rfl ?_
  refine ax_callV (pc := 2) (kb := 1) (nb := 6) G (cx_withVisitN hA hX k) lVX1_186_0 dX1_change_2 (hX) rfl (by decide) (Nat.le_of_ble_eq_true rfl) rfl (fun _ e9 => by cases e9) (fun q9 e9 => ?_)
  cases e9
  exact ax_out G E (fun x hx => by cases hx)

theorem cq_change_B {Ω : ax_O} (hA : ax_Amb Ω) {h : ax_H} {a : Nat} {pl s : pR} {π : Nat → cP} {N V O A : Nat} {D : cD} (ha : Ω.2.1.heap.size ≤ a) (hp : pWP pl N V O) (hs : pWS s A) (hE : cEn h a pl s N V O A D) {X bf tr hi sv lb : Nat} {x1 x2 x3 : Int32} (hX : ∀ σ, (sH h a σ).1 X = some (.inr (0, [.ref bf, .int x1, .int x2, .int x3, .ref a, .ref tr, .ref hi, .ref sv, .ref lb]))) (k f t : Int32) (hb : pIn k (nI 0) (nI V - nI 1) = false)  : ax_Met Ω yX1_change 20 4 24 [.ref X, .int k, .int f, .int t] (sH h a (s, π, (.ref (D.1 0)), (D.1 8))) (.inr (sH h a (s, π, (.ref (D.1 0)), (D.1 8))).2) (ax_add (sH h a (s, π, (.ref (D.1 0)), (D.1 8))) (.inr (22, []))) := by
  refine ax_met q2460 q113 (by decide +kernel) (by decide) hA (Nat.le_of_ble_eq_true rfl) (fun Γ G E => ?_)
  have hV9 := hp.lV
  have hA9 := hs.lA
  have hO9 := hp.lO
  show ax_W Ω Γ 4 24 (sH h a (s, π, (.ref (D.1 0)), (D.1 8))) 0 [some (.ref X), some (.int k), some (.int f), some (.int t), none] []
  refine ax_aload_n (pc := 0) G dX1_change_0 rfl rfl ?_
  refine ax_iload_n (pc := 1) G dX1_change_1 rfl rfl ?_
  refine ax_callV (pc := 2) (kb := 1) (nb := 6) G (cx_withVisitB hA (π := π) ha hp hs hE hX k hb) lVX1_186_0 dX1_change_2 (hX _) rfl (by decide) (Nat.le_of_ble_eq_true rfl) rfl (fun _ e9 => by cases e9) (fun q9 e9 => ?_)
  cases e9
  exact ax_out G E (fun x hx => by cases hx)

theorem cq_change_O {Ω : ax_O} (hA : ax_Amb Ω) {h : ax_H} {a : Nat} {pl s : pR} {π : Nat → cP} {N V O A : Nat} {D : cD} (ha : Ω.2.1.heap.size ≤ a) (hp : pWP pl N V O) (hs : pWS s A) (hE : cEn h a pl s N V O A D) {X bf tr hi sv lb : Nat} {x1 x2 x3 : Int32} (hX : ∀ σ, (sH h a σ).1 X = some (.inr (0, [.ref bf, .int x1, .int x2, .int x3, .ref a, .ref tr, .ref hi, .ref sv, .ref lb]))) (k : Nat) (hk : k < V) (f t : Int32) (hf : ¬ s (47 + k) = f)  : ax_Met Ω yX1_change 20 4 24 [.ref X, .int (nI k), .int f, .int t] (sH h a (s, π, (.ref (D.1 0)), (D.1 8))) (.inl (some (.int (nI 0)))) (sH h a (s, π, (.ref (D.1 0)), (D.1 8))) := by
  refine ax_met q2460 q113 (by decide +kernel) (by decide) hA (Nat.le_of_ble_eq_true rfl) (fun Γ G E => ?_)
  have hV9 := hp.lV
  have hA9 := hs.lA
  have hO9 := hp.lO
  show ax_W Ω Γ 4 24 (sH h a (s, π, (.ref (D.1 0)), (D.1 8))) 0 [some (.ref X), some (.int (nI k)), some (.int f), some (.int t), none] []
  refine ax_aload_n (pc := 0) G dX1_change_0 rfl rfl ?_
  refine ax_iload_n (pc := 1) G dX1_change_1 rfl rfl ?_
  refine ax_cV1 (pc := 2) (kb := 1) (nb := 6) G (cx_withVisitY hA (π := π) ha hp hs hE hX k (by omega)) lVX1_186_0 dX1_change_2 (hX _) rfl (by decide) (Nat.le_of_ble_eq_true rfl) rfl ?_
  refine ax_astore (pc := 5) G dX1_change_5 (Nat.le_of_ble_eq_true rfl) rfl ?_
  refine ax_aload (pc := 7) G dX1_change_7 rfl ?_
  refine sr_get (pc := 9) (v := .ref (a + 8)) G flX1_161_1 dX1_change_9 rfl ?_
  refine ax_iload_n (pc := 12) G dX1_change_12 rfl rfl ?_
  refine sr_ld (pc := 13) (k := 8) (j := k) (r := 47 + k) G dX1_change_13 (by decide) (by decide) rfl rfl (show k < 20 by omega) ?_
  show ax_W Ω Γ _ _ _ _ _ (.int (s (47 + k)) :: _)
  refine ax_iload_n (pc := 14) G dX1_change_14 rfl rfl ?_
  refine ax_icmp_eq (pc := 15) (tgt := 20) G dX1_change_15 rfl (fun c9 => absurd c9 hf) (fun _ => ?_)
  refine ax_iconst (pc := 18) (v := nI 0) G dX1_change_18 ic_0 ?_
  exact ax_iretE (pc := 19) G E rfl (rfl) dX1_change_19 (rfl) (rfl)

theorem cq_cancel_N {Ω : ax_O} (hA : ax_Amb Ω) {h : ax_H} {X bf tr hi sv lb : Nat} {x1 x2 x3 : Int32} (hX : h.1 X = some (.inr (0, [.ref bf, .int x1, .int x2, .int x3, .null, .ref tr, .ref hi, .ref sv, .ref lb]))) (k : Int32)  : ax_Met Ω yX1_cancel 21 4 24 [.ref X, .int k] h (.inr h.2) (ax_add h (.inr (21, []))) := by
  refine ax_met q2456 q113 (by decide +kernel) (by decide) hA (Nat.le_of_ble_eq_true rfl) (fun Γ G E => ?_)
  show ax_W Ω Γ 4 24 h 0 [some (.ref X), some (.int k)] []
  refine ax_aload_n (pc := 0) G dX1_cancel_0 rfl rfl ?_
  refine ax_iload_n (pc := 1) G dX1_cancel_1 rfl rfl ?_
  refine ax_iconst (pc := 2) (v := nI 0) G dX1_cancel_2 ic_0 ?_
  refine ax_iconst (pc := 3) (v := nI 2) G dX1_cancel_3 ic_2 ?_
  refine ax_callV (pc := 4) (kb := 0) (nb := 0) G (cq_change_N hA hX k (nI 0) (nI 2)) lVX1_441_0 dX1_cancel_4 (hX) rfl (by decide) (Nat.le_of_ble_eq_true rfl) rfl (fun _ e9 => by cases e9) (fun q9 e9 => ?_)
  cases e9
  exact ax_out G E (fun x hx => by cases hx)

theorem cq_cancel_B {Ω : ax_O} (hA : ax_Amb Ω) {h : ax_H} {a : Nat} {pl s : pR} {π : Nat → cP} {N V O A : Nat} {D : cD} (ha : Ω.2.1.heap.size ≤ a) (hp : pWP pl N V O) (hs : pWS s A) (hE : cEn h a pl s N V O A D) {X bf tr hi sv lb : Nat} {x1 x2 x3 : Int32} (hX : ∀ σ, (sH h a σ).1 X = some (.inr (0, [.ref bf, .int x1, .int x2, .int x3, .ref a, .ref tr, .ref hi, .ref sv, .ref lb]))) (k : Int32) (hb : pIn k (nI 0) (nI V - nI 1) = false)  : ax_Met Ω yX1_cancel 21 4 24 [.ref X, .int k] (sH h a (s, π, (.ref (D.1 0)), (D.1 8))) (.inr (sH h a (s, π, (.ref (D.1 0)), (D.1 8))).2) (ax_add (sH h a (s, π, (.ref (D.1 0)), (D.1 8))) (.inr (22, []))) := by
  refine ax_met q2456 q113 (by decide +kernel) (by decide) hA (Nat.le_of_ble_eq_true rfl) (fun Γ G E => ?_)
  have hV9 := hp.lV
  have hA9 := hs.lA
  have hO9 := hp.lO
  show ax_W Ω Γ 4 24 (sH h a (s, π, (.ref (D.1 0)), (D.1 8))) 0 [some (.ref X), some (.int k)] []
  refine ax_aload_n (pc := 0) G dX1_cancel_0 rfl rfl ?_
  refine ax_iload_n (pc := 1) G dX1_cancel_1 rfl rfl ?_
  refine ax_iconst (pc := 2) (v := nI 0) G dX1_cancel_2 ic_0 ?_
  refine ax_iconst (pc := 3) (v := nI 2) G dX1_cancel_3 ic_2 ?_
  refine ax_callV (pc := 4) (kb := 0) (nb := 0) G (cq_change_B hA (π := π) ha hp hs hE hX k (nI 0) (nI 2) hb) lVX1_441_0 dX1_cancel_4 (hX _) rfl (by decide) (Nat.le_of_ble_eq_true rfl) rfl (fun _ e9 => by cases e9) (fun q9 e9 => ?_)
  cases e9
  exact ax_out G E (fun x hx => by cases hx)

theorem cq_cancel_O {Ω : ax_O} (hA : ax_Amb Ω) {h : ax_H} {a : Nat} {pl s : pR} {π : Nat → cP} {N V O A : Nat} {D : cD} (ha : Ω.2.1.heap.size ≤ a) (hp : pWP pl N V O) (hs : pWS s A) (hE : cEn h a pl s N V O A D) {X bf tr hi sv lb : Nat} {x1 x2 x3 : Int32} (hX : ∀ σ, (sH h a σ).1 X = some (.inr (0, [.ref bf, .int x1, .int x2, .int x3, .ref a, .ref tr, .ref hi, .ref sv, .ref lb]))) (k : Nat) (hk : k < V) (hf : ¬ s (47 + k) = nI 0)  : ax_Met Ω yX1_cancel 21 4 24 [.ref X, .int (nI k)] (sH h a (s, π, (.ref (D.1 0)), (D.1 8))) (.inl (some (.int (nI 0)))) (sH h a (s, π, (.ref (D.1 0)), (D.1 8))) := by
  refine ax_met q2456 q113 (by decide +kernel) (by decide) hA (Nat.le_of_ble_eq_true rfl) (fun Γ G E => ?_)
  have hV9 := hp.lV
  have hA9 := hs.lA
  have hO9 := hp.lO
  show ax_W Ω Γ 4 24 (sH h a (s, π, (.ref (D.1 0)), (D.1 8))) 0 [some (.ref X), some (.int (nI k))] []
  refine ax_aload_n (pc := 0) G dX1_cancel_0 rfl rfl ?_
  refine ax_iload_n (pc := 1) G dX1_cancel_1 rfl rfl ?_
  refine ax_iconst (pc := 2) (v := nI 0) G dX1_cancel_2 ic_0 ?_
  refine ax_iconst (pc := 3) (v := nI 2) G dX1_cancel_3 ic_2 ?_
  refine ax_cV1 (pc := 4) (kb := 0) (nb := 0) G (cq_change_O hA (π := π) ha hp hs hE hX k hk (nI 0) (nI 2) hf) lVX1_441_0 dX1_cancel_4 (hX _) rfl (by decide) (Nat.le_of_ble_eq_true rfl) rfl ?_
  exact ax_iretE (pc := 7) G E rfl (rfl) dX1_cancel_7 (rfl) (rfl)

theorem cq_requeue_N {Ω : ax_O} (hA : ax_Amb Ω) {h : ax_H} {X bf tr hi sv lb : Nat} {x1 x2 x3 : Int32} (hX : h.1 X = some (.inr (0, [.ref bf, .int x1, .int x2, .int x3, .null, .ref tr, .ref hi, .ref sv, .ref lb]))) (k : Int32)  : ax_Met Ω yX1_requeue 21 4 24 [.ref X, .int k] h (.inr h.2) (ax_add h (.inr (21, []))) := by
  refine ax_met q2467 q113 (by decide +kernel) (by decide) hA (Nat.le_of_ble_eq_true rfl) (fun Γ G E => ?_)
  show ax_W Ω Γ 4 24 h 0 [some (.ref X), some (.int k)] []
  refine ax_aload_n (pc := 0) G dX1_requeue_0 rfl rfl ?_
  refine ax_iload_n (pc := 1) G dX1_requeue_1 rfl rfl ?_
  refine ax_iconst (pc := 2) (v := nI 2) G dX1_requeue_2 ic_2 ?_
  refine ax_iconst (pc := 3) (v := nI 0) G dX1_requeue_3 ic_0 ?_
  refine ax_callV (pc := 4) (kb := 0) (nb := 0) G (cq_change_N hA hX k (nI 2) (nI 0)) lVX1_441_0 dX1_requeue_4 (hX) rfl (by decide) (Nat.le_of_ble_eq_true rfl) rfl (fun _ e9 => by cases e9) (fun q9 e9 => ?_)
  cases e9
  exact ax_out G E (fun x hx => by cases hx)

theorem cq_requeue_B {Ω : ax_O} (hA : ax_Amb Ω) {h : ax_H} {a : Nat} {pl s : pR} {π : Nat → cP} {N V O A : Nat} {D : cD} (ha : Ω.2.1.heap.size ≤ a) (hp : pWP pl N V O) (hs : pWS s A) (hE : cEn h a pl s N V O A D) {X bf tr hi sv lb : Nat} {x1 x2 x3 : Int32} (hX : ∀ σ, (sH h a σ).1 X = some (.inr (0, [.ref bf, .int x1, .int x2, .int x3, .ref a, .ref tr, .ref hi, .ref sv, .ref lb]))) (k : Int32) (hb : pIn k (nI 0) (nI V - nI 1) = false)  : ax_Met Ω yX1_requeue 21 4 24 [.ref X, .int k] (sH h a (s, π, (.ref (D.1 0)), (D.1 8))) (.inr (sH h a (s, π, (.ref (D.1 0)), (D.1 8))).2) (ax_add (sH h a (s, π, (.ref (D.1 0)), (D.1 8))) (.inr (22, []))) := by
  refine ax_met q2467 q113 (by decide +kernel) (by decide) hA (Nat.le_of_ble_eq_true rfl) (fun Γ G E => ?_)
  have hV9 := hp.lV
  have hA9 := hs.lA
  have hO9 := hp.lO
  show ax_W Ω Γ 4 24 (sH h a (s, π, (.ref (D.1 0)), (D.1 8))) 0 [some (.ref X), some (.int k)] []
  refine ax_aload_n (pc := 0) G dX1_requeue_0 rfl rfl ?_
  refine ax_iload_n (pc := 1) G dX1_requeue_1 rfl rfl ?_
  refine ax_iconst (pc := 2) (v := nI 2) G dX1_requeue_2 ic_2 ?_
  refine ax_iconst (pc := 3) (v := nI 0) G dX1_requeue_3 ic_0 ?_
  refine ax_callV (pc := 4) (kb := 0) (nb := 0) G (cq_change_B hA (π := π) ha hp hs hE hX k (nI 2) (nI 0) hb) lVX1_441_0 dX1_requeue_4 (hX _) rfl (by decide) (Nat.le_of_ble_eq_true rfl) rfl (fun _ e9 => by cases e9) (fun q9 e9 => ?_)
  cases e9
  exact ax_out G E (fun x hx => by cases hx)

theorem cq_requeue_O {Ω : ax_O} (hA : ax_Amb Ω) {h : ax_H} {a : Nat} {pl s : pR} {π : Nat → cP} {N V O A : Nat} {D : cD} (ha : Ω.2.1.heap.size ≤ a) (hp : pWP pl N V O) (hs : pWS s A) (hE : cEn h a pl s N V O A D) {X bf tr hi sv lb : Nat} {x1 x2 x3 : Int32} (hX : ∀ σ, (sH h a σ).1 X = some (.inr (0, [.ref bf, .int x1, .int x2, .int x3, .ref a, .ref tr, .ref hi, .ref sv, .ref lb]))) (k : Nat) (hk : k < V) (hf : ¬ s (47 + k) = nI 2)  : ax_Met Ω yX1_requeue 21 4 24 [.ref X, .int (nI k)] (sH h a (s, π, (.ref (D.1 0)), (D.1 8))) (.inl (some (.int (nI 0)))) (sH h a (s, π, (.ref (D.1 0)), (D.1 8))) := by
  refine ax_met q2467 q113 (by decide +kernel) (by decide) hA (Nat.le_of_ble_eq_true rfl) (fun Γ G E => ?_)
  have hV9 := hp.lV
  have hA9 := hs.lA
  have hO9 := hp.lO
  show ax_W Ω Γ 4 24 (sH h a (s, π, (.ref (D.1 0)), (D.1 8))) 0 [some (.ref X), some (.int (nI k))] []
  refine ax_aload_n (pc := 0) G dX1_requeue_0 rfl rfl ?_
  refine ax_iload_n (pc := 1) G dX1_requeue_1 rfl rfl ?_
  refine ax_iconst (pc := 2) (v := nI 2) G dX1_requeue_2 ic_2 ?_
  refine ax_iconst (pc := 3) (v := nI 0) G dX1_requeue_3 ic_0 ?_
  refine ax_cV1 (pc := 4) (kb := 0) (nb := 0) G (cq_change_O hA (π := π) ha hp hs hE hX k hk (nI 2) (nI 0) hf) lVX1_441_0 dX1_requeue_4 (hX _) rfl (by decide) (Nat.le_of_ble_eq_true rfl) rfl ?_
  exact ax_iretE (pc := 7) G E rfl (rfl) dX1_requeue_7 (rfl) (rfl)

