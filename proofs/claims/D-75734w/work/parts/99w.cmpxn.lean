/-! TelescopeQueue: an alert is added -/
theorem cj_addAlert {Ω : ax_O} (hA : ax_Amb Ω) {h : ax_H} {w : Nat → Nat} {X bf tr hi sv lb a : Nat} {pl : pR} {N V O A u : Nat} {μ : md_S} {D : cD} {π : Nat → cP} {pol : Nat} (J : xG Ω h w X bf tr hi sv lb (.ref a) a pl N V O μ u) (B : xBk Ω h w a pl (μ.2 4) N V O A D π pol) (o1 : w (a + 1) = 1) (ht : tr ≠ a) (k : Nat) (hk : k < N) (lon lat du pu re : Int32) (h1' : pIn lon (nI 0) (nI 359) = true) (h2' : pIn lat (-90) (nI 90) = true) (h3' : pIn du (nI 1) (nI 300) = true) (h4' : pIn pu (nI 0) (nI 99) = true) (h5' : pIn re (nI 0) (nI 999) = true) (hA10 : A < 10)  : ax_MetP Ω yX1_addAlert 20 60 4000 [.ref X, .int (nI k), .int lon, .int lat, .int du, .int pu, .int re] h (ax_Nm fun v h' => v = some (.int (nI A)) ∧ ∃ w' D' π' pol', xFr (fun o => 2 ≤ o) h h' w w' ∧ xG Ω h' w' X bf tr hi sv lb (.ref a) a pl N V O (mKeep μ u) (pU u) ∧ xBk Ω h' w' a pl (pAdd (pAlertRow (μ.2 4) A k lon lat du pu re) 14 (nI 1)) N V O (A + 1) D' π' pol' ∧ w' (a + 1) = 1) := by
  refine ax_metP q2506 q113 (by decide +kernel) (by decide) hA (Nat.le_of_ble_eq_true rfl) (fun Γ G E => ?_)
  obtain ⟨s, es⟩ : ∃ x, x = pF A (μ.2 4) := ⟨_, rfl⟩
  have ha := B.sz
  have hp := B.wp
  have hs : pWS s A := by rw [es]; exact B.ws.F
  have I : sIs h a (s, π, .ref (D.1 0), D.1 8) := by rw [es]; exact B.is
  have hE : cEn h a pl s N V O A D := by rw [es]; exact B.enF
  have hX := B.ot J.x (by rw [J.1.2.1]; omega)
  obtain ⟨Q0, hHi0⟩ : ∃ Q, ∀ σ, (sH h a σ).1 hi = some (.inr (7, [.ref Q])) := by obtain ⟨Q, -, -, -, -, -, ⟨x, -⟩, ⟨y, -⟩, -⟩ := J.k; exact ⟨Q, B.ot x (by omega)⟩
  have hHi := hHi0
  have wf := J.wf
  have hz := J.sz
  have hV9 := hp.lV
  have hA9 := hs.lA
  have hO9 := hp.lO
  have hN9 := hp.2.1.1
  have eS : ∀ i, (i < 127 ∨ 227 ≤ i) → s i = μ.2 4 i := fun i hi => by rw [es, pF_o (pX_lo hi)]
  show ax_W Ω Γ 60 4000 h 0 [some (.ref X), some (.int (nI k)), some (.int lon), some (.int lat), some (.int du), some (.int pu), some (.int re), none] []
  refine ax_hp (show h = sH h a (s, π, .ref (D.1 0), D.1 8) from (show sH h a (s, π, .ref (D.1 0), D.1 8) = h from I).symm) ?_
  refine ax_aload_n (pc := 0) G dX1_addAlert_0 rfl rfl ?_
  refine ax_iload_n (pc := 1) G dX1_addAlert_1 rfl rfl ?_
  refine ax_cV1 (pc := 2) (kb := 57) (nb := 3982) G (cx_withProposalY hA (π := π) ha hp hs hE hX k (by omega)) lVX1_138_0 dX1_addAlert_2 (hX _) rfl (by decide) (Nat.le_of_ble_eq_true rfl) rfl ?_
  refine ax_astore (pc := 5) G dX1_addAlert_5 (Nat.le_of_ble_eq_true rfl) rfl ?_
  refine ax_iload_n (pc := 7) G dX1_addAlert_7 rfl rfl ?_
  refine ax_iload_n (pc := 8) G dX1_addAlert_8 rfl rfl ?_
  refine ax_cS1 (pc := 9) (kb := 57) (nb := 3982) G (cx_pointing hA lon lat) lSX1_306 dX1_addAlert_9 rfl (by decide) (Nat.le_of_ble_eq_true rfl) rfl ?_
  refine ax_if_eq (pc := 12) (tgt := 73) G dX1_addAlert_12 rfl (fun c9 => absurd c9 (by rw [h1', h2']; decide)) (fun _ => ?_)
  refine ax_iload (pc := 15) G dX1_addAlert_15 rfl ?_
  refine ax_i2l (pc := 17) G dX1_addAlert_17 rfl ?_
  refine ax_lconst (pc := 18) (v := 1) G dX1_addAlert_18 rfl ?_
  refine ax_ldc2 (pc := 19) G q2077 dX1_addAlert_19 ?_
  refine ax_cS1 (pc := 22) (kb := 57) (nb := 3982) G (ct_in hA du.toInt64 1 300) lSX1_62 dX1_addAlert_22 rfl (by decide) (Nat.le_of_ble_eq_true rfl) rfl ?_
  rw [cIn_k (A := 1) (B := 300) (a := (nI 1)) (b := (nI 300)) du (by decide) (by decide)]
  refine ax_if_eq (pc := 25) (tgt := 73) G dX1_addAlert_25 rfl (fun c9 => absurd c9 (by rw [h3']; decide)) (fun _ => ?_)
  refine ax_iload (pc := 28) G dX1_addAlert_28 rfl ?_
  refine ax_i2l (pc := 30) G dX1_addAlert_30 rfl ?_
  refine ax_lconst (pc := 31) (v := 0) G dX1_addAlert_31 rfl ?_
  refine ax_ldc2 (pc := 32) G q2507 dX1_addAlert_32 ?_
  refine ax_cS1 (pc := 35) (kb := 57) (nb := 3982) G (ct_in hA pu.toInt64 0 99) lSX1_62 dX1_addAlert_35 rfl (by decide) (Nat.le_of_ble_eq_true rfl) rfl ?_
  rw [cIn_k (A := 0) (B := 99) (a := (nI 0)) (b := (nI 99)) pu (by decide) (by decide)]
  refine ax_if_eq (pc := 38) (tgt := 73) G dX1_addAlert_38 rfl (fun c9 => absurd c9 (by rw [h4']; decide)) (fun _ => ?_)
  refine ax_iload (pc := 41) G dX1_addAlert_41 rfl ?_
  refine ax_i2l (pc := 43) G dX1_addAlert_43 rfl ?_
  refine ax_lconst (pc := 44) (v := 0) G dX1_addAlert_44 rfl ?_
  refine ax_ldc2 (pc := 45) G q2508 dX1_addAlert_45 ?_
  refine ax_cS1 (pc := 48) (kb := 57) (nb := 3982) G (ct_in hA re.toInt64 0 999) lSX1_62 dX1_addAlert_48 rfl (by decide) (Nat.le_of_ble_eq_true rfl) rfl ?_
  rw [cIn_k (A := 0) (B := 999) (a := (nI 0)) (b := (nI 999)) re (by decide) (by decide)]
  refine ax_if_eq (pc := 51) (tgt := 73) G dX1_addAlert_51 rfl (fun c9 => absurd c9 (by rw [h5']; decide)) (fun _ => ?_)
  refine ax_aload (pc := 54) G dX1_addAlert_54 rfl ?_
  refine sr_get (pc := 56) (v := .ref (a + 2)) G flX1_100_1 dX1_addAlert_56 rfl ?_
  refine ax_cJ1 (pc := 59) (kb := 57) (nb := 3982) G (ct_lsize hA ((hE (s, π, (.ref (D.1 0)), (D.1 8))).2.1).1) lJX1_1_16 dX1_addAlert_59 (((hE (s, π, (.ref (D.1 0)), (D.1 8))).2.1).1) rfl (by decide) (Nat.le_of_ble_eq_true rfl) rfl ?_
  refine ax_bipush (pc := 64) (v := nI 10) G dX1_addAlert_64 ib_10 ?_
  refine ax_icmp_ge (pc := 66) (tgt := 73) G dX1_addAlert_66 rfl (fun c9 => absurd c9 (fun z9 => by have y9 := le_t.mp z9; rw [nI_toInt (by omega), nI_toInt (by omega)] at y9; omega)) (fun _ => ?_)
  refine ax_iconst (pc := 69) (v := nI 1) G dX1_addAlert_69 ic_1 ?_
  refine ax_goto (pc := 70) (tgt := 74) G dX1_addAlert_70 rfl ?_
  refine ax_cS0 (pc := 74) (kb := 56) (nb := 3976) G (ct_argY hA) lSX1_144 dX1_addAlert_74 rfl (by decide) (Nat.le_of_ble_eq_true rfl) rfl ?_
  refine ax_aload_n (pc := 77) G dX1_addAlert_77 rfl rfl ?_
  refine ax_getf (pc := 78) (v := .ref hi) G flX1_44_0 dX1_addAlert_78 (hX _) rfl ?_
  refine ax_aload (pc := 81) G dX1_addAlert_81 rfl ?_
  refine ax_nV (pc := 83) (kb := 27) (nb := 1250) G (cj_keepS hA J B o1 ht I) lVX1_437_7 dX1_addAlert_83 (hHi _) rfl (by decide) (Nat.le_of_ble_eq_true rfl) rfl (fun v9 h1 q9 => ?_)
  obtain ⟨rfl, w1, F1, G1, B1, p1⟩ := q9
  have I1 : sIs h1 a (s, π, .ref (D.1 0), D.1 8) := by rw [es]; exact B1.is
  have hE : cEn h1 a pl s N V O A D := by rw [es]; exact B1.enF
  have hX := B1.ot G1.x (by rw [G1.1.2.1]; omega)
  obtain ⟨Q01, hHi01⟩ : ∃ Q, ∀ σ, (sH h1 a σ).1 hi = some (.inr (7, [.ref Q])) := by obtain ⟨Q, -, -, -, -, -, ⟨x, -⟩, ⟨y, -⟩, -⟩ := G1.k; exact ⟨Q, B1.ot x (by omega)⟩
  have hHi := hHi01
  refine ax_hp (show h1 = sH h1 a (s, π, .ref (D.1 0), D.1 8) from (show sH h1 a (s, π, .ref (D.1 0), D.1 8) = h1 from I1).symm) ?_
  show ax_W Ω Γ _ _ (sH h1 a (s, π, (.ref (D.1 0)), (D.1 8))) _ _ (_)
  refine ax_hp (show sH h1 a (s, π, (.ref (D.1 0)), (D.1 8)) = h1 from I1) ?_
  have hlA := B1.l.2.2.1
  have hoE := B1.o.2.2.1
  have hoB := B1.o.2.2.2.2.1
  have hsz1 := G1.sz
  have hlE := G1.wf.lt B1.l.2.1
  have hbo := B1.o.2.2.2.2.2.1
  refine ax_aload (pc := 86) G dX1_addAlert_86 rfl ?_
  refine ax_getf (pc := 88) (v := .ref (a + 2)) G flX1_100_1 dX1_addAlert_88 (B1.is.obj) rfl ?_
  refine ax_new (pc := 91) (ci := 14) (kb := 26) (nb := 1243) G [.int (nI 0), .int (nI 0), .int (nI 0), .int (nI 0), .int (nI 0), .int (nI 0), .int (nI 0)] dX1_addAlert_91 rfl cok_X17 rfl q1569 q1350 q152 (fun j hj => by match j, hj with | 0, _ => rfl | 1, _ => rfl | 2, _ => rfl | 3, _ => rfl | 4, _ => rfl | 5, _ => rfl | 6, _ => rfl) ?_
  refine ax_hvA G1.wf (fun h248 g248 f248 z248 w248 => ?_)
  refine ax_dup (pc := 94) G dX1_addAlert_94 rfl ?_
  refine ax_iload_n (pc := 95) G dX1_addAlert_95 rfl rfl ?_
  refine ax_aload (pc := 96) G dX1_addAlert_96 rfl ?_
  refine ax_getf (pc := 98) (v := .int ((pF A (μ.2 4)) 0)) G flX1_243_1 dX1_addAlert_98 ((f248 _ (by omega)).trans (B1.is.obj)) rfl ?_
  refine ax_iload_n (pc := 101) G dX1_addAlert_101 rfl rfl ?_
  refine ax_iload_n (pc := 102) G dX1_addAlert_102 rfl rfl ?_
  refine ax_iload (pc := 103) G dX1_addAlert_103 rfl ?_
  refine ax_iload (pc := 105) G dX1_addAlert_105 rfl ?_
  refine ax_iload (pc := 107) G dX1_addAlert_107 rfl ?_
  refine ax_nI (pc := 109) (kb := 26) (nb := 1243) G (ct_ainit hA w248 (by omega) (g248) (by omega)) lIX1_459 dX1_addAlert_109 rfl (by decide) (Nat.le_of_ble_eq_true rfl) rfl (fun v249 h249 q9 => ?_)
  obtain ⟨rfl, g249, f249, z249, w249⟩ := q9
  show ax_W Ω Γ _ _ (h249) _ _ (_)
  have hel9 : ∀ i, i < D.2.2.2.1 3 → ∀ q, D.2.2.1 3 i = some q → ∃ ci fs, h249.1 q = some (.inr (ci, fs)) ∧ ax_may ci "java/lang/Object" := fun i hi q hq => by
    obtain ⟨fs, z⟩ := B1.l.2.2.2.2.1 i hi q hq
    have hq9 := G1.wf.lt (xIo.d z).1
    exact ⟨14, fs, ((f249 _ (by omega)).trans ((f248 _ (by omega)))).trans (xIo.d z).1, ⟨_, rfl, Or.inr q3286⟩⟩
  refine ax_nJ (pc := 112) (kb := 25) (nb := 1043) G (ct_ladd hA w249 (by omega) ((f249 _ (by omega)).trans ((f248 _ (by omega)).trans (B1.l.2.1))) B1.o.2.2.2.2.2.1 (by omega) ((f249 _ (by omega)).trans ((f248 _ (by omega)).trans (B1.l.1))) (by omega) hel9 (by omega) (by omega) (g249) ⟨_, rfl, Or.inr q3286⟩ (by omega)) lJX1_462_16 dX1_addAlert_112 ((f249 _ (by omega)).trans ((f248 _ (by omega)).trans (B1.l.1))) rfl (by decide) (Nat.le_of_ble_eq_true rfl) rfl (fun v250 h250 q9 => ?_)
  obtain ⟨rfl, e8, cap8, f8, K1, K2, K3, K4, K5, K6, K7, K8, f250, w250⟩ := q9
  show ax_W Ω Γ _ _ (h250) _ _ (.int (nI 1) :: _)
  refine ax_pop (pc := 117) G dX1_addAlert_117 rfl ?_
  refine ax_aload (pc := 118) G dX1_addAlert_118 rfl ?_
  refine ax_getf (pc := 120) (v := .ref (a + 2)) G flX1_100_1 dX1_addAlert_120 ((f250 _ (by omega) (by omega) (by omega)).trans ((f249 _ (by omega)).trans ((f248 _ (by omega)).trans (B1.is.obj)))) rfl ?_
  refine ax_cJ1 (pc := 123) (kb := 25) (nb := 1043) G (ct_lsize hA (K1)) lJX1_1_16 dX1_addAlert_123 (K1) rfl (by decide) (Nat.le_of_ble_eq_true rfl) rfl ?_
  refine ax_iconst (pc := 128) (v := nI 1) G dX1_addAlert_128 ic_1 ?_
  refine ax_isubN (pc := 129) G dX1_addAlert_129 (by omega) ?_
  obtain ⟨hZ, w9, le9, F9, B9, p9⟩ := bl_alert B1 G1.wf w250 (k := k) (lon := lon) (lat := lat) (du := du) (pu := pu) (re := re) hA10 (B1.rw.alert hV9 (by omega) hA10 h1' h2' h3' h4' h5') (K1) K2 K3 (by omega) K5 (K6) (fun i hi q hq => K7 i hi q hq) (by omega) (by rw [← show pF A (μ.2 4) 0 = μ.2 4 0 from pF_o (pX_lo (by omega))]; exact (f250 _ (by omega) (by omega) (by omega)).trans (g249)) (fun q a1 a2 a3 => (f250 _ (by omega) (by omega) (by omega)).trans ((f249 _ (by omega)).trans ((f248 _ (by omega))))) (by omega)
  refine ax_W_le le9 ?_
  exact ax_iretP (pc := 130) G E rfl rfl dX1_addAlert_130 ⟨_, rfl, rfl, w9, _, _, _, (F1.mono fun o c => by omega).trans (F9.mono fun o c => by omega), G1.fr F9 (by omega) (by omega) (fun b hb => by omega) ht, B9, p9.trans p1⟩

