/-! THE COMPONENT: steps -/
theorem ct_makeVisit {Ω : ax_O} (hA : ax_Amb Ω) {h : ax_H} {a : Nat} {pl s : pR} {π : Nat → cP} {N V O A : Nat} {D : cD} (ha : Ω.2.1.heap.size ≤ a) (hp : pWP pl N V O) (hs : pWS s A) (hE : cEn h a pl s N V O A D) (v : Nat) (hv : v < V) (hπ : π 1 = cPV pl s O D v) : ax_MetP Ω yX2_makeVisit 11 0 0 [.ref a] (sH h a (s, π, (.ref (D.1 0)), (D.1 8))) (ax_Nm (fun x h' => x = some (.int (cMV pl s O A v).2) ∧ ∃ π', h' = sH h a ((cMV pl s O A v).1, π', .ref (D.1 0), D.1 8) ∧ π' 1 = cPV pl s O D v)) := by
  refine ax_metP q2138 q114 (by decide +kernel) (by decide) hA (Nat.le_of_ble_eq_true rfl) (fun Γ G E => ?_)
  have hV9 := hp.lV
  have hA9 := hs.lA
  have hO9 := hp.lO
  show ax_W Ω Γ 0 0 (sH h a (s, π, (.ref (D.1 0)), (D.1 8))) 0 [some (.ref a), none, none] []
  refine ax_aload_n (pc := 0) G dX2_makeVisit_0 rfl rfl ?_
  refine sr_get (pc := 1) (v := .ref (a + 17)) G flX2_74_1 dX2_makeVisit_1 rfl ?_
  refine ax_getf (pc := 4) (v := .int (nI v)) G flX2_261_6 dX2_makeVisit_4 (sH_pe (k := 17) (by decide) (by decide) (show (π : Nat → cP) 1 = (cPV pl s O D v) from hπ)) rfl ?_
  refine ax_istore_n (pc := 7) G dX2_makeVisit_7 rfl (Nat.le_of_ble_eq_true rfl) rfl ?_
  refine ax_aload_n (pc := 8) G dX2_makeVisit_8 rfl rfl ?_
  refine ax_aload_n (pc := 9) G dX2_makeVisit_9 rfl rfl ?_
  refine sr_get (pc := 10) (v := .ref (a + 17)) G flX2_74_1 dX2_makeVisit_10 rfl ?_
  refine ax_nV (pc := 13) (kb := 0) (nb := 0) G (ct_interrupting_1 hA (π := π) ha hp hs hE (w := D.2.1 1 v) (vi := v) (u := (cPV pl s O D v).2) (by omega) (fun σ => (hE σ).1.wk (r := s) (k := v) (by omega) (by omega)) (P0 := π 0) (P1 := (cPV pl s O D v)) rfl (hπ) rfl) lVX2_248_1 dX2_makeVisit_13 sH_obj rfl (by decide) (Nat.le_of_ble_eq_true rfl) rfl (fun v9 h9 q9 => ?_)
  obtain ⟨rfl, π1, rfl, -, hb1⟩ := q9
  show ax_W Ω Γ _ _ (sH h a (s, π1, (.ref (D.1 0)), (D.1 8))) _ _ (.int (oI (cFB pl s O v (cStart pl s v) (cStart pl s v + pDur pl s v) (cDump pl s v) A)) :: _)
  refine ax_istore_n (pc := 16) G dX2_makeVisit_16 rfl (Nat.le_of_ble_eq_true rfl) rfl ?_
  rcases ek : cFB pl s O v (cStart pl s v) (cStart pl s v + pDur pl s v) (cDump pl s v) A with _ | k
  · show ax_W Ω Γ _ _ (sH h a (s, π1, (.ref (D.1 0)), (D.1 8))) _ [some (.ref a), some (.int (nI v)), some (.int (-1))] []
    refine ax_iload_n (pc := 17) G dX2_makeVisit_17 rfl rfl ?_
    refine ax_iconst (pc := 18) (v := (-1)) G dX2_makeVisit_18 (by decide) ?_
    refine ax_icmp_eq (pc := 19) (tgt := 62) G dX2_makeVisit_19 rfl (fun _ => ?_) (fun c9 => absurd rfl c9)
    refine ax_aload_n (pc := 62) G dX2_makeVisit_62 rfl rfl ?_
    refine ax_aload_n (pc := 63) G dX2_makeVisit_63 rfl rfl ?_
    refine sr_get (pc := 64) (v := .ref (a + 17)) G flX2_74_1 dX2_makeVisit_64 rfl ?_
    refine ax_getf (pc := 67) (v := .ref (D.2.1 1 v)) G flX2_221_6 dX2_makeVisit_67 (sH_pe (k := 17) (by decide) (by decide) (show (π1 : Nat → cP) 1 = (cPV pl s O D v) from hb1)) rfl ?_
    refine wk_duration (pc := 70) G ((hE (s, π1, (.ref (D.1 0)), (D.1 8))).1.wk (r := s) (k := v) (by omega) (by omega)) lJX2_258_13 lJX2_258_14 dX2_makeVisit_70 (by decide) (Nat.le_of_ble_eq_true rfl) ?_
    refine ax_cV0 (pc := 75) (kb := 0) (nb := 0) G (ct_carryOut hA (π := π1) ha hp hs hE (w := D.2.1 1 v) (k := v) (u := (cPV pl s O D v).2) (by omega) (fun σ => (hE σ).1.wk (r := s) (k := v) (by omega) (by omega)) (hb1) (pDur pl s v)) lVX2_264_1 dX2_makeVisit_75 sH_obj rfl (by decide) (Nat.le_of_ble_eq_true rfl) rfl ?_
    show ax_W Ω Γ _ _ (sH h a (cCar pl s v (cDump pl s v) (cSlw pl s v) (cStart pl s v) (pDur pl s v), π1, (.ref (D.1 0)), (D.1 8))) _ _ _
    refine ax_aload_n (pc := 78) G dX2_makeVisit_78 rfl rfl ?_
    refine sr_get (pc := 79) (v := .ref (a + 8)) G flX2_43_1 dX2_makeVisit_79 rfl ?_
    refine ax_iload_n (pc := 82) G dX2_makeVisit_82 rfl rfl ?_
    refine ax_iconst (pc := 83) (v := nI 1) G dX2_makeVisit_83 ic_1 ?_
    refine sr_st (pc := 84) (k := 8) (j := v) (r := 47 + v) G dX2_makeVisit_84 ha (by decide) (by decide) rfl rfl (show v < 20 by omega) ?_
    show ax_W Ω Γ _ _ (sH h a (upd (cCar pl s v (cDump pl s v) (cSlw pl s v) (cStart pl s v) (pDur pl s v)) (47 + v) (nI 1), π1, (.ref (D.1 0)), (D.1 8))) _ _ _
    refine ax_aload_n (pc := 85) G dX2_makeVisit_85 rfl rfl ?_
    refine sr_get (pc := 86) (v := .ref (a + 10)) G flX2_49_1 dX2_makeVisit_86 rfl ?_
    refine ax_iload_n (pc := 89) G dX2_makeVisit_89 rfl rfl ?_
    refine ax_aload_n (pc := 90) G dX2_makeVisit_90 rfl rfl ?_
    refine sr_get (pc := 91) (v := .ref (a + 17)) G flX2_74_1 dX2_makeVisit_91 rfl ?_
    refine ax_getf (pc := 94) (v := .int (cStart pl s v)) G flX2_208_6 dX2_makeVisit_94 (sH_pe (k := 17) (by decide) (by decide) (show (π1 : Nat → cP) 1 = (cPV pl s O D v) from hb1)) rfl ?_
    refine sr_st (pc := 97) (k := 10) (j := v) (r := 87 + v) G dX2_makeVisit_97 ha (by decide) (by decide) rfl rfl (show v < 20 by omega) ?_
    show ax_W Ω Γ _ _ (sH h a (upd (upd (cCar pl s v (cDump pl s v) (cSlw pl s v) (cStart pl s v) (pDur pl s v)) (47 + v) (nI 1)) (87 + v) (cStart pl s v), π1, (.ref (D.1 0)), (D.1 8))) _ _ _
    refine ax_iconst (pc := 98) (v := nI 0) G dX2_makeVisit_98 ic_0 ?_
    exact ax_iretP (pc := 99) G E rfl (rfl) dX2_makeVisit_99 (by rw [cMV, ek]; exact ⟨_, rfl, rfl, _, rfl, hb1⟩)
  · have hk := cFB_l ek
    show ax_W Ω Γ _ _ (sH h a (s, π1, (.ref (D.1 0)), (D.1 8))) _ [some (.ref a), some (.int (nI v)), some (.int (nI k))] []
    refine ax_iload_n (pc := 17) G dX2_makeVisit_17 rfl rfl ?_
    refine ax_iconst (pc := 18) (v := (-1)) G dX2_makeVisit_18 (by decide) ?_
    refine ax_icmp_eq (pc := 19) (tgt := 62) G dX2_makeVisit_19 rfl (fun c9 => absurd c9 (nI_nm (by omega))) (fun _ => ?_)
    refine ax_aload_n (pc := 22) G dX2_makeVisit_22 rfl rfl ?_
    refine ax_aload_n (pc := 23) G dX2_makeVisit_23 rfl rfl ?_
    refine sr_get (pc := 24) (v := .ref (a + 2)) G flX2_26_1 dX2_makeVisit_24 rfl ?_
    refine ax_iload_n (pc := 27) G dX2_makeVisit_27 rfl rfl ?_
    refine ax_cJ1 (pc := 28) (kb := 0) (nb := 0) G (ct_lget hA ((hE (s, π1, (.ref (D.1 0)), (D.1 8))).2.1).1 ((hE (s, π1, (.ref (D.1 0)), (D.1 8))).2.1).2.1 (q := D.2.1 3 k) k (by omega) ((hE (s, π1, (.ref (D.1 0)), (D.1 8))).2.1).2.2.1 ((hE (s, π1, (.ref (D.1 0)), (D.1 8))).2.1).2.2.2.1 (((hE (s, π1, (.ref (D.1 0)), (D.1 8))).2.1).2.2.2.2 k (by omega))) lJX2_95_16 dX2_makeVisit_28 (((hE (s, π1, (.ref (D.1 0)), (D.1 8))).2.1).1) rfl (by decide) (Nat.le_of_ble_eq_true rfl) rfl ?_
    refine ax_checkcast (pc := 33) G q1961 ⟨_, rfl, Or.inl rfl⟩ dX2_makeVisit_33 (alO (pl := pl) ((hE (s, π1, (.ref (D.1 0)), (D.1 8))).2) (k := k) (by omega)) ?_
    refine ax_getf (pc := 36) (v := .int (pFrom pl s (20 + k))) G flX2_207_14 dX2_makeVisit_36 (alO (pl := pl) ((hE (s, π1, (.ref (D.1 0)), (D.1 8))).2) (k := k) (by omega)) rfl ?_
    refine ax_aload_n (pc := 39) G dX2_makeVisit_39 rfl rfl ?_
    refine sr_get (pc := 40) (v := .ref (a + 17)) G flX2_74_1 dX2_makeVisit_40 rfl ?_
    refine ax_getf (pc := 43) (v := .int (cStart pl s v)) G flX2_208_6 dX2_makeVisit_43 (sH_pe (k := 17) (by decide) (by decide) (show (π1 : Nat → cP) 1 = (cPV pl s O D v) from hb1)) rfl ?_
    refine ax_isub (pc := 46) G dX2_makeVisit_46 ?_
    refine ax_cV0 (pc := 47) (kb := 0) (nb := 0) G (ct_carryOut hA (π := π1) ha hp hs hE (w := D.2.1 1 v) (k := v) (u := (cPV pl s O D v).2) (by omega) (fun σ => (hE σ).1.wk (r := s) (k := v) (by omega) (by omega)) (hb1) ((pFrom pl s (20 + k)) - (cStart pl s v))) lVX2_264_1 dX2_makeVisit_47 sH_obj rfl (by decide) (Nat.le_of_ble_eq_true rfl) rfl ?_
    show ax_W Ω Γ _ _ (sH h a (cCar pl s v (cDump pl s v) (cSlw pl s v) (cStart pl s v) ((pFrom pl s (20 + k)) - (cStart pl s v)), π1, (.ref (D.1 0)), (D.1 8))) _ _ _
    refine ax_aload_n (pc := 50) G dX2_makeVisit_50 rfl rfl ?_
    refine sr_get (pc := 51) (v := .ref (a + 9)) G flX2_46_1 dX2_makeVisit_51 rfl ?_
    refine ax_iload_n (pc := 54) G dX2_makeVisit_54 rfl rfl ?_
    refine ax_dup2_11 (pc := 55) G dX2_makeVisit_55 rfl rfl ?_
    refine sr_ld (pc := 56) (k := 9) (j := v) (r := 67 + v) G dX2_makeVisit_56 (by decide) (by decide) rfl rfl (show v < 20 by omega) ?_
    show ax_W Ω Γ _ _ _ _ _ (.int ((cCar pl s v (cDump pl s v) (cSlw pl s v) (cStart pl s v) ((pFrom pl s (20 + k)) - (cStart pl s v))) (67 + v)) :: _)
    refine ax_iconst (pc := 57) (v := nI 1) G dX2_makeVisit_57 ic_1 ?_
    refine ax_iadd (pc := 58) G dX2_makeVisit_58 ?_
    refine sr_st (pc := 59) (k := 9) (j := v) (r := 67 + v) G dX2_makeVisit_59 ha (by decide) (by decide) rfl rfl (show v < 20 by omega) ?_
    show ax_W Ω Γ _ _ (sH h a (pAdd (cCar pl s v (cDump pl s v) (cSlw pl s v) (cStart pl s v) ((pFrom pl s (20 + k)) - (cStart pl s v))) (67 + v) (nI 1), π1, (.ref (D.1 0)), (D.1 8))) _ _ _
    refine ax_iconst (pc := 60) (v := nI 1) G dX2_makeVisit_60 ic_1 ?_
    exact ax_iretP (pc := 61) G E rfl (rfl) dX2_makeVisit_61 (by rw [cMV, ek]; exact ⟨_, rfl, rfl, _, rfl, hb1⟩)

theorem ct_makeAlert {Ω : ax_O} (hA : ax_Amb Ω) {h : ax_H} {a : Nat} {pl s : pR} {π : Nat → cP} {N V O A : Nat} {D : cD} (ha : Ω.2.1.heap.size ≤ a) (hp : pWP pl N V O) (hs : pWS s A) (hE : cEn h a pl s N V O A D) (k : Nat) (hk : k < A) (hπ : π 1 = cPA pl s O D k) : ax_Met Ω yX2_makeAlert 7 0 0 [.ref a] (sH h a (s, π, (.ref (D.1 0)), (D.1 8))) (.inl none) (sH h a (cMA pl s k, π, .ref (D.1 0), D.1 8)) := by
  refine ax_met q2116 q114 (by decide +kernel) (by decide) hA (Nat.le_of_ble_eq_true rfl) (fun Γ G E => ?_)
  have hV9 := hp.lV
  have hA9 := hs.lA
  have hO9 := hp.lO
  show ax_W Ω Γ 0 0 (sH h a (s, π, (.ref (D.1 0)), (D.1 8))) 0 [some (.ref a)] []
  refine ax_aload_n (pc := 0) G dX2_makeAlert_0 rfl rfl ?_
  refine ax_aload_n (pc := 1) G dX2_makeAlert_1 rfl rfl ?_
  refine sr_get (pc := 2) (v := .ref (a + 17)) G flX2_74_1 dX2_makeAlert_2 rfl ?_
  refine ax_getf (pc := 5) (v := .ref (D.2.1 3 k)) G flX2_221_6 dX2_makeAlert_5 (sH_pe (k := 17) (by decide) (by decide) (show (π : Nat → cP) 1 = (cPA pl s O D k) from hπ)) rfl ?_
  refine wk_duration (pc := 8) G ((hE (s, π, (.ref (D.1 0)), (D.1 8))).2.wk (pl := pl) (k := k) (by omega)) lJX2_258_13 lJX2_258_14 dX2_makeAlert_8 (by decide) (Nat.le_of_ble_eq_true rfl) ?_
  refine ax_cV0 (pc := 13) (kb := 0) (nb := 0) G (ct_carryOut hA (π := π) ha hp hs hE (w := D.2.1 3 k) (k := 20 + k) (u := (cPA pl s O D k).2) (by omega) (fun σ => (hE σ).2.wk (pl := pl) (k := k) (by omega)) (hπ) (pDur pl s (20 + k))) lVX2_264_1 dX2_makeAlert_13 sH_obj rfl (by decide) (Nat.le_of_ble_eq_true rfl) rfl ?_
  show ax_W Ω Γ _ _ (sH h a (cCar pl s (20 + k) (cDump pl s (20 + k)) (cSlw pl s (20 + k)) (cStart pl s (20 + k)) (pDur pl s (20 + k)), π, (.ref (D.1 0)), (D.1 8))) _ _ _
  refine ax_aload_n (pc := 16) G dX2_makeAlert_16 rfl rfl ?_
  refine sr_get (pc := 17) (v := .ref (a + 12)) G flX2_55_1 dX2_makeAlert_17 rfl ?_
  refine ax_aload_n (pc := 20) G dX2_makeAlert_20 rfl rfl ?_
  refine sr_get (pc := 21) (v := .ref (a + 17)) G flX2_74_1 dX2_makeAlert_21 rfl ?_
  refine ax_getf (pc := 24) (v := .int (nI k)) G flX2_261_6 dX2_makeAlert_24 (sH_pe (k := 17) (by decide) (by decide) (show (π : Nat → cP) 1 = (cPA pl s O D k) from hπ)) rfl ?_
  refine ax_iconst (pc := 27) (v := nI 1) G dX2_makeAlert_27 ic_1 ?_
  refine sr_st (pc := 28) (k := 12) (j := k) (r := 127 + 10 * k + 7) G dX2_makeAlert_28 ha (by decide) (by decide) rfl rfl (show k < 10 by omega) ?_
  show ax_W Ω Γ _ _ (sH h a (upd (cCar pl s (20 + k) (cDump pl s (20 + k)) (cSlw pl s (20 + k)) (cStart pl s (20 + k)) (pDur pl s (20 + k))) (127 + 10 * k + 7) (nI 1), π, (.ref (D.1 0)), (D.1 8))) _ _ _
  refine ax_aload_n (pc := 29) G dX2_makeAlert_29 rfl rfl ?_
  refine sr_get (pc := 30) (v := .ref (a + 13)) G flX2_58_1 dX2_makeAlert_30 rfl ?_
  refine ax_aload_n (pc := 33) G dX2_makeAlert_33 rfl rfl ?_
  refine sr_get (pc := 34) (v := .ref (a + 17)) G flX2_74_1 dX2_makeAlert_34 rfl ?_
  refine ax_getf (pc := 37) (v := .int (nI k)) G flX2_261_6 dX2_makeAlert_37 (sH_pe (k := 17) (by decide) (by decide) (show (π : Nat → cP) 1 = (cPA pl s O D k) from hπ)) rfl ?_
  refine ax_aload_n (pc := 40) G dX2_makeAlert_40 rfl rfl ?_
  refine sr_get (pc := 41) (v := .ref (a + 17)) G flX2_74_1 dX2_makeAlert_41 rfl ?_
  refine ax_getf (pc := 44) (v := .int (cStart pl s (20 + k))) G flX2_208_6 dX2_makeAlert_44 (sH_pe (k := 17) (by decide) (by decide) (show (π : Nat → cP) 1 = (cPA pl s O D k) from hπ)) rfl ?_
  refine sr_st (pc := 47) (k := 13) (j := k) (r := 127 + 10 * k + 8) G dX2_makeAlert_47 ha (by decide) (by decide) rfl rfl (show k < 10 by omega) ?_
  show ax_W Ω Γ _ _ (sH h a (upd (upd (cCar pl s (20 + k) (cDump pl s (20 + k)) (cSlw pl s (20 + k)) (cStart pl s (20 + k)) (pDur pl s (20 + k))) (127 + 10 * k + 7) (nI 1)) (127 + 10 * k + 8) (cStart pl s (20 + k)), π, (.ref (D.1 0)), (D.1 8))) _ _ _
  exact ax_vretE (pc := 48) G E rfl dX2_makeAlert_48 (rfl)

theorem ct_nextKind {Ω : ax_O} (hA : ax_Amb Ω) {h : ax_H} {a : Nat} {pl s : pR} {π : Nat → cP} {N V O A : Nat} {D : cD} (ha : Ω.2.1.heap.size ≤ a) (hp : pWP pl N V O) (hs : pWS s A) (hE : cEn h a pl s N V O A D) (pol : Nat) (hpol : pol < 4) (hR : ∀ σ, (sH h a σ).1 (D.1 8) = some (.inr (2 + pol, [])))  : ax_MetP Ω yX2_nextKind 12 0 0 [.ref a] (sH h a (s, π, (.ref (D.1 0)), (D.1 8))) (ax_Nm (fun x h' => x = some (.int (cNK pl s V O A pol)) ∧ ∃ π', h' = sH h a (s, π', .ref (D.1 0), D.1 8))) := by
  refine ax_metP q1956 q114 (by decide +kernel) (by decide) hA (Nat.le_of_ble_eq_true rfl) (fun Γ G E => ?_)
  have hV9 := hp.lV
  have hA9 := hs.lA
  have hO9 := hp.lO
  show ax_W Ω Γ 0 0 (sH h a (s, π, (.ref (D.1 0)), (D.1 8))) 0 [some (.ref a)] []
  refine ax_aload_n (pc := 0) G dX2_nextKind_0 rfl rfl ?_
  refine sr_get (pc := 1) (v := .int (s 0)) G flX2_130_1 dX2_nextKind_1 rfl ?_
  refine ax_aload_n (pc := 4) G dX2_nextKind_4 rfl rfl ?_
  refine sr_get (pc := 5) (v := .ref (D.1 0)) G flX2_80_1 dX2_nextKind_5 rfl ?_
  refine ax_getf (pc := 8) (v := .int (pl 0)) G flX2_236_10 dX2_nextKind_8 (((hE (s, π, (.ref (D.1 0)), (D.1 8))).1).1) rfl ?_
  refine ax_icmp_ne (pc := 11) (tgt := 16) G dX2_nextKind_11 rfl (fun c11 => ?_) (fun c11 => ?_)
  · refine ax_aload_n (pc := 16) G dX2_nextKind_16 rfl rfl ?_
    refine ax_nV (pc := 17) (kb := 0) (nb := 0) G (ct_chooseAlert hA (π := π) ha hp hs hE) lVX2_239_1 dX2_nextKind_17 sH_obj rfl (by decide) (Nat.le_of_ble_eq_true rfl) rfl (fun v9 h9 q9 => ?_)
    obtain ⟨rfl, π2, rfl, hb2⟩ := q9
    show ax_W Ω Γ _ _ (sH h a (s, π2, (.ref (D.1 0)), (D.1 8))) _ _ (.int (oI (cFA pl s O A)) :: _)
    rcases ek : cFA pl s O A with _ | k
    · show ax_W Ω Γ _ _ (sH h a (s, π2, (.ref (D.1 0)), (D.1 8))) _ [some (.ref a)] [.int (-1)]
      refine ax_iconst (pc := 20) (v := (-1)) G dX2_nextKind_20 (by decide) ?_
      refine ax_icmp_eq (pc := 21) (tgt := 26) G dX2_nextKind_21 rfl (fun _ => ?_) (fun c9 => absurd rfl c9)
      refine ax_aload_n (pc := 26) G dX2_nextKind_26 rfl rfl ?_
      refine ax_cV1 (pc := 27) (kb := 0) (nb := 0) G (ct_calDue hA (π := π2) ha hp hs hE) lVX2_242_1 dX2_nextKind_27 sH_obj rfl (by decide) (Nat.le_of_ble_eq_true rfl) rfl ?_
      refine ax_if_eq (pc := 30) (tgt := 35) G dX2_nextKind_30 rfl (fun c30 => ?_) (fun c30 => ?_)
      · have c30b := bI_f c30
        refine ax_aload_n (pc := 35) G dX2_nextKind_35 rfl rfl ?_
        refine ax_nV (pc := 36) (kb := 0) (nb := 0) G (ct_choose hA (π := π2) ha hp hs hE pol hpol hR) lVX2_245_1 dX2_nextKind_36 sH_obj rfl (by decide) (Nat.le_of_ble_eq_true rfl) rfl (fun v9 h9 q9 => ?_)
        obtain ⟨rfl, π3, rfl, hb3⟩ := q9
        show ax_W Ω Γ _ _ (sH h a (s, π3, (.ref (D.1 0)), (D.1 8))) _ _ (.int (oI (cCh pl s O pol V)) :: _)
        rcases ev : cCh pl s O pol V with _ | v
        · show ax_W Ω Γ _ _ (sH h a (s, π3, (.ref (D.1 0)), (D.1 8))) _ [some (.ref a)] [.int (-1)]
          refine ax_iconst (pc := 39) (v := (-1)) G dX2_nextKind_39 (by decide) ?_
          refine ax_icmp_ne (pc := 40) (tgt := 45) G dX2_nextKind_40 rfl (fun c9 => absurd rfl c9) (fun _ => ?_)
          refine ax_iconst (pc := 43) (v := nI 4) G dX2_nextKind_43 ic_4 ?_
          exact ax_iretP (pc := 44) G E rfl (rfl) dX2_nextKind_44 (by simp only [cNK, if_neg c11, ek, if_neg (show ¬ pCalDue pl s = true by rw [c30b]; decide), ev]; exact ⟨_, rfl, rfl, _, rfl⟩)
        · have hv := cCh_l ev
          show ax_W Ω Γ _ _ (sH h a (s, π3, (.ref (D.1 0)), (D.1 8))) _ [some (.ref a)] [.int (nI v)]
          refine ax_iconst (pc := 39) (v := (-1)) G dX2_nextKind_39 (by decide) ?_
          refine ax_icmp_ne (pc := 40) (tgt := 45) G dX2_nextKind_40 rfl (fun _ => ?_) (fun c9 => absurd c9 (nI_nm (by omega)))
          refine ax_aload_n (pc := 45) G dX2_nextKind_45 rfl rfl ?_
          refine ax_aload_n (pc := 46) G dX2_nextKind_46 rfl rfl ?_
          refine sr_get (pc := 47) (v := .ref (a + 17)) G flX2_74_1 dX2_nextKind_47 rfl ?_
          refine ax_nV (pc := 50) (kb := 0) (nb := 0) G (ct_interrupting_1 hA (π := π3) ha hp hs hE (w := D.2.1 1 v) (vi := v) (u := (cPV pl s O D v).2) (by omega) (fun σ => (hE σ).1.wk (r := s) (k := v) (by omega) (by omega)) (P0 := π3 0) (P1 := (cPV pl s O D v)) rfl ((hb3 _ ev)) rfl) lVX2_248_1 dX2_nextKind_50 sH_obj rfl (by decide) (Nat.le_of_ble_eq_true rfl) rfl (fun v9 h9 q9 => ?_)
          obtain ⟨rfl, π4, rfl, -, hb4⟩ := q9
          show ax_W Ω Γ _ _ (sH h a (s, π4, (.ref (D.1 0)), (D.1 8))) _ _ (.int (oI (cFB pl s O v (cStart pl s v) (cStart pl s v + pDur pl s v) (cDump pl s v) A)) :: _)
          rcases ej : cFB pl s O v (cStart pl s v) (cStart pl s v + pDur pl s v) (cDump pl s v) A with _ | j
          · show ax_W Ω Γ _ _ (sH h a (s, π4, (.ref (D.1 0)), (D.1 8))) _ [some (.ref a)] [.int (-1)]
            refine ax_iconst (pc := 53) (v := (-1)) G dX2_nextKind_53 (by decide) ?_
            refine ax_icmp_ne (pc := 54) (tgt := 61) G dX2_nextKind_54 rfl (fun c9 => absurd rfl c9) (fun _ => ?_)
            refine ax_iconst (pc := 57) (v := nI 0) G dX2_nextKind_57 ic_0 ?_
            refine ax_goto (pc := 58) (tgt := 62) G dX2_nextKind_58 rfl ?_
            exact ax_iretP (pc := 62) G E rfl (rfl) dX2_nextKind_62 (by simp only [cNK, if_neg c11, ek, if_neg (show ¬ pCalDue pl s = true by rw [c30b]; decide), ev, ej]; exact ⟨_, rfl, rfl, _, rfl⟩)
          · have hj := cFB_l ej
            show ax_W Ω Γ _ _ (sH h a (s, π4, (.ref (D.1 0)), (D.1 8))) _ [some (.ref a)] [.int (nI j)]
            refine ax_iconst (pc := 53) (v := (-1)) G dX2_nextKind_53 (by decide) ?_
            refine ax_icmp_ne (pc := 54) (tgt := 61) G dX2_nextKind_54 rfl (fun _ => ?_) (fun c9 => absurd c9 (nI_nm (by omega)))
            refine ax_iconst (pc := 61) (v := nI 1) G dX2_nextKind_61 ic_1 ?_
            exact ax_iretP (pc := 62) G E rfl (rfl) dX2_nextKind_62 (by simp only [cNK, if_neg c11, ek, if_neg (show ¬ pCalDue pl s = true by rw [c30b]; decide), ev, ej]; exact ⟨_, rfl, rfl, _, rfl⟩)
      · have c30b := bI_t c30
        refine ax_iconst (pc := 33) (v := nI 3) G dX2_nextKind_33 ic_3 ?_
        exact ax_iretP (pc := 34) G E rfl (rfl) dX2_nextKind_34 (by simp only [cNK, if_neg c11, ek, if_pos c30b]; exact ⟨_, rfl, rfl, _, rfl⟩)
    · have hk := cFA_l ek
      show ax_W Ω Γ _ _ (sH h a (s, π2, (.ref (D.1 0)), (D.1 8))) _ [some (.ref a)] [.int (nI k)]
      refine ax_iconst (pc := 20) (v := (-1)) G dX2_nextKind_20 (by decide) ?_
      refine ax_icmp_eq (pc := 21) (tgt := 26) G dX2_nextKind_21 rfl (fun c9 => absurd c9 (nI_nm (by omega))) (fun _ => ?_)
      refine ax_iconst (pc := 24) (v := nI 2) G dX2_nextKind_24 ic_2 ?_
      exact ax_iretP (pc := 25) G E rfl (rfl) dX2_nextKind_25 (by simp only [cNK, if_neg c11, ek]; exact ⟨_, rfl, rfl, _, rfl⟩)
  · refine ax_iconst (pc := 14) (v := (-1)) G dX2_nextKind_14 (by decide) ?_
    exact ax_iretP (pc := 15) G E rfl (rfl) dX2_nextKind_15 (by simp only [cNK, if_pos c11]; exact ⟨_, rfl, rfl, _, rfl⟩)

theorem ct_step {Ω : ax_O} (hA : ax_Amb Ω) {h : ax_H} {a : Nat} {pl s : pR} {π : Nat → cP} {N V O A : Nat} {D : cD} (ha : Ω.2.1.heap.size ≤ a) (hp : pWP pl N V O) (hs : pWS s A) (hE : cEn h a pl s N V O A D) (pol : Nat) (hpol : pol < 4) (hR : ∀ σ, (sH h a σ).1 (D.1 8) = some (.inr (2 + pol, [])))  : ax_MetP Ω yX2_step 13 0 0 [.ref a] (sH h a (s, π, (.ref (D.1 0)), (D.1 8))) (ax_Nm (fun x h' => x = none ∧ ∃ π', h' = sH h a (cSt pl s V O A pol, π', .ref (D.1 0), D.1 8))) := by
  refine ax_metP q2108 q114 (by decide +kernel) (by decide) hA (Nat.le_of_ble_eq_true rfl) (fun Γ G E => ?_)
  have hV9 := hp.lV
  have hA9 := hs.lA
  have hO9 := hp.lO
  show ax_W Ω Γ 0 0 (sH h a (s, π, (.ref (D.1 0)), (D.1 8))) 0 [some (.ref a), none, none] []
  refine ax_aload_n (pc := 0) G dX2_step_0 rfl rfl ?_
  refine sr_get (pc := 1) (v := .int (s 0)) G flX2_130_1 dX2_step_1 rfl ?_
  refine ax_istore_n (pc := 4) G dX2_step_4 rfl (Nat.le_of_ble_eq_true rfl) rfl ?_
  refine ax_aload_n (pc := 5) G dX2_step_5 rfl rfl ?_
  obtain ⟨e, he⟩ : ∃ e, e = pExp pl s A := ⟨_, rfl⟩
  have hs1 : pWS e A := by rw [he]; exact hs.exp hs.lA
  have hE1 : cEn h a pl e N V O A D := by rw [he]; exact hE.im hs.lA (pIm_exp hs.lA)
  refine ax_cV0 (pc := 6) (kb := 0) (nb := 0) G (ct_expire hA (π := π) ha hp hs hE) lVX2_273_1 dX2_step_6 sH_obj rfl (by decide) (Nat.le_of_ble_eq_true rfl) rfl ?_
  show ax_W Ω Γ _ _ (sH h a (pExp pl s A, π, (.ref (D.1 0)), (D.1 8))) _ _ _
  rw [← he]
  show ax_W Ω Γ _ _ (sH h a (e, π, (.ref (D.1 0)), (D.1 8))) _ _ _
  refine ax_aload_n (pc := 9) G dX2_step_9 rfl rfl ?_
  refine ax_nV (pc := 10) (kb := 0) (nb := 0) G (ct_chooseAlert hA (π := π) ha hp hs1 hE1) lVX2_239_1 dX2_step_10 sH_obj rfl (by decide) (Nat.le_of_ble_eq_true rfl) rfl (fun v9 h9 q9 => ?_)
  obtain ⟨rfl, π5, rfl, hb5⟩ := q9
  show ax_W Ω Γ _ _ (sH h a (e, π5, (.ref (D.1 0)), (D.1 8))) _ _ (.int (oI (cFA pl e O A)) :: _)
  rcases ek : cFA pl e O A with _ | k
  · show ax_W Ω Γ _ _ (sH h a (e, π5, (.ref (D.1 0)), (D.1 8))) _ [some (.ref a), some (.int (s 0)), none] [.int (-1)]
    refine ax_iconst (pc := 13) (v := (-1)) G dX2_step_13 (by decide) ?_
    refine ax_icmp_eq (pc := 14) (tgt := 37) G dX2_step_14 rfl (fun _ => ?_) (fun c9 => absurd rfl c9)
    refine ax_aload_n (pc := 37) G dX2_step_37 rfl rfl ?_
    refine ax_cV1 (pc := 38) (kb := 0) (nb := 0) G (ct_calDue hA (π := π5) ha hp hs1 hE1) lVX2_242_1 dX2_step_38 sH_obj rfl (by decide) (Nat.le_of_ble_eq_true rfl) rfl ?_
    refine ax_if_eq (pc := 41) (tgt := 58) G dX2_step_41 rfl (fun c41 => ?_) (fun c41 => ?_)
    · have c41b := bI_f c41
      refine ax_aload_n (pc := 58) G dX2_step_58 rfl rfl ?_
      refine ax_nV (pc := 59) (kb := 0) (nb := 0) G (ct_choose hA (π := π5) ha hp hs1 hE1 pol hpol hR) lVX2_245_1 dX2_step_59 sH_obj rfl (by decide) (Nat.le_of_ble_eq_true rfl) rfl (fun v9 h9 q9 => ?_)
      obtain ⟨rfl, π6, rfl, hb6⟩ := q9
      show ax_W Ω Γ _ _ (sH h a (e, π6, (.ref (D.1 0)), (D.1 8))) _ _ (.int (oI (cCh pl e O pol V)) :: _)
      rcases ev : cCh pl e O pol V with _ | v
      · show ax_W Ω Γ _ _ (sH h a (e, π6, (.ref (D.1 0)), (D.1 8))) _ [some (.ref a), some (.int (s 0)), none] [.int (-1)]
        refine ax_iconst (pc := 62) (v := (-1)) G dX2_step_62 (by decide) ?_
        refine ax_icmp_eq (pc := 63) (tgt := 87) G dX2_step_63 rfl (fun _ => ?_) (fun c9 => absurd rfl c9)
        refine ax_aload_n (pc := 87) G dX2_step_87 rfl rfl ?_
        refine ax_cV0 (pc := 88) (kb := 0) (nb := 0) G (ct_idle hA (π := π6) ha hp hs1 hE1) lVX2_289_1 dX2_step_88 sH_obj rfl (by decide) (Nat.le_of_ble_eq_true rfl) rfl ?_
        show ax_W Ω Γ _ _ (sH h a (pIdles pl e A, π6, (.ref (D.1 0)), (D.1 8))) _ _ _
        refine ax_aload_n (pc := 91) G dX2_step_91 rfl rfl ?_
        refine ax_iconst (pc := 92) (v := nI 4) G dX2_step_92 ic_4 ?_
        refine ax_iconst (pc := 93) (v := (-1)) G dX2_step_93 (by decide) ?_
        refine ax_iload_n (pc := 94) G dX2_step_94 rfl rfl ?_
        refine ax_cV0 (pc := 95) (kb := 0) (nb := 0) G (ct_write hA (π := π6) ha hp (hs1.idles) (hE1.im hA9 (pIm.idles)) (hs1.idles).hN.choose_spec.2 (hs1.idles).hN.choose_spec.1 (nI 4) (-1) (s 0)) lVX2_279_1 dX2_step_95 sH_obj rfl (by decide) (Nat.le_of_ble_eq_true rfl) rfl ?_
        show ax_W Ω Γ _ _ (sH h a (pLogs (pIdles pl e A) (nI 4) (-1) (s 0), π6, (.ref (D.1 0)), (D.1 8))) _ _ _
        exact ax_vretP (pc := 98) G E rfl dX2_step_98 (⟨_, rfl, rfl, π6, by rw [cSt, ← he]; simp only [cStB, ek, if_neg (show ¬ pCalDue pl e = true by rw [c41b]; decide), ev]⟩)
      · have hv := cCh_l ev
        show ax_W Ω Γ _ _ (sH h a (e, π6, (.ref (D.1 0)), (D.1 8))) _ [some (.ref a), some (.int (s 0)), none] [.int (nI v)]
        refine ax_iconst (pc := 62) (v := (-1)) G dX2_step_62 (by decide) ?_
        refine ax_icmp_eq (pc := 63) (tgt := 87) G dX2_step_63 rfl (fun c9 => absurd c9 (nI_nm (by omega))) (fun _ => ?_)
        refine ax_aload_n (pc := 66) G dX2_step_66 rfl rfl ?_
        refine ax_nV (pc := 67) (kb := 0) (nb := 0) G (ct_makeVisit hA (π := π6) ha hp hs1 hE1 v (by omega) ((hb6 _ ev))) lVX2_286_1 dX2_step_67 sH_obj rfl (by decide) (Nat.le_of_ble_eq_true rfl) rfl (fun v9 h9 q9 => ?_)
        obtain ⟨rfl, π7, rfl, hb7⟩ := q9
        show ax_W Ω Γ _ _ (sH h a ((cMV pl e O A v).1, π7, (.ref (D.1 0)), (D.1 8))) _ _ (.int ((cMV pl e O A v).2) :: _)
        refine ax_istore_n (pc := 70) G dX2_step_70 rfl (Nat.le_of_ble_eq_true rfl) rfl ?_
        refine ax_aload_n (pc := 71) G dX2_step_71 rfl rfl ?_
        refine ax_iload_n (pc := 72) G dX2_step_72 rfl rfl ?_
        refine ax_aload_n (pc := 73) G dX2_step_73 rfl rfl ?_
        refine sr_get (pc := 74) (v := .ref (a + 17)) G flX2_74_1 dX2_step_74 rfl ?_
        refine ax_getf (pc := 77) (v := .int (nI v)) G flX2_261_6 dX2_step_77 (sH_pe (k := 17) (by decide) (by decide) (show (π7 : Nat → cP) 1 = (cPV pl e O D v) from hb7)) rfl ?_
        refine ax_iload_n (pc := 80) G dX2_step_80 rfl rfl ?_
        refine ax_cV0 (pc := 81) (kb := 0) (nb := 0) G (ct_write hA (π := π7) ha hp (hs1.cmv hp (by omega)) (hE1.im hA9 (pIm.cmv hp hs1 (by omega))) (hs1.cmv hp (by omega)).hN.choose_spec.2 (hs1.cmv hp (by omega)).hN.choose_spec.1 ((cMV pl e O A v).2) (nI v) (s 0)) lVX2_279_1 dX2_step_81 sH_obj rfl (by decide) (Nat.le_of_ble_eq_true rfl) rfl ?_
        show ax_W Ω Γ _ _ (sH h a (pLogs ((cMV pl e O A v).1) ((cMV pl e O A v).2) (nI v) (s 0), π7, (.ref (D.1 0)), (D.1 8))) _ _ _
        refine ax_goto (pc := 84) (tgt := 98) G dX2_step_84 rfl ?_
        exact ax_vretP (pc := 98) G E rfl dX2_step_98 (⟨_, rfl, rfl, π7, by rw [cSt, ← he]; simp only [cStB, ek, if_neg (show ¬ pCalDue pl e = true by rw [c41b]; decide), ev]⟩)
    · have c41b := bI_t c41
      refine ax_aload_n (pc := 44) G dX2_step_44 rfl rfl ?_
      refine ax_cV0 (pc := 45) (kb := 0) (nb := 0) G (ct_makeCal hA (π := π5) ha hp hs1 hE1) lVX2_283_1 dX2_step_45 sH_obj rfl (by decide) (Nat.le_of_ble_eq_true rfl) rfl ?_
      show ax_W Ω Γ _ _ (sH h a (pCalibrates pl e, π5, (.ref (D.1 0)), (D.1 8))) _ _ _
      refine ax_aload_n (pc := 48) G dX2_step_48 rfl rfl ?_
      refine ax_iconst (pc := 49) (v := nI 3) G dX2_step_49 ic_3 ?_
      refine ax_iconst (pc := 50) (v := (-1)) G dX2_step_50 (by decide) ?_
      refine ax_iload_n (pc := 51) G dX2_step_51 rfl rfl ?_
      refine ax_cV0 (pc := 52) (kb := 0) (nb := 0) G (ct_write hA (π := π5) ha hp (hs1.calibrates) (hE1.im hA9 (pIm.cal)) (hs1.calibrates).hN.choose_spec.2 (hs1.calibrates).hN.choose_spec.1 (nI 3) (-1) (s 0)) lVX2_279_1 dX2_step_52 sH_obj rfl (by decide) (Nat.le_of_ble_eq_true rfl) rfl ?_
      show ax_W Ω Γ _ _ (sH h a (pLogs (pCalibrates pl e) (nI 3) (-1) (s 0), π5, (.ref (D.1 0)), (D.1 8))) _ _ _
      refine ax_goto (pc := 55) (tgt := 98) G dX2_step_55 rfl ?_
      exact ax_vretP (pc := 98) G E rfl dX2_step_98 (⟨_, rfl, rfl, π5, by rw [cSt, ← he]; simp only [cStB, ek, if_pos c41b]⟩)
  · have hk := cFA_l ek
    show ax_W Ω Γ _ _ (sH h a (e, π5, (.ref (D.1 0)), (D.1 8))) _ [some (.ref a), some (.int (s 0)), none] [.int (nI k)]
    refine ax_iconst (pc := 13) (v := (-1)) G dX2_step_13 (by decide) ?_
    refine ax_icmp_eq (pc := 14) (tgt := 37) G dX2_step_14 rfl (fun c9 => absurd c9 (nI_nm (by omega))) (fun _ => ?_)
    refine ax_aload_n (pc := 17) G dX2_step_17 rfl rfl ?_
    refine ax_cV0 (pc := 18) (kb := 0) (nb := 0) G (ct_makeAlert hA (π := π5) ha hp hs1 hE1 k (by omega) ((hb5 _ ek))) lVX2_276_1 dX2_step_18 sH_obj rfl (by decide) (Nat.le_of_ble_eq_true rfl) rfl ?_
    show ax_W Ω Γ _ _ (sH h a (cMA pl e k, π5, (.ref (D.1 0)), (D.1 8))) _ _ _
    refine ax_aload_n (pc := 21) G dX2_step_21 rfl rfl ?_
    refine ax_iconst (pc := 22) (v := nI 2) G dX2_step_22 ic_2 ?_
    refine ax_aload_n (pc := 23) G dX2_step_23 rfl rfl ?_
    refine sr_get (pc := 24) (v := .ref (a + 17)) G flX2_74_1 dX2_step_24 rfl ?_
    refine ax_getf (pc := 27) (v := .int (nI k)) G flX2_261_6 dX2_step_27 (sH_pe (k := 17) (by decide) (by decide) (show (π5 : Nat → cP) 1 = (cPA pl e O D k) from (hb5 _ ek))) rfl ?_
    refine ax_iload_n (pc := 30) G dX2_step_30 rfl rfl ?_
    refine ax_cV0 (pc := 31) (kb := 0) (nb := 0) G (ct_write hA (π := π5) ha hp (hs1.cma hp (by omega)) (hE1.im hA9 (pIm.cma hp hs1 (by omega))) (hs1.cma hp (by omega)).hN.choose_spec.2 (hs1.cma hp (by omega)).hN.choose_spec.1 (nI 2) (nI k) (s 0)) lVX2_279_1 dX2_step_31 sH_obj rfl (by decide) (Nat.le_of_ble_eq_true rfl) rfl ?_
    show ax_W Ω Γ _ _ (sH h a (pLogs (cMA pl e k) (nI 2) (nI k) (s 0), π5, (.ref (D.1 0)), (D.1 8))) _ _ _
    refine ax_goto (pc := 34) (tgt := 98) G dX2_step_34 rfl ?_
    exact ax_vretP (pc := 98) G E rfl dX2_step_98 (⟨_, rfl, rfl, π5, by rw [cSt, ← he]; simp only [cStB, ek]⟩)

theorem ct_steps {Ω : ax_O} (hA : ax_Amb Ω) {h : ax_H} {a : Nat} {pl s : pR} {π : Nat → cP} {N V O A : Nat} {D : cD} (ha : Ω.2.1.heap.size ≤ a) (hp : pWP pl N V O) (hs : pWS s A) (hE : cEn h a pl s N V O A D) (pol : Nat) (hpol : pol < 4) (hR : ∀ σ, (sH h a σ).1 (D.1 8) = some (.inr (2 + pol, []))) (M : Nat) (hM : M ≤ 4000) : ax_MetP Ω yX2_steps 14 0 0 [.ref a, .int (nI M)] (sH h a (s, π, (.ref (D.1 0)), (D.1 8))) (ax_Nm (fun x h' => x = some (.int (nI (cMany pl V O A pol M s).2)) ∧ ∃ π', h' = sH h a ((cMany pl V O A pol M s).1, π', .ref (D.1 0), D.1 8))) := by
  refine ax_metP q2104 q114 (by decide +kernel) (by decide) hA (Nat.le_of_ble_eq_true rfl) (fun Γ G E => ?_)
  have hV9 := hp.lV
  have hA9 := hs.lA
  have hO9 := hp.lO
  have L0 : ∀ (n e : Nat) (r : pR) (π : Nat → cP), e + n = M → pWS r A → cEn h a pl r N V O A D → e + (cMany pl V O A pol n r).2 = (cMany pl V O A pol M s).2 → (cMany pl V O A pol n r).1 = (cMany pl V O A pol M s).1 → ax_W Ω Γ 0 0 (sH h a (r, π, (.ref (D.1 0)), (D.1 8))) 2 [some (.ref a), some (.int (nI M)), some (.int (nI e))] [] := by
    intro n
    induction n with
    | zero =>
      intro e r π hi hr hEr h1 h2
      have hi9 : M = e := by omega
      have h1b : e = (cMany pl V O A pol M s).2 := h1
      have h2b : r = (cMany pl V O A pol M s).1 := h2
      refine ax_iload_n (pc := 2) G dX2_steps_2 rfl rfl ?_
      refine ax_iload_n (pc := 3) G dX2_steps_3 rfl rfl ?_
      refine ax_icmp_geN (pc := 4) (tgt := 31) G dX2_steps_4 rfl (by omega) (by omega) (fun c4 => ?_) (fun c4 => ?_)
      · refine ax_iload_n (pc := 31) G dX2_steps_31 rfl rfl ?_
        exact ax_iretP (pc := 32) G E rfl (rfl) dX2_steps_32 (⟨_, rfl, by rw [← h1b], _, by rw [← h2b]⟩)
      · omega
    | succ n ih =>
      intro e r π hi hr hEr h1 h2
      rw [cMany_s] at h1 h2
      refine ax_iload_n (pc := 2) G dX2_steps_2 rfl rfl ?_
      refine ax_iload_n (pc := 3) G dX2_steps_3 rfl rfl ?_
      refine ax_icmp_geN (pc := 4) (tgt := 31) G dX2_steps_4 rfl (by omega) (by omega) (fun c4 => ?_) (fun c4 => ?_)
      · omega
      · refine ax_aload_n (pc := 7) G dX2_steps_7 rfl rfl ?_
        refine sr_get (pc := 8) (v := .int (r 0)) G flX2_130_1 dX2_steps_8 rfl ?_
        refine ax_aload_n (pc := 11) G dX2_steps_11 rfl rfl ?_
        refine sr_get (pc := 12) (v := .ref (D.1 0)) G flX2_80_1 dX2_steps_12 rfl ?_
        refine ax_getf (pc := 15) (v := .int (pl 0)) G flX2_236_10 dX2_steps_15 (((hEr (r, π, (.ref (D.1 0)), (D.1 8))).1).1) rfl ?_
        refine ax_icmp_ge (pc := 18) (tgt := 31) G dX2_steps_18 rfl (fun c18 => ?_) (fun c18 => ?_)
        · refine ax_iload_n (pc := 31) G dX2_steps_31 rfl rfl ?_
          exact ax_iretP (pc := 32) G E rfl (rfl) dX2_steps_32 (⟨_, rfl, by rw [if_pos c18] at h1; exact congrArg (fun z => some (Value.int (nI z))) h1, _, by rw [if_pos c18] at h2; rw [← h2]⟩)
        · refine ax_aload_n (pc := 21) G dX2_steps_21 rfl rfl ?_
          refine ax_nV (pc := 22) (kb := 0) (nb := 0) G (ct_step hA (π := π) ha hp hr hEr pol hpol hR) lVX2_292_1 dX2_steps_22 sH_obj rfl (by decide) (Nat.le_of_ble_eq_true rfl) rfl (fun v9 h9 q9 => ?_)
          obtain ⟨rfl, π8, rfl⟩ := q9
          show ax_W Ω Γ _ _ (sH h a (cSt pl r V O A pol, π8, (.ref (D.1 0)), (D.1 8))) _ _ (_)
          refine ax_iincN (pc := 25) (n := 1) G dX2_steps_25 rfl rfl ic_1 ?_
          refine ax_goto (pc := 28) (tgt := 2) G dX2_steps_28 rfl ?_
          exact ih (e + 1) _ _ (by omega) (hr.st hp) (hEr.im hA9 (pIm.st hp hr)) (by rw [if_neg (Int32.not_le.mpr (Int32.not_le.mp c18))] at h1; rw [← h1]; omega) (by rw [if_neg (Int32.not_le.mpr (Int32.not_le.mp c18))] at h2; exact h2)
  show ax_W Ω Γ 0 0 (sH h a (s, π, (.ref (D.1 0)), (D.1 8))) 0 [some (.ref a), some (.int (nI M)), none] []
  refine ax_iconst (pc := 0) (v := nI 0) G dX2_steps_0 ic_0 ?_
  refine ax_istore_n (pc := 1) G dX2_steps_1 rfl (Nat.le_of_ble_eq_true rfl) rfl ?_
  exact L0 M 0 s π (by omega) hs hE (by omega) rfl

theorem ct_finish {Ω : ax_O} (hA : ax_Amb Ω) {h : ax_H} {a : Nat} {pl s : pR} {π : Nat → cP} {N V O A : Nat} {D : cD} (ha : Ω.2.1.heap.size ≤ a) (hp : pWP pl N V O) (hs : pWS s A) (hE : cEn h a pl s N V O A D) (pol : Nat) (hpol : pol < 4) (hR : ∀ σ, (sH h a σ).1 (D.1 8) = some (.inr (2 + pol, []))) (M : Nat) (hF : pl 0 ≤ (cMany pl V O A pol M s).1 0) : ax_MetP Ω yX2_finish 14 0 0 [.ref a] (sH h a (s, π, (.ref (D.1 0)), (D.1 8))) (ax_Nm (fun x h' => x = some (.ref a) ∧ ∃ π', h' = sH h a ((cMany pl V O A pol M s).1, π', .ref (D.1 0), D.1 8))) := by
  refine ax_metP q2166 q114 (by decide +kernel) (by decide) hA (Nat.le_of_ble_eq_true rfl) (fun Γ G E => ?_)
  have hV9 := hp.lV
  have hA9 := hs.lA
  have hO9 := hp.lO
  have L0 : ∀ (n : Nat) (r : pR) (π : Nat → cP), pWS r A → cEn h a pl r N V O A D → pl 0 ≤ (cMany pl V O A pol n r).1 0 → (cMany pl V O A pol n r).1 = (cMany pl V O A pol M s).1 → ax_W Ω Γ 0 0 (sH h a (r, π, (.ref (D.1 0)), (D.1 8))) 0 [some (.ref a)] [] := by
    intro n
    induction n with
    | zero =>
      intro r π hr hEr h1 h2
      have h1b : pl 0 ≤ r 0 := h1
      have h2b : r = (cMany pl V O A pol M s).1 := h2
      refine ax_aload_n (pc := 0) G dX2_finish_0 rfl rfl ?_
      refine sr_get (pc := 1) (v := .int (r 0)) G flX2_130_1 dX2_finish_1 rfl ?_
      refine ax_aload_n (pc := 4) G dX2_finish_4 rfl rfl ?_
      refine sr_get (pc := 5) (v := .ref (D.1 0)) G flX2_80_1 dX2_finish_5 rfl ?_
      refine ax_getf (pc := 8) (v := .int (pl 0)) G flX2_236_10 dX2_finish_8 (((hEr (r, π, (.ref (D.1 0)), (D.1 8))).1).1) rfl ?_
      refine ax_icmp_ge (pc := 11) (tgt := 21) G dX2_finish_11 rfl (fun _ => ?_) (fun c9 => absurd h1b c9)
      refine ax_aload_n (pc := 21) G dX2_finish_21 rfl rfl ?_
      exact ax_aretP (pc := 22) G E rfl (Or.inl ⟨_, rfl⟩) (Or.inr ⟨_, rfl⟩) dX2_finish_22 (⟨_, rfl, rfl, _, by rw [← h2b]⟩)
    | succ n ih =>
      intro r π hr hEr h1 h2
      rw [cMany_s] at h1 h2
      refine ax_aload_n (pc := 0) G dX2_finish_0 rfl rfl ?_
      refine sr_get (pc := 1) (v := .int (r 0)) G flX2_130_1 dX2_finish_1 rfl ?_
      refine ax_aload_n (pc := 4) G dX2_finish_4 rfl rfl ?_
      refine sr_get (pc := 5) (v := .ref (D.1 0)) G flX2_80_1 dX2_finish_5 rfl ?_
      refine ax_getf (pc := 8) (v := .int (pl 0)) G flX2_236_10 dX2_finish_8 (((hEr (r, π, (.ref (D.1 0)), (D.1 8))).1).1) rfl ?_
      refine ax_icmp_ge (pc := 11) (tgt := 21) G dX2_finish_11 rfl (fun c11 => ?_) (fun c11 => ?_)
      · refine ax_aload_n (pc := 21) G dX2_finish_21 rfl rfl ?_
        exact ax_aretP (pc := 22) G E rfl (Or.inl ⟨_, rfl⟩) (Or.inr ⟨_, rfl⟩) dX2_finish_22 (⟨_, rfl, rfl, _, by rw [if_pos c11] at h2; rw [← h2]⟩)
      · refine ax_aload_n (pc := 14) G dX2_finish_14 rfl rfl ?_
        refine ax_nV (pc := 15) (kb := 0) (nb := 0) G (ct_step hA (π := π) ha hp hr hEr pol hpol hR) lVX2_292_1 dX2_finish_15 sH_obj rfl (by decide) (Nat.le_of_ble_eq_true rfl) rfl (fun v9 h9 q9 => ?_)
        obtain ⟨rfl, π9, rfl⟩ := q9
        show ax_W Ω Γ _ _ (sH h a (cSt pl r V O A pol, π9, (.ref (D.1 0)), (D.1 8))) _ _ (_)
        refine ax_goto (pc := 18) (tgt := 0) G dX2_finish_18 rfl ?_
        exact ih _ _ (hr.st hp) (hEr.im hA9 (pIm.st hp hr)) (by rw [if_neg c11] at h1; exact h1) (by rw [if_neg c11] at h2; exact h2)
  show ax_W Ω Γ 0 0 (sH h a (s, π, (.ref (D.1 0)), (D.1 8))) 0 [some (.ref a)] []
  exact L0 M s π hs hE hF rfl

theorem ct_done {Ω : ax_O} (hA : ax_Amb Ω) {h : ax_H} {a : Nat} {pl s : pR} {π : Nat → cP} {N V O A : Nat} {D : cD} (ha : Ω.2.1.heap.size ≤ a) (hp : pWP pl N V O) (hs : pWS s A) (hE : cEn h a pl s N V O A D)  : ax_Met Ω yX2_done 4 0 0 [.ref a] (sH h a (s, π, (.ref (D.1 0)), (D.1 8))) (.inl (some (.int (pDoneN s V)))) (sH h a (s, π, (.ref (D.1 0)), (D.1 8))) := by
  refine ax_met q2170 q114 (by decide +kernel) (by decide) hA (Nat.le_of_ble_eq_true rfl) (fun Γ G E => ?_)
  have hV9 := hp.lV
  have hA9 := hs.lA
  have hO9 := hp.lO
  have L0 : ∀ (n i : Nat), i + n = V → ax_W Ω Γ 0 0 (sH h a (s, π, (.ref (D.1 0)), (D.1 8))) 4 [some (.ref a), some (.int (pDoneN s i)), some (.int (nI i))] [] := by
    intro n
    induction n with
    | zero =>
      intro i hi
      have hi9 : V = i := by omega
      subst hi9
      refine ax_iload_n (pc := 4) G dX2_done_4 rfl rfl ?_
      refine ax_aload_n (pc := 5) G dX2_done_5 rfl rfl ?_
      refine sr_get (pc := 6) (v := .ref (D.1 0)) G flX2_80_1 dX2_done_6 rfl ?_
      refine ax_getf (pc := 9) (v := .ref (D.1 2)) G flX2_104_10 dX2_done_9 (((hE (s, π, (.ref (D.1 0)), (D.1 8))).1).1) rfl ?_
      refine ax_cJ1 (pc := 12) (kb := 0) (nb := 0) G (ct_lsize hA ((hE (s, π, (.ref (D.1 0)), (D.1 8))).1.2.2.1).1) lJX2_89_16 dX2_done_12 (((hE (s, π, (.ref (D.1 0)), (D.1 8))).1.2.2.1).1) rfl (by decide) (Nat.le_of_ble_eq_true rfl) rfl ?_
      refine ax_icmp_geN (pc := 17) (tgt := 44) G dX2_done_17 rfl (by omega) (by omega) (fun c17 => ?_) (fun c17 => ?_)
      · refine ax_iload_n (pc := 44) G dX2_done_44 rfl rfl ?_
        exact ax_iretE (pc := 45) G E rfl (rfl) dX2_done_45 (rfl) (rfl)
      · omega
    | succ n ih =>
      intro i hi
      refine ax_iload_n (pc := 4) G dX2_done_4 rfl rfl ?_
      refine ax_aload_n (pc := 5) G dX2_done_5 rfl rfl ?_
      refine sr_get (pc := 6) (v := .ref (D.1 0)) G flX2_80_1 dX2_done_6 rfl ?_
      refine ax_getf (pc := 9) (v := .ref (D.1 2)) G flX2_104_10 dX2_done_9 (((hE (s, π, (.ref (D.1 0)), (D.1 8))).1).1) rfl ?_
      refine ax_cJ1 (pc := 12) (kb := 0) (nb := 0) G (ct_lsize hA ((hE (s, π, (.ref (D.1 0)), (D.1 8))).1.2.2.1).1) lJX2_89_16 dX2_done_12 (((hE (s, π, (.ref (D.1 0)), (D.1 8))).1.2.2.1).1) rfl (by decide) (Nat.le_of_ble_eq_true rfl) rfl ?_
      refine ax_icmp_geN (pc := 17) (tgt := 44) G dX2_done_17 rfl (by omega) (by omega) (fun c17 => ?_) (fun c17 => ?_)
      · omega
      · refine ax_iload_n (pc := 20) G dX2_done_20 rfl rfl ?_
        refine ax_aload_n (pc := 21) G dX2_done_21 rfl rfl ?_
        refine sr_get (pc := 22) (v := .ref (a + 8)) G flX2_43_1 dX2_done_22 rfl ?_
        refine ax_iload_n (pc := 25) G dX2_done_25 rfl rfl ?_
        refine sr_ld (pc := 26) (k := 8) (j := i) (r := 47 + i) G dX2_done_26 (by decide) (by decide) rfl rfl (show i < 20 by omega) ?_
        show ax_W Ω Γ _ _ _ _ _ (.int (s (47 + i)) :: _)
        refine ax_iconst (pc := 27) (v := nI 1) G dX2_done_27 ic_1 ?_
        refine ax_icmp_ne (pc := 28) (tgt := 35) G dX2_done_28 rfl (fun c28 => ?_) (fun c28 => ?_)
        · refine ax_iconst (pc := 35) (v := nI 0) G dX2_done_35 ic_0 ?_
          refine ax_iadd (pc := 36) G dX2_done_36 ?_
          refine ax_istore_n (pc := 37) G dX2_done_37 rfl (Nat.le_of_ble_eq_true rfl) rfl ?_
          refine ax_iincN (pc := 38) (n := 1) G dX2_done_38 rfl rfl ic_1 ?_
          refine ax_goto (pc := 41) (tgt := 4) G dX2_done_41 rfl ?_
          have eX : pDoneN s (i + 1) = (pDoneN s i) + (nI 0) := by first | (simp only [pDoneN, c17, c28, if_true, if_false, Bool.false_eq_true, not_false_eq_true, not_true_eq_false, decide_true, decide_false, Bool.and_true, Bool.true_and, Bool.and_false, Bool.false_and, Bool.or_true, Bool.true_or, Bool.or_false, Bool.false_or, and_self, and_true, true_and, and_false, false_and, or_true, true_or, or_false, false_or, ne_eq]; done) | (simp only [pDoneN, c17, c28, if_true, if_false, Bool.false_eq_true, not_false_eq_true, not_true_eq_false, decide_true, decide_false, Bool.and_true, Bool.true_and, Bool.and_false, Bool.false_and, Bool.or_true, Bool.true_or, Bool.or_false, Bool.false_or, and_self, and_true, true_and, and_false, false_and, or_true, true_or, or_false, false_or, ne_eq]; rfl)
          have q := ih (i + 1) (by omega)
          rw [eX] at q
          exact q
        · refine ax_iconst (pc := 31) (v := nI 1) G dX2_done_31 ic_1 ?_
          refine ax_goto (pc := 32) (tgt := 36) G dX2_done_32 rfl ?_
          refine ax_iadd (pc := 36) G dX2_done_36 ?_
          refine ax_istore_n (pc := 37) G dX2_done_37 rfl (Nat.le_of_ble_eq_true rfl) rfl ?_
          refine ax_iincN (pc := 38) (n := 1) G dX2_done_38 rfl rfl ic_1 ?_
          refine ax_goto (pc := 41) (tgt := 4) G dX2_done_41 rfl ?_
          have eX : pDoneN s (i + 1) = (pDoneN s i) + (nI 1) := by first | (simp only [pDoneN, c17, c28, if_true, if_false, Bool.false_eq_true, not_false_eq_true, not_true_eq_false, decide_true, decide_false, Bool.and_true, Bool.true_and, Bool.and_false, Bool.false_and, Bool.or_true, Bool.true_or, Bool.or_false, Bool.false_or, and_self, and_true, true_and, and_false, false_and, or_true, true_or, or_false, false_or, ne_eq]; done) | (simp only [pDoneN, c17, c28, if_true, if_false, Bool.false_eq_true, not_false_eq_true, not_true_eq_false, decide_true, decide_false, Bool.and_true, Bool.true_and, Bool.and_false, Bool.false_and, Bool.or_true, Bool.true_or, Bool.or_false, Bool.false_or, and_self, and_true, true_and, and_false, false_and, or_true, true_or, or_false, false_or, ne_eq]; rfl) | (simp only [pDoneN, c17, if_pos c28, decide_eq_true c28, if_true, if_false, Bool.false_eq_true, not_false_eq_true, not_true_eq_false, decide_true, decide_false, Bool.and_true, Bool.true_and, Bool.and_false, Bool.false_and, Bool.or_true, Bool.true_or, Bool.or_false, Bool.false_or, and_self, and_true, true_and, and_false, false_and, or_true, true_or, or_false, false_or, ne_eq]; done) | (simp only [pDoneN, c17, if_pos c28, decide_eq_true c28, if_true, if_false, Bool.false_eq_true, not_false_eq_true, not_true_eq_false, decide_true, decide_false, Bool.and_true, Bool.true_and, Bool.and_false, Bool.false_and, Bool.or_true, Bool.true_or, Bool.or_false, Bool.false_or, and_self, and_true, true_and, and_false, false_and, or_true, true_or, or_false, false_or, ne_eq]; rfl)
          have q := ih (i + 1) (by omega)
          rw [eX] at q
          exact q
  show ax_W Ω Γ 0 0 (sH h a (s, π, (.ref (D.1 0)), (D.1 8))) 0 [some (.ref a), none, none] []
  refine ax_iconst (pc := 0) (v := nI 0) G dX2_done_0 ic_0 ?_
  refine ax_istore_n (pc := 1) G dX2_done_1 rfl (Nat.le_of_ble_eq_true rfl) rfl ?_
  refine ax_iconst (pc := 2) (v := nI 0) G dX2_done_2 ic_0 ?_
  refine ax_istore_n (pc := 3) G dX2_done_3 rfl (Nat.le_of_ble_eq_true rfl) rfl ?_
  exact L0 V 0 (by omega)

