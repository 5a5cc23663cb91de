/-! TelescopeQueue: an alert that may not be added, letters -/
theorem cq_addAlert_N {Ω : ax_O} (hA : ax_Amb Ω) {h : ax_H} {X bf tr hi sv lb : Nat} {x1 x2 x3 : Int32} (hX : h.1 X = some (.inr (0, [.ref bf, .int x1, .int x2, .int x3, .null, .ref tr, .ref hi, .ref sv, .ref lb]))) (k : Int32) (lon : Int32) (lat : Int32) (du : Int32) (pu : Int32) (re : Int32)  : ax_Met Ω yX1_addAlert 20 4 24 [.ref X, .int k, .int lon, .int lat, .int du, .int pu, .int re] h (.inr h.2) (ax_add h (.inr (21, []))) := by
  refine ax_met q2506 q113 (by decide +kernel) (by decide) hA (Nat.le_of_ble_eq_true rfl) (fun Γ G E => ?_)
  show ax_W Ω Γ 4 24 h 0 [some (.ref X), some (.int k), some (.int lon), some (.int lat), some (.int du), some (.int pu), some (.int re), none] []
  refine ax_aload_n (pc := 0) G dX1_addAlert_0 rfl rfl ?_
  refine ax_iload_n (pc := 1) G dX1_addAlert_1 rfl rfl ?_
  refine ax_callV (pc := 2) (kb := 1) (nb := 6) G (cx_withProposalN hA hX k) lVX1_138_0 dX1_addAlert_2 (hX) rfl (by decide) (Nat.le_of_ble_eq_true rfl) rfl (fun _ e9 => by cases e9) (fun q9 e9 => ?_)
  cases e9
  exact ax_out G E (fun x hx => by cases hx)

theorem cq_addAlert_B {Ω : ax_O} (hA : ax_Amb Ω) {h : ax_H} {a : Nat} {pl s : pR} {π : Nat → cP} {N V O A : Nat} {D : cD} (ha : Ω.2.1.heap.size ≤ a) (hp : pWP pl N V O) (hs : pWS s A) (hE : cEn h a pl s N V O A D) {X bf tr hi sv lb : Nat} {x1 x2 x3 : Int32} (hX : ∀ σ, (sH h a σ).1 X = some (.inr (0, [.ref bf, .int x1, .int x2, .int x3, .ref a, .ref tr, .ref hi, .ref sv, .ref lb]))) (k lon lat du pu re : Int32) (hb : pIn k (nI 0) (nI N - nI 1) = false)  : ax_Met Ω yX1_addAlert 20 4 24 [.ref X, .int k, .int lon, .int lat, .int du, .int pu, .int re] (sH h a (s, π, (.ref (D.1 0)), (D.1 8))) (.inr (sH h a (s, π, (.ref (D.1 0)), (D.1 8))).2) (ax_add (sH h a (s, π, (.ref (D.1 0)), (D.1 8))) (.inr (22, []))) := by
  refine ax_met q2506 q113 (by decide +kernel) (by decide) hA (Nat.le_of_ble_eq_true rfl) (fun Γ G E => ?_)
  have hV9 := hp.lV
  have hA9 := hs.lA
  have hO9 := hp.lO
  have hN9 := hp.2.1.1
  show ax_W Ω Γ 4 24 (sH h a (s, π, (.ref (D.1 0)), (D.1 8))) 0 [some (.ref X), some (.int k), some (.int lon), some (.int lat), some (.int du), some (.int pu), some (.int re), none] []
  refine ax_aload_n (pc := 0) G dX1_addAlert_0 rfl rfl ?_
  refine ax_iload_n (pc := 1) G dX1_addAlert_1 rfl rfl ?_
  refine ax_callV (pc := 2) (kb := 1) (nb := 6) G (cx_withProposalB hA (π := π) ha hp hs hE hX k hb) lVX1_138_0 dX1_addAlert_2 (hX _) rfl (by decide) (Nat.le_of_ble_eq_true rfl) rfl (fun _ e9 => by cases e9) (fun q9 e9 => ?_)
  cases e9
  exact ax_out G E (fun x hx => by cases hx)

theorem cq_addAlert_C1 {Ω : ax_O} (hA : ax_Amb Ω) {h : ax_H} {a : Nat} {pl s : pR} {π : Nat → cP} {N V O A : Nat} {D : cD} (ha : Ω.2.1.heap.size ≤ a) (hp : pWP pl N V O) (hs : pWS s A) (hE : cEn h a pl s N V O A D) {X bf tr hi sv lb : Nat} {x1 x2 x3 : Int32} (hX : ∀ σ, (sH h a σ).1 X = some (.inr (0, [.ref bf, .int x1, .int x2, .int x3, .ref a, .ref tr, .ref hi, .ref sv, .ref lb]))) (k : Nat) (hk : k < N) (lon lat du pu re : Int32) (hb : (pIn lon (nI 0) (nI 359) && pIn lat (-90) (nI 90)) = false)  : ax_Met Ω yX1_addAlert 20 4 24 [.ref X, .int (nI k), .int lon, .int lat, .int du, .int pu, .int re] (sH h a (s, π, (.ref (D.1 0)), (D.1 8))) (.inr (sH h a (s, π, (.ref (D.1 0)), (D.1 8))).2) (ax_add (sH h a (s, π, (.ref (D.1 0)), (D.1 8))) (.inr (20, []))) := by
  refine ax_met q2506 q113 (by decide +kernel) (by decide) hA (Nat.le_of_ble_eq_true rfl) (fun Γ G E => ?_)
  have hV9 := hp.lV
  have hA9 := hs.lA
  have hO9 := hp.lO
  have hN9 := hp.2.1.1
  show ax_W Ω Γ 4 24 (sH h a (s, π, (.ref (D.1 0)), (D.1 8))) 0 [some (.ref X), some (.int (nI k)), some (.int lon), some (.int lat), some (.int du), some (.int pu), some (.int re), none] []
  refine ax_aload_n (pc := 0) G dX1_addAlert_0 rfl rfl ?_
  refine ax_iload_n (pc := 1) G dX1_addAlert_1 rfl rfl ?_
  refine ax_cV1 (pc := 2) (kb := 1) (nb := 6) G (cx_withProposalY hA (π := π) ha hp hs hE hX k (by omega)) lVX1_138_0 dX1_addAlert_2 (hX _) rfl (by decide) (Nat.le_of_ble_eq_true rfl) rfl ?_
  refine ax_astore (pc := 5) G dX1_addAlert_5 (Nat.le_of_ble_eq_true rfl) rfl ?_
  refine ax_iload_n (pc := 7) G dX1_addAlert_7 rfl rfl ?_
  refine ax_iload_n (pc := 8) G dX1_addAlert_8 rfl rfl ?_
  refine ax_cS1 (pc := 9) (kb := 1) (nb := 6) G (cx_pointing hA lon lat) lSX1_306 dX1_addAlert_9 rfl (by decide) (Nat.le_of_ble_eq_true rfl) rfl ?_
  refine ax_if_eq (pc := 12) (tgt := 73) G dX1_addAlert_12 rfl (fun _ => ?_) (fun c9 => absurd (by rw [hb]; rfl) c9)
  refine ax_iconst (pc := 73) (v := nI 0) G dX1_addAlert_73 ic_0 ?_
  refine ax_callS (pc := 74) (kb := 0) (nb := 0) G (ct_argN hA) lSX1_144 dX1_addAlert_74 rfl (by decide) (Nat.le_of_ble_eq_true rfl) rfl (fun _ e9 => by cases e9) (fun q9 e9 => ?_)
  cases e9
  exact ax_out G E (fun x hx => by cases hx)

theorem cq_addAlert_C2 {Ω : ax_O} (hA : ax_Amb Ω) {h : ax_H} {a : Nat} {pl s : pR} {π : Nat → cP} {N V O A : Nat} {D : cD} (ha : Ω.2.1.heap.size ≤ a) (hp : pWP pl N V O) (hs : pWS s A) (hE : cEn h a pl s N V O A D) {X bf tr hi sv lb : Nat} {x1 x2 x3 : Int32} (hX : ∀ σ, (sH h a σ).1 X = some (.inr (0, [.ref bf, .int x1, .int x2, .int x3, .ref a, .ref tr, .ref hi, .ref sv, .ref lb]))) (k : Nat) (hk : k < N) (lon lat du pu re : Int32) (m0 : (pIn lon (nI 0) (nI 359) && pIn lat (-90) (nI 90)) = true) (hb : pIn du (nI 1) (nI 300) = false)  : ax_Met Ω yX1_addAlert 20 4 24 [.ref X, .int (nI k), .int lon, .int lat, .int du, .int pu, .int re] (sH h a (s, π, (.ref (D.1 0)), (D.1 8))) (.inr (sH h a (s, π, (.ref (D.1 0)), (D.1 8))).2) (ax_add (sH h a (s, π, (.ref (D.1 0)), (D.1 8))) (.inr (20, []))) := by
  refine ax_met q2506 q113 (by decide +kernel) (by decide) hA (Nat.le_of_ble_eq_true rfl) (fun Γ G E => ?_)
  have hV9 := hp.lV
  have hA9 := hs.lA
  have hO9 := hp.lO
  have hN9 := hp.2.1.1
  show ax_W Ω Γ 4 24 (sH h a (s, π, (.ref (D.1 0)), (D.1 8))) 0 [some (.ref X), some (.int (nI k)), some (.int lon), some (.int lat), some (.int du), some (.int pu), some (.int re), none] []
  refine ax_aload_n (pc := 0) G dX1_addAlert_0 rfl rfl ?_
  refine ax_iload_n (pc := 1) G dX1_addAlert_1 rfl rfl ?_
  refine ax_cV1 (pc := 2) (kb := 1) (nb := 6) G (cx_withProposalY hA (π := π) ha hp hs hE hX k (by omega)) lVX1_138_0 dX1_addAlert_2 (hX _) rfl (by decide) (Nat.le_of_ble_eq_true rfl) rfl ?_
  refine ax_astore (pc := 5) G dX1_addAlert_5 (Nat.le_of_ble_eq_true rfl) rfl ?_
  refine ax_iload_n (pc := 7) G dX1_addAlert_7 rfl rfl ?_
  refine ax_iload_n (pc := 8) G dX1_addAlert_8 rfl rfl ?_
  refine ax_cS1 (pc := 9) (kb := 1) (nb := 6) G (cx_pointing hA lon lat) lSX1_306 dX1_addAlert_9 rfl (by decide) (Nat.le_of_ble_eq_true rfl) rfl ?_
  refine ax_if_eq (pc := 12) (tgt := 73) G dX1_addAlert_12 rfl (fun c9 => absurd c9 (by rw [m0]; decide)) (fun _ => ?_)
  refine ax_iload (pc := 15) G dX1_addAlert_15 rfl ?_
  refine ax_i2l (pc := 17) G dX1_addAlert_17 rfl ?_
  refine ax_lconst (pc := 18) (v := 1) G dX1_addAlert_18 rfl ?_
  refine ax_ldc2 (pc := 19) G q2077 dX1_addAlert_19 ?_
  refine ax_cS1 (pc := 22) (kb := 1) (nb := 6) G (ct_in hA du.toInt64 1 300) lSX1_62 dX1_addAlert_22 rfl (by decide) (Nat.le_of_ble_eq_true rfl) rfl ?_
  rw [cIn_k (A := 1) (B := 300) (a := (nI 1)) (b := (nI 300)) du (by decide) (by decide)]
  refine ax_if_eq (pc := 25) (tgt := 73) G dX1_addAlert_25 rfl (fun _ => ?_) (fun c9 => absurd (by rw [hb]; rfl) c9)
  refine ax_iconst (pc := 73) (v := nI 0) G dX1_addAlert_73 ic_0 ?_
  refine ax_callS (pc := 74) (kb := 0) (nb := 0) G (ct_argN hA) lSX1_144 dX1_addAlert_74 rfl (by decide) (Nat.le_of_ble_eq_true rfl) rfl (fun _ e9 => by cases e9) (fun q9 e9 => ?_)
  cases e9
  exact ax_out G E (fun x hx => by cases hx)

theorem cq_addAlert_C3 {Ω : ax_O} (hA : ax_Amb Ω) {h : ax_H} {a : Nat} {pl s : pR} {π : Nat → cP} {N V O A : Nat} {D : cD} (ha : Ω.2.1.heap.size ≤ a) (hp : pWP pl N V O) (hs : pWS s A) (hE : cEn h a pl s N V O A D) {X bf tr hi sv lb : Nat} {x1 x2 x3 : Int32} (hX : ∀ σ, (sH h a σ).1 X = some (.inr (0, [.ref bf, .int x1, .int x2, .int x3, .ref a, .ref tr, .ref hi, .ref sv, .ref lb]))) (k : Nat) (hk : k < N) (lon lat du pu re : Int32) (m0 : (pIn lon (nI 0) (nI 359) && pIn lat (-90) (nI 90)) = true) (m1 : pIn du (nI 1) (nI 300) = true) (hb : pIn pu (nI 0) (nI 99) = false)  : ax_Met Ω yX1_addAlert 20 4 24 [.ref X, .int (nI k), .int lon, .int lat, .int du, .int pu, .int re] (sH h a (s, π, (.ref (D.1 0)), (D.1 8))) (.inr (sH h a (s, π, (.ref (D.1 0)), (D.1 8))).2) (ax_add (sH h a (s, π, (.ref (D.1 0)), (D.1 8))) (.inr (20, []))) := by
  refine ax_met q2506 q113 (by decide +kernel) (by decide) hA (Nat.le_of_ble_eq_true rfl) (fun Γ G E => ?_)
  have hV9 := hp.lV
  have hA9 := hs.lA
  have hO9 := hp.lO
  have hN9 := hp.2.1.1
  show ax_W Ω Γ 4 24 (sH h a (s, π, (.ref (D.1 0)), (D.1 8))) 0 [some (.ref X), some (.int (nI k)), some (.int lon), some (.int lat), some (.int du), some (.int pu), some (.int re), none] []
  refine ax_aload_n (pc := 0) G dX1_addAlert_0 rfl rfl ?_
  refine ax_iload_n (pc := 1) G dX1_addAlert_1 rfl rfl ?_
  refine ax_cV1 (pc := 2) (kb := 1) (nb := 6) G (cx_withProposalY hA (π := π) ha hp hs hE hX k (by omega)) lVX1_138_0 dX1_addAlert_2 (hX _) rfl (by decide) (Nat.le_of_ble_eq_true rfl) rfl ?_
  refine ax_astore (pc := 5) G dX1_addAlert_5 (Nat.le_of_ble_eq_true rfl) rfl ?_
  refine ax_iload_n (pc := 7) G dX1_addAlert_7 rfl rfl ?_
  refine ax_iload_n (pc := 8) G dX1_addAlert_8 rfl rfl ?_
  refine ax_cS1 (pc := 9) (kb := 1) (nb := 6) G (cx_pointing hA lon lat) lSX1_306 dX1_addAlert_9 rfl (by decide) (Nat.le_of_ble_eq_true rfl) rfl ?_
  refine ax_if_eq (pc := 12) (tgt := 73) G dX1_addAlert_12 rfl (fun c9 => absurd c9 (by rw [m0]; decide)) (fun _ => ?_)
  refine ax_iload (pc := 15) G dX1_addAlert_15 rfl ?_
  refine ax_i2l (pc := 17) G dX1_addAlert_17 rfl ?_
  refine ax_lconst (pc := 18) (v := 1) G dX1_addAlert_18 rfl ?_
  refine ax_ldc2 (pc := 19) G q2077 dX1_addAlert_19 ?_
  refine ax_cS1 (pc := 22) (kb := 1) (nb := 6) G (ct_in hA du.toInt64 1 300) lSX1_62 dX1_addAlert_22 rfl (by decide) (Nat.le_of_ble_eq_true rfl) rfl ?_
  rw [cIn_k (A := 1) (B := 300) (a := (nI 1)) (b := (nI 300)) du (by decide) (by decide)]
  refine ax_if_eq (pc := 25) (tgt := 73) G dX1_addAlert_25 rfl (fun c9 => absurd c9 (by rw [m1]; decide)) (fun _ => ?_)
  refine ax_iload (pc := 28) G dX1_addAlert_28 rfl ?_
  refine ax_i2l (pc := 30) G dX1_addAlert_30 rfl ?_
  refine ax_lconst (pc := 31) (v := 0) G dX1_addAlert_31 rfl ?_
  refine ax_ldc2 (pc := 32) G q2507 dX1_addAlert_32 ?_
  refine ax_cS1 (pc := 35) (kb := 1) (nb := 6) G (ct_in hA pu.toInt64 0 99) lSX1_62 dX1_addAlert_35 rfl (by decide) (Nat.le_of_ble_eq_true rfl) rfl ?_
  rw [cIn_k (A := 0) (B := 99) (a := (nI 0)) (b := (nI 99)) pu (by decide) (by decide)]
  refine ax_if_eq (pc := 38) (tgt := 73) G dX1_addAlert_38 rfl (fun _ => ?_) (fun c9 => absurd (by rw [hb]; rfl) c9)
  refine ax_iconst (pc := 73) (v := nI 0) G dX1_addAlert_73 ic_0 ?_
  refine ax_callS (pc := 74) (kb := 0) (nb := 0) G (ct_argN hA) lSX1_144 dX1_addAlert_74 rfl (by decide) (Nat.le_of_ble_eq_true rfl) rfl (fun _ e9 => by cases e9) (fun q9 e9 => ?_)
  cases e9
  exact ax_out G E (fun x hx => by cases hx)

theorem cq_addAlert_C4 {Ω : ax_O} (hA : ax_Amb Ω) {h : ax_H} {a : Nat} {pl s : pR} {π : Nat → cP} {N V O A : Nat} {D : cD} (ha : Ω.2.1.heap.size ≤ a) (hp : pWP pl N V O) (hs : pWS s A) (hE : cEn h a pl s N V O A D) {X bf tr hi sv lb : Nat} {x1 x2 x3 : Int32} (hX : ∀ σ, (sH h a σ).1 X = some (.inr (0, [.ref bf, .int x1, .int x2, .int x3, .ref a, .ref tr, .ref hi, .ref sv, .ref lb]))) (k : Nat) (hk : k < N) (lon lat du pu re : Int32) (m0 : (pIn lon (nI 0) (nI 359) && pIn lat (-90) (nI 90)) = true) (m1 : pIn du (nI 1) (nI 300) = true) (m2 : pIn pu (nI 0) (nI 99) = true) (hb : pIn re (nI 0) (nI 999) = false)  : ax_Met Ω yX1_addAlert 20 4 24 [.ref X, .int (nI k), .int lon, .int lat, .int du, .int pu, .int re] (sH h a (s, π, (.ref (D.1 0)), (D.1 8))) (.inr (sH h a (s, π, (.ref (D.1 0)), (D.1 8))).2) (ax_add (sH h a (s, π, (.ref (D.1 0)), (D.1 8))) (.inr (20, []))) := by
  refine ax_met q2506 q113 (by decide +kernel) (by decide) hA (Nat.le_of_ble_eq_true rfl) (fun Γ G E => ?_)
  have hV9 := hp.lV
  have hA9 := hs.lA
  have hO9 := hp.lO
  have hN9 := hp.2.1.1
  show ax_W Ω Γ 4 24 (sH h a (s, π, (.ref (D.1 0)), (D.1 8))) 0 [some (.ref X), some (.int (nI k)), some (.int lon), some (.int lat), some (.int du), some (.int pu), some (.int re), none] []
  refine ax_aload_n (pc := 0) G dX1_addAlert_0 rfl rfl ?_
  refine ax_iload_n (pc := 1) G dX1_addAlert_1 rfl rfl ?_
  refine ax_cV1 (pc := 2) (kb := 1) (nb := 6) G (cx_withProposalY hA (π := π) ha hp hs hE hX k (by omega)) lVX1_138_0 dX1_addAlert_2 (hX _) rfl (by decide) (Nat.le_of_ble_eq_true rfl) rfl ?_
  refine ax_astore (pc := 5) G dX1_addAlert_5 (Nat.le_of_ble_eq_true rfl) rfl ?_
  refine ax_iload_n (pc := 7) G dX1_addAlert_7 rfl rfl ?_
  refine ax_iload_n (pc := 8) G dX1_addAlert_8 rfl rfl ?_
  refine ax_cS1 (pc := 9) (kb := 1) (nb := 6) G (cx_pointing hA lon lat) lSX1_306 dX1_addAlert_9 rfl (by decide) (Nat.le_of_ble_eq_true rfl) rfl ?_
  refine ax_if_eq (pc := 12) (tgt := 73) G dX1_addAlert_12 rfl (fun c9 => absurd c9 (by rw [m0]; decide)) (fun _ => ?_)
  refine ax_iload (pc := 15) G dX1_addAlert_15 rfl ?_
  refine ax_i2l (pc := 17) G dX1_addAlert_17 rfl ?_
  refine ax_lconst (pc := 18) (v := 1) G dX1_addAlert_18 rfl ?_
  refine ax_ldc2 (pc := 19) G q2077 dX1_addAlert_19 ?_
  refine ax_cS1 (pc := 22) (kb := 1) (nb := 6) G (ct_in hA du.toInt64 1 300) lSX1_62 dX1_addAlert_22 rfl (by decide) (Nat.le_of_ble_eq_true rfl) rfl ?_
  rw [cIn_k (A := 1) (B := 300) (a := (nI 1)) (b := (nI 300)) du (by decide) (by decide)]
  refine ax_if_eq (pc := 25) (tgt := 73) G dX1_addAlert_25 rfl (fun c9 => absurd c9 (by rw [m1]; decide)) (fun _ => ?_)
  refine ax_iload (pc := 28) G dX1_addAlert_28 rfl ?_
  refine ax_i2l (pc := 30) G dX1_addAlert_30 rfl ?_
  refine ax_lconst (pc := 31) (v := 0) G dX1_addAlert_31 rfl ?_
  refine ax_ldc2 (pc := 32) G q2507 dX1_addAlert_32 ?_
  refine ax_cS1 (pc := 35) (kb := 1) (nb := 6) G (ct_in hA pu.toInt64 0 99) lSX1_62 dX1_addAlert_35 rfl (by decide) (Nat.le_of_ble_eq_true rfl) rfl ?_
  rw [cIn_k (A := 0) (B := 99) (a := (nI 0)) (b := (nI 99)) pu (by decide) (by decide)]
  refine ax_if_eq (pc := 38) (tgt := 73) G dX1_addAlert_38 rfl (fun c9 => absurd c9 (by rw [m2]; decide)) (fun _ => ?_)
  refine ax_iload (pc := 41) G dX1_addAlert_41 rfl ?_
  refine ax_i2l (pc := 43) G dX1_addAlert_43 rfl ?_
  refine ax_lconst (pc := 44) (v := 0) G dX1_addAlert_44 rfl ?_
  refine ax_ldc2 (pc := 45) G q2508 dX1_addAlert_45 ?_
  refine ax_cS1 (pc := 48) (kb := 1) (nb := 6) G (ct_in hA re.toInt64 0 999) lSX1_62 dX1_addAlert_48 rfl (by decide) (Nat.le_of_ble_eq_true rfl) rfl ?_
  rw [cIn_k (A := 0) (B := 999) (a := (nI 0)) (b := (nI 999)) re (by decide) (by decide)]
  refine ax_if_eq (pc := 51) (tgt := 73) G dX1_addAlert_51 rfl (fun _ => ?_) (fun c9 => absurd (by rw [hb]; rfl) c9)
  refine ax_iconst (pc := 73) (v := nI 0) G dX1_addAlert_73 ic_0 ?_
  refine ax_callS (pc := 74) (kb := 0) (nb := 0) G (ct_argN hA) lSX1_144 dX1_addAlert_74 rfl (by decide) (Nat.le_of_ble_eq_true rfl) rfl (fun _ e9 => by cases e9) (fun q9 e9 => ?_)
  cases e9
  exact ax_out G E (fun x hx => by cases hx)

theorem cq_addAlert_C5 {Ω : ax_O} (hA : ax_Amb Ω) {h : ax_H} {a : Nat} {pl s : pR} {π : Nat → cP} {N V O A : Nat} {D : cD} (ha : Ω.2.1.heap.size ≤ a) (hp : pWP pl N V O) (hs : pWS s A) (hE : cEn h a pl s N V O A D) {X bf tr hi sv lb : Nat} {x1 x2 x3 : Int32} (hX : ∀ σ, (sH h a σ).1 X = some (.inr (0, [.ref bf, .int x1, .int x2, .int x3, .ref a, .ref tr, .ref hi, .ref sv, .ref lb]))) (k : Nat) (hk : k < N) (lon lat du pu re : Int32) (m0 : (pIn lon (nI 0) (nI 359) && pIn lat (-90) (nI 90)) = true) (m1 : pIn du (nI 1) (nI 300) = true) (m2 : pIn pu (nI 0) (nI 99) = true) (m3 : pIn re (nI 0) (nI 999) = true) (hb : 10 ≤ A)  : ax_Met Ω yX1_addAlert 20 4 24 [.ref X, .int (nI k), .int lon, .int lat, .int du, .int pu, .int re] (sH h a (s, π, (.ref (D.1 0)), (D.1 8))) (.inr (sH h a (s, π, (.ref (D.1 0)), (D.1 8))).2) (ax_add (sH h a (s, π, (.ref (D.1 0)), (D.1 8))) (.inr (20, []))) := by
  refine ax_met q2506 q113 (by decide +kernel) (by decide) hA (Nat.le_of_ble_eq_true rfl) (fun Γ G E => ?_)
  have hV9 := hp.lV
  have hA9 := hs.lA
  have hO9 := hp.lO
  have hN9 := hp.2.1.1
  show ax_W Ω Γ 4 24 (sH h a (s, π, (.ref (D.1 0)), (D.1 8))) 0 [some (.ref X), some (.int (nI k)), some (.int lon), some (.int lat), some (.int du), some (.int pu), some (.int re), none] []
  refine ax_aload_n (pc := 0) G dX1_addAlert_0 rfl rfl ?_
  refine ax_iload_n (pc := 1) G dX1_addAlert_1 rfl rfl ?_
  refine ax_cV1 (pc := 2) (kb := 1) (nb := 6) G (cx_withProposalY hA (π := π) ha hp hs hE hX k (by omega)) lVX1_138_0 dX1_addAlert_2 (hX _) rfl (by decide) (Nat.le_of_ble_eq_true rfl) rfl ?_
  refine ax_astore (pc := 5) G dX1_addAlert_5 (Nat.le_of_ble_eq_true rfl) rfl ?_
  refine ax_iload_n (pc := 7) G dX1_addAlert_7 rfl rfl ?_
  refine ax_iload_n (pc := 8) G dX1_addAlert_8 rfl rfl ?_
  refine ax_cS1 (pc := 9) (kb := 1) (nb := 6) G (cx_pointing hA lon lat) lSX1_306 dX1_addAlert_9 rfl (by decide) (Nat.le_of_ble_eq_true rfl) rfl ?_
  refine ax_if_eq (pc := 12) (tgt := 73) G dX1_addAlert_12 rfl (fun c9 => absurd c9 (by rw [m0]; decide)) (fun _ => ?_)
  refine ax_iload (pc := 15) G dX1_addAlert_15 rfl ?_
  refine ax_i2l (pc := 17) G dX1_addAlert_17 rfl ?_
  refine ax_lconst (pc := 18) (v := 1) G dX1_addAlert_18 rfl ?_
  refine ax_ldc2 (pc := 19) G q2077 dX1_addAlert_19 ?_
  refine ax_cS1 (pc := 22) (kb := 1) (nb := 6) G (ct_in hA du.toInt64 1 300) lSX1_62 dX1_addAlert_22 rfl (by decide) (Nat.le_of_ble_eq_true rfl) rfl ?_
  rw [cIn_k (A := 1) (B := 300) (a := (nI 1)) (b := (nI 300)) du (by decide) (by decide)]
  refine ax_if_eq (pc := 25) (tgt := 73) G dX1_addAlert_25 rfl (fun c9 => absurd c9 (by rw [m1]; decide)) (fun _ => ?_)
  refine ax_iload (pc := 28) G dX1_addAlert_28 rfl ?_
  refine ax_i2l (pc := 30) G dX1_addAlert_30 rfl ?_
  refine ax_lconst (pc := 31) (v := 0) G dX1_addAlert_31 rfl ?_
  refine ax_ldc2 (pc := 32) G q2507 dX1_addAlert_32 ?_
  refine ax_cS1 (pc := 35) (kb := 1) (nb := 6) G (ct_in hA pu.toInt64 0 99) lSX1_62 dX1_addAlert_35 rfl (by decide) (Nat.le_of_ble_eq_true rfl) rfl ?_
  rw [cIn_k (A := 0) (B := 99) (a := (nI 0)) (b := (nI 99)) pu (by decide) (by decide)]
  refine ax_if_eq (pc := 38) (tgt := 73) G dX1_addAlert_38 rfl (fun c9 => absurd c9 (by rw [m2]; decide)) (fun _ => ?_)
  refine ax_iload (pc := 41) G dX1_addAlert_41 rfl ?_
  refine ax_i2l (pc := 43) G dX1_addAlert_43 rfl ?_
  refine ax_lconst (pc := 44) (v := 0) G dX1_addAlert_44 rfl ?_
  refine ax_ldc2 (pc := 45) G q2508 dX1_addAlert_45 ?_
  refine ax_cS1 (pc := 48) (kb := 1) (nb := 6) G (ct_in hA re.toInt64 0 999) lSX1_62 dX1_addAlert_48 rfl (by decide) (Nat.le_of_ble_eq_true rfl) rfl ?_
  rw [cIn_k (A := 0) (B := 999) (a := (nI 0)) (b := (nI 999)) re (by decide) (by decide)]
  refine ax_if_eq (pc := 51) (tgt := 73) G dX1_addAlert_51 rfl (fun c9 => absurd c9 (by rw [m3]; decide)) (fun _ => ?_)
  refine ax_aload (pc := 54) G dX1_addAlert_54 rfl ?_
  refine sr_get (pc := 56) (v := .ref (a + 2)) G flX1_100_1 dX1_addAlert_56 rfl ?_
  refine ax_cJ1 (pc := 59) (kb := 1) (nb := 6) G (ct_lsize hA ((hE (s, π, (.ref (D.1 0)), (D.1 8))).2.1).1) lJX1_1_16 dX1_addAlert_59 (((hE (s, π, (.ref (D.1 0)), (D.1 8))).2.1).1) rfl (by decide) (Nat.le_of_ble_eq_true rfl) rfl ?_
  refine ax_bipush (pc := 64) (v := nI 10) G dX1_addAlert_64 ib_10 ?_
  refine ax_icmp_ge (pc := 66) (tgt := 73) G dX1_addAlert_66 rfl (fun _ => ?_) (fun c9 => absurd (le_t.mpr (by rw [nI_toInt (by omega), nI_toInt (by omega)]; omega)) c9)
  refine ax_iconst (pc := 73) (v := nI 0) G dX1_addAlert_73 ic_0 ?_
  refine ax_callS (pc := 74) (kb := 0) (nb := 0) G (ct_argN hA) lSX1_144 dX1_addAlert_74 rfl (by decide) (Nat.le_of_ble_eq_true rfl) rfl (fun _ e9 => by cases e9) (fun q9 e9 => ?_)
  cases e9
  exact ax_out G E (fun x hx => by cases hx)

theorem cq_textByte_Y {Ω : ax_O} (hA : ax_Amb Ω) {h : ax_H} {X bf tr hi sv lb : Nat} {x1 x2 x3 : Int32} {stv : Value} (hX : h.1 X = some (.inr (0, [.ref bf, .int x1, .int x2, .int x3, stv, .ref tr, .ref hi, .ref sv, .ref lb]))) {e n : Nat} {t : Nat → Nat} (hS : sB h lb e n t) (k : Nat) (hk : k < n)  : ax_Met Ω yX1_textByte 20 2 12 [.ref X, .int (nI k)] h (.inl (some (.int (nI (t k))))) h := by
  refine ax_met q2376 q113 (by decide +kernel) (by decide) hA (Nat.le_of_ble_eq_true rfl) (fun Γ G E => ?_)
  obtain ⟨m9, ml9, a9, hB9, hE9, hm9, hn9, -⟩ := id hS
  show ax_W Ω Γ 2 12 h 0 [some (.ref X), some (.int (nI k))] []
  refine ax_iload_n (pc := 0) G dX1_textByte_0 rfl rfl ?_
  refine ax_aload_n (pc := 1) G dX1_textByte_1 rfl rfl ?_
  refine ax_getf (pc := 2) (v := .ref lb) G flX1_55_0 dX1_textByte_2 (hX) rfl ?_
  refine ax_cV1 (pc := 5) (kb := 2) (nb := 12) G (ct_blen8 hA hB9 hE9) lVX1_432_18 dX1_textByte_5 (hB9) rfl (by decide) (Nat.le_of_ble_eq_true rfl) rfl ?_
  refine ax_cS0 (pc := 8) (kb := 1) (nb := 6) G (ct_idxY hA (nI k) (nI n) (ix_y hk (by omega))) lSX1_93 dX1_textByte_8 rfl (by decide) (Nat.le_of_ble_eq_true rfl) rfl ?_
  refine ax_aload_n (pc := 11) G dX1_textByte_11 rfl rfl ?_
  refine ax_getf (pc := 12) (v := .ref lb) G flX1_55_0 dX1_textByte_12 (hX) rfl ?_
  refine ax_iload_n (pc := 15) G dX1_textByte_15 rfl rfl ?_
  refine ax_cV1 (pc := 16) (kb := 1) (nb := 6) G (ct_bat8 hA hS k (by omega)) lVX1_436_18 dX1_textByte_16 (hB9) rfl (by decide) (Nat.le_of_ble_eq_true rfl) rfl ?_
  exact ax_iretE (pc := 19) G E rfl (rfl) dX1_textByte_19 (rfl) (rfl)

theorem cq_textByte_B {Ω : ax_O} (hA : ax_Amb Ω) {h : ax_H} {X bf tr hi sv lb : Nat} {x1 x2 x3 : Int32} {stv : Value} (hX : h.1 X = some (.inr (0, [.ref bf, .int x1, .int x2, .int x3, stv, .ref tr, .ref hi, .ref sv, .ref lb]))) {e n : Nat} {t : Nat → Nat} (hS : sB h lb e n t) (k : Int32) (hb : pIn k (nI 0) (nI n - nI 1) = false)  : ax_Met Ω yX1_textByte 20 2 12 [.ref X, .int k] h (.inr h.2) (ax_add h (.inr (22, []))) := by
  refine ax_met q2376 q113 (by decide +kernel) (by decide) hA (Nat.le_of_ble_eq_true rfl) (fun Γ G E => ?_)
  obtain ⟨m9, ml9, a9, hB9, hE9, hm9, hn9, -⟩ := id hS
  show ax_W Ω Γ 2 12 h 0 [some (.ref X), some (.int k)] []
  refine ax_iload_n (pc := 0) G dX1_textByte_0 rfl rfl ?_
  refine ax_aload_n (pc := 1) G dX1_textByte_1 rfl rfl ?_
  refine ax_getf (pc := 2) (v := .ref lb) G flX1_55_0 dX1_textByte_2 (hX) rfl ?_
  refine ax_cV1 (pc := 5) (kb := 2) (nb := 12) G (ct_blen8 hA hB9 hE9) lVX1_432_18 dX1_textByte_5 (hB9) rfl (by decide) (Nat.le_of_ble_eq_true rfl) rfl ?_
  refine ax_callS (pc := 8) (kb := 1) (nb := 6) G (ct_idxN hA k (nI n) (hb)) lSX1_93 dX1_textByte_8 rfl (by decide) (Nat.le_of_ble_eq_true rfl) rfl (fun _ e9 => by cases e9) (fun q9 e9 => ?_)
  cases e9
  exact ax_out G E (fun x hx => by cases hx)

