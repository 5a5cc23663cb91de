/-! THE COMPONENT: a text is read -/
theorem rEnd_1 {ψ : rS} (h0 : ψ.1.2.2.2.2.1 = 0) (h1 : ¬ ψ.1.2.1 = 1) : (rEnd ψ).1 = pFl ψ.1 1 := by
  unfold rEnd
  dsimp only
  rw [if_pos h0, if_neg h1]
  split
  · rw [pFl, if_neg (by rw [pFl_c h0]; decide)]
  · rfl
theorem rEnd_5 {ψ : rS} (h0 : ψ.1.2.2.2.2.1 = 0) (h1 : ψ.1.2.1 = 1) (h2 : ψ.2.1 10 = 0) : (rEnd ψ).1 = pFl ψ.1 5 := by
  unfold rEnd
  dsimp only
  rw [if_pos h0, if_pos h1, if_pos h2]
theorem rEnd_0 {ψ : rS} (h0 : ψ.1.2.2.2.2.1 = 0) (h1 : ψ.1.2.1 = 1) (h2 : ¬ ψ.2.1 10 = 0) : rEnd ψ = ψ := by
  unfold rEnd
  rw [if_pos h0, if_pos h1, if_neg h2]
set_option maxRecDepth 8000 in
set_option maxHeartbeats 8000000 in
theorem ct_xparse {Ω : ax_O} (hA : ax_Amb Ω) {h : ax_H} (wf : ax_wf h) (hz : Ω.2.1.heap.size ≤ h.2) {P tx n sc sa : Nat} {tb b : Nat → Int32} {β : Nat → Nat} (hbP : Ω.2.1.heap.size ≤ P) (hEn : xEn Ω h tx n tb b β) {κ : pK} (hP : xPs h P tx n sc sa β κ) (hK : xK n β κ) {z : Nat} (hΩz : Ω.2.1.heap.size ≤ z) (hzP : z ≤ P) (hzs : z ≤ sc) (hza : z ≤ sa) {Lp Lv Lo rl : Nat} {i0 : Int32} {i1 : Int32} {i2 : Int32} {i3 : Int32} {i4 : Int32} {i5 : Int32} {i6 : Int32} {i7 : Int32} {i8 : Int32} (hsc : h.1 sc = some (.inr (10, [.ref Lp, .ref Lv, .ref Lo, .int i0, .int i1, .int i2, .int i3, .int i4, .int i5, .int i6, .int i7, .int i8]))) {s0 : pR} {π : Nat → cP} (hS : sIs h sa (s0, π, .ref sc, rl)) (hsah : sa + 18 < h.2) (hrl : h.1 rl = some (.inr (2, []))) (hd : xLd z Lp Lv Lo (sa + 2)) (hT : xTh h z Lp Lv Lo (sa + 2) p0 p0 0 0 0 0) {ψ : rS} (hψ : ψ = rText b n κ)  : ax_MetP Ω yX11_parse 18 2900 70000 [.ref P] h (xOutP h z ψ.1 (some (.ref sa)) (fun h' => ∃ N V A O, rC ψ.2.1 ψ.2.2 N V A O ∧ xTh h' z Lp Lv Lo (sa + 2) ψ.2.1 ψ.2.2 N V A O ∧ h'.1 sc = some (.inr (10, [.ref Lp, .ref Lv, .ref Lo, .int (ψ.2.1 0), .int (ψ.2.1 1), .int (ψ.2.1 2), .int (ψ.2.1 3), .int (ψ.2.1 4), .int (ψ.2.1 6), .int (ψ.2.1 7), .int (ψ.2.1 8), .int (ψ.2.1 9)])) ∧ sIs h' sa (pBg (fun k => ψ.2.2 (17 + k)) (fun k => ψ.2.2 (107 + k)) (upd s0 15 (ψ.2.2 15)) N V, π, .ref sc, rl) ∧ h'.1 rl = some (.inr (2, [])))) := by
  refine ax_metP q988 q145 (by decide +kernel) (by decide) hA (Nat.le_of_ble_eq_true rfl) (fun Γ G E => ?_)
  obtain ⟨nm, tk, hPo, hTk⟩ := id hP
  have hlP := wf.lt hPo
  have hβ := hEn.2.2.2.1
  have hlx := xLen_l hK.2.2
  have hlsc := wf.lt hsc
  have hscP : sc ≠ P := fun y => by rw [y, hPo] at hsc; cases hsc
  have oP := hS.out hPo (fun fs y => by cases y) (fun fs y => by cases y) (fun x y => by cases y)
  have oSc := hS.out hsc (fun fs y => by cases y) (fun fs y => by cases y) (fun x y => by cases y)
  have hsa : h.1 sa = some (.inr (1, sF sa (s0, π, .ref sc, rl))) := ((show h.1 sa = (sH h sa (s0, π, .ref sc, rl)).1 sa by rw [show sH h sa (s0, π, .ref sc, rl) = h from hS])).trans sH_obj
  have hlR := wf.lt hrl
  have nRP : rl ≠ P := fun y => by rw [y, hPo] at hrl; cases hrl
  have nRs : rl ≠ sc := fun y => by rw [y, hsc] at hrl; cases hrl
  have oR := hS.out hrl (fun fs y => by cases y) (fun fs y => by cases y) (fun x y => by cases y)
  show ax_W Ω Γ 2900 70000 h 0 [some (.ref P)] []
  refine ax_aload_n (pc := 0) G dX11_parse_0 rfl rfl ?_
  obtain ⟨k336, e336⟩ : ∃ a : pK, a = pNx b n κ := ⟨_, rfl⟩
  refine ax_pV (pc := 1) (kb := 2896) (nb := 69906) G (ct_xadv hA wf (by omega) hbP hEn hP hK  e336) lVX11_103_9 dX11_parse_1 (hPo) rfl (by decide) (Nat.le_of_ble_eq_true rfl) rfl (fun v9 h336 q9 => ?_) (fun x9 h9x q9 => ?_)
  rotate_left
  exact absurd (hK.nx hβ).1 (by have z9 := q9.x.1; rw [e336] at z9; exact z9)
  obtain ⟨rfl, p336, c336, s336⟩ := q9.n
  obtain ⟨nm336, tk336, o336, t336⟩ := id p336
  obtain ⟨f336, z336, w336⟩ := id s336
  have n336 := hEn.kp (xKp.one wf (hPo) (by decide) f336)
  have x336 := xLen_l c336.2.2
  show ax_W Ω Γ _ _ (h336) _ _ (_)
  refine ax_aload_n (pc := 4) G dX11_parse_4 rfl rfl ?_
  refine ax_ldcS (pc := 5) G q1033 dX11_parse_5 ?_
  obtain ⟨k337, e337⟩ : ∃ a : pK, a = if pWord b k336 (sL "scope") = true then pNx b n k336 else pFl k336 1 := ⟨_, rfl⟩
  refine ax_pV (pc := 7) (kb := 2891) (nb := 69804) G (ct_xexpect hA w336 (by omega) hbP n336 p336 c336 (n336.l xLm_120) (by decide) (B := pWord b k336 (sL "scope")) (xEq_word hβ c336.2.2 c336.1 (l := sL "scope") rfl (by decide) (by decide)) e337) lVX11_114_9 dX11_parse_7 (o336) rfl (by decide) (Nat.le_of_ble_eq_true rfl) rfl (fun v9 h337 q9 => ?_) (fun x9 h9x q9 => ?_)
  rotate_left
  obtain ⟨c337x, fl337, s337⟩ := q9.x
  have e9 : (rFirst b n (pNx b n κ) p0 p0).1 = k337 := by rw [rFirst, ← e336, show pKey b n k336 (sL "scope") = k337 from e337.symm, rG_c c337x, rG_c c337x, rG_c c337x, rG_c c337x, rG_c c337x, rG_c c337x, rG_c c337x, rG_c c337x, rG_c c337x, rG_c c337x]
  have hk9 : ψ.1 = k337 := by rw [hψ, rText, rLoop_c (by rw [e9]; exact c337x), rEnd_c (by rw [e9]; exact c337x)]; exact e9
  exact ax_outP G E (fun x hx => by cases hx) ⟨⟨fun q a0 => (s337.1 q (by omega) (by omega)).trans ((f336 _ (by first | assumption | omega) (by first | assumption | exact Ne.symm (by assumption) | omega))), by have := s337.2.1; omega, s337.2.2⟩, Or.inr ⟨by rw [hk9]; exact c337x, _, rfl, by rw [hk9]; exact fl337⟩⟩
  obtain ⟨rfl, p337, c337, s337⟩ := q9.n
  obtain ⟨nm337, tk337, o337, t337⟩ := id p337
  obtain ⟨f337, z337, w337⟩ := id s337
  have n337 := n336.kp (xKp.one w336 (o336) (by decide) f337)
  have x337 := xLen_l c337.2.2
  show ax_W Ω Γ _ _ (h337) _ _ (_)
  refine ax_aload_n (pc := 10) G dX11_parse_10 rfl rfl ?_
  refine ax_getf (pc := 11) (v := .ref sc) G flX11_20_9 dX11_parse_11 (o337) rfl ?_
  refine ax_aload_n (pc := 14) G dX11_parse_14 rfl rfl ?_
  refine ax_ldcS (pc := 15) G q1082 dX11_parse_15 ?_
  refine ax_bipush (pc := 17) (v := nI 60) G dX11_parse_17 ib_60 ?_
  refine ax_sipush (pc := 19) (v := nI 2000) G dX11_parse_19 is_2000 ?_
  obtain ⟨k338, v338, e338, y338⟩ : ∃ (a : pK) (c : Int32), a = (pGauge b n k337 (sL "horizon") (nI 60) (nI 2000)).1 ∧ c = (pGauge b n k337 (sL "horizon") (nI 60) (nI 2000)).2 := ⟨_, _, rfl, rfl⟩
  refine ax_pV (pc := 22) (kb := 2881) (nb := 69600) G (ct_xgauge hA w337 (by omega) hbP n337 p337 c337 (n337.l xLm_121) (by decide) (l := sL "horizon") (xEq_word hβ c337.2.2 c337.1 (l := sL "horizon") rfl (by decide) (by decide)) (nI 60) (nI 2000) e338 y338) lVX11_123_9 dX11_parse_22 (o337) rfl (by decide) (Nat.le_of_ble_eq_true rfl) rfl (fun v9 h338 q9 => ?_) (fun x9 h9x q9 => ?_)
  rotate_left
  obtain ⟨c338x, fl338, s338⟩ := q9.x
  have e9 : (rFirst b n (pNx b n κ) p0 p0).1 = k338 := by rw [rFirst, ← e336, show pKey b n k336 (sL "scope") = k337 from e337.symm, rG_e e338 y338, rG_c c338x, rG_c c338x, rG_c c338x, rG_c c338x, rG_c c338x, rG_c c338x, rG_c c338x, rG_c c338x, rG_c c338x]
  have hk9 : ψ.1 = k338 := by rw [hψ, rText, rLoop_c (by rw [e9]; exact c338x), rEnd_c (by rw [e9]; exact c338x)]; exact e9
  exact ax_outP G E (fun x hx => by cases hx) ⟨⟨fun q a0 => (s338.1 q (by omega) (by omega)).trans ((f337 _ (by first | assumption | omega) (by first | assumption | exact Ne.symm (by assumption) | omega)).trans ((f336 _ (by first | assumption | omega) (by first | assumption | exact Ne.symm (by assumption) | omega)))), by have := s338.2.1; omega, s338.2.2⟩, Or.inr ⟨by rw [hk9]; exact c338x, _, rfl, by rw [hk9]; exact fl338⟩⟩
  obtain ⟨rfl, p338, c338, s338⟩ := q9.n
  obtain ⟨nm338, tk338, o338, t338⟩ := id p338
  obtain ⟨f338, z338, w338⟩ := id s338
  have n338 := n337.kp (xKp.one w337 (o337) (by decide) f338)
  have x338 := xLen_l c338.2.2
  show ax_W Ω Γ _ _ (h338) _ _ (.int v338 :: _)
  refine ax_putf (pc := 25) G flX11_126_10 dX11_parse_25 ((f338 _ (by first | assumption | omega) (by first | assumption | exact Ne.symm (by assumption) | omega)).trans ((f337 _ (by first | assumption | omega) (by first | assumption | exact Ne.symm (by assumption) | omega)).trans ((f336 _ (by first | assumption | omega) (by first | assumption | exact Ne.symm (by assumption) | omega)).trans (hsc)))) (by omega) (Nat.le_of_ble_eq_true rfl) rfl rfl ?_
  refine ax_hvS w338 (by omega) (fun h339 g339 f339 z339 w339 => ?_)
  replace g339 : h339.1 sc = some (.inr (10, [.ref Lp, .ref Lv, .ref Lo, .int v338, .int i1, .int i2, .int i3, .int i4, .int i5, .int i6, .int i7, .int i8])) := g339
  have n339 := n338.kp (xKp.one w338 ((f338 _ (by first | assumption | omega) (by first | assumption | exact Ne.symm (by assumption) | omega)).trans ((f337 _ (by first | assumption | omega) (by first | assumption | exact Ne.symm (by assumption) | omega)).trans ((f336 _ (by first | assumption | omega) (by first | assumption | exact Ne.symm (by assumption) | omega)).trans (hsc)))) (by decide) (fun q a1 a2 => f339 q a2))
  have t339 : xTk h339 tk338 nm338 β k338 := ⟨t338.1.kp (xKp.one w338 ((f338 _ (by first | assumption | omega) (by first | assumption | exact Ne.symm (by assumption) | omega)).trans ((f337 _ (by first | assumption | omega) (by first | assumption | exact Ne.symm (by assumption) | omega)).trans ((f336 _ (by first | assumption | omega) (by first | assumption | exact Ne.symm (by assumption) | omega)).trans (hsc)))) (by decide) (fun q a1 a2 => f339 q a2)), t338.2⟩
  have p339 : xPs h339 P tx n sc sa β k338 := ⟨nm338, tk338, (f339 _ (by first | assumption | exact Ne.symm (by assumption) | omega)).trans (o338), t339⟩
  refine ax_aload_n (pc := 28) G dX11_parse_28 rfl rfl ?_
  refine ax_getf (pc := 29) (v := .ref sc) G flX11_20_9 dX11_parse_29 ((f339 _ (by first | assumption | exact Ne.symm (by assumption) | omega)).trans (o338)) rfl ?_
  refine ax_aload_n (pc := 32) G dX11_parse_32 rfl rfl ?_
  refine ax_ldcS (pc := 33) G q1091 dX11_parse_33 ?_
  refine ax_iconst (pc := 35) (v := nI 0) G dX11_parse_35 ic_0 ?_
  refine ax_bipush (pc := 36) (v := nI 60) G dX11_parse_36 ib_60 ?_
  obtain ⟨k340, v340, e340, y340⟩ : ∃ (a : pK) (c : Int32), a = (pGauge b n k338 (sL "settle") (nI 0) (nI 60)).1 ∧ c = (pGauge b n k338 (sL "settle") (nI 0) (nI 60)).2 := ⟨_, _, rfl, rfl⟩
  refine ax_pV (pc := 38) (kb := 2871) (nb := 69396) G (ct_xgauge hA w339 (by omega) hbP n339 p339 c338 (n339.l xLm_128) (by decide) (l := sL "settle") (xEq_word hβ c338.2.2 c338.1 (l := sL "settle") rfl (by decide) (by decide)) (nI 0) (nI 60) e340 y340) lVX11_123_9 dX11_parse_38 ((f339 _ (by first | assumption | exact Ne.symm (by assumption) | omega)).trans (o338)) rfl (by decide) (Nat.le_of_ble_eq_true rfl) rfl (fun v9 h340 q9 => ?_) (fun x9 h9x q9 => ?_)
  rotate_left
  obtain ⟨c340x, fl340, s340⟩ := q9.x
  have e9 : (rFirst b n (pNx b n κ) p0 p0).1 = k340 := by rw [rFirst, ← e336, show pKey b n k336 (sL "scope") = k337 from e337.symm, rG_e e338 y338, rG_e e340 y340, rG_c c340x, rG_c c340x, rG_c c340x, rG_c c340x, rG_c c340x, rG_c c340x, rG_c c340x, rG_c c340x]
  have hk9 : ψ.1 = k340 := by rw [hψ, rText, rLoop_c (by rw [e9]; exact c340x), rEnd_c (by rw [e9]; exact c340x)]; exact e9
  exact ax_outP G E (fun x hx => by cases hx) ⟨⟨fun q a0 => (s340.1 q (by omega) (by omega)).trans ((f339 _ (by first | assumption | exact Ne.symm (by assumption) | omega)).trans ((f338 _ (by first | assumption | omega) (by first | assumption | exact Ne.symm (by assumption) | omega)).trans ((f337 _ (by first | assumption | omega) (by first | assumption | exact Ne.symm (by assumption) | omega)).trans ((f336 _ (by first | assumption | omega) (by first | assumption | exact Ne.symm (by assumption) | omega)))))), by have := s340.2.1; omega, s340.2.2⟩, Or.inr ⟨by rw [hk9]; exact c340x, _, rfl, by rw [hk9]; exact fl340⟩⟩
  obtain ⟨rfl, p340, c340, s340⟩ := q9.n
  obtain ⟨nm340, tk340, o340, t340⟩ := id p340
  obtain ⟨f340, z340, w340⟩ := id s340
  have n340 := n339.kp (xKp.one w339 ((f339 _ (by first | assumption | exact Ne.symm (by assumption) | omega)).trans (o338)) (by decide) f340)
  have x340 := xLen_l c340.2.2
  show ax_W Ω Γ _ _ (h340) _ _ (.int v340 :: _)
  refine ax_putf (pc := 41) G flX11_130_10 dX11_parse_41 ((f340 _ (by first | assumption | omega) (by first | assumption | exact Ne.symm (by assumption) | omega)).trans (g339)) (by omega) (Nat.le_of_ble_eq_true rfl) rfl rfl ?_
  refine ax_hvS w340 (by omega) (fun h341 g341 f341 z341 w341 => ?_)
  replace g341 : h341.1 sc = some (.inr (10, [.ref Lp, .ref Lv, .ref Lo, .int v338, .int v340, .int i2, .int i3, .int i4, .int i5, .int i6, .int i7, .int i8])) := g341
  have n341 := n340.kp (xKp.one w340 ((f340 _ (by first | assumption | omega) (by first | assumption | exact Ne.symm (by assumption) | omega)).trans (g339)) (by decide) (fun q a1 a2 => f341 q a2))
  have t341 : xTk h341 tk340 nm340 β k340 := ⟨t340.1.kp (xKp.one w340 ((f340 _ (by first | assumption | omega) (by first | assumption | exact Ne.symm (by assumption) | omega)).trans (g339)) (by decide) (fun q a1 a2 => f341 q a2)), t340.2⟩
  have p341 : xPs h341 P tx n sc sa β k340 := ⟨nm340, tk340, (f341 _ (by first | assumption | exact Ne.symm (by assumption) | omega)).trans (o340), t341⟩
  refine ax_aload_n (pc := 44) G dX11_parse_44 rfl rfl ?_
  refine ax_getf (pc := 45) (v := .ref sc) G flX11_20_9 dX11_parse_45 ((f341 _ (by first | assumption | exact Ne.symm (by assumption) | omega)).trans (o340)) rfl ?_
  refine ax_aload_n (pc := 48) G dX11_parse_48 rfl rfl ?_
  refine ax_ldcS (pc := 49) G q1092 dX11_parse_49 ?_
  refine ax_iconst (pc := 51) (v := nI 1) G dX11_parse_51 ic_1 ?_
  refine ax_bipush (pc := 52) (v := nI 90) G dX11_parse_52 ib_90 ?_
  obtain ⟨k342, v342, e342, y342⟩ : ∃ (a : pK) (c : Int32), a = (pGauge b n k340 (sL "speed") (nI 1) (nI 90)).1 ∧ c = (pGauge b n k340 (sL "speed") (nI 1) (nI 90)).2 := ⟨_, _, rfl, rfl⟩
  refine ax_pV (pc := 54) (kb := 2861) (nb := 69192) G (ct_xgauge hA w341 (by omega) hbP n341 p341 c340 (n341.l xLm_132) (by decide) (l := sL "speed") (xEq_word hβ c340.2.2 c340.1 (l := sL "speed") rfl (by decide) (by decide)) (nI 1) (nI 90) e342 y342) lVX11_123_9 dX11_parse_54 ((f341 _ (by first | assumption | exact Ne.symm (by assumption) | omega)).trans (o340)) rfl (by decide) (Nat.le_of_ble_eq_true rfl) rfl (fun v9 h342 q9 => ?_) (fun x9 h9x q9 => ?_)
  rotate_left
  obtain ⟨c342x, fl342, s342⟩ := q9.x
  have e9 : (rFirst b n (pNx b n κ) p0 p0).1 = k342 := by rw [rFirst, ← e336, show pKey b n k336 (sL "scope") = k337 from e337.symm, rG_e e338 y338, rG_e e340 y340, rG_e e342 y342, rG_c c342x, rG_c c342x, rG_c c342x, rG_c c342x, rG_c c342x, rG_c c342x, rG_c c342x]
  have hk9 : ψ.1 = k342 := by rw [hψ, rText, rLoop_c (by rw [e9]; exact c342x), rEnd_c (by rw [e9]; exact c342x)]; exact e9
  exact ax_outP G E (fun x hx => by cases hx) ⟨⟨fun q a0 => (s342.1 q (by omega) (by omega)).trans ((f341 _ (by first | assumption | exact Ne.symm (by assumption) | omega)).trans ((f340 _ (by first | assumption | omega) (by first | assumption | exact Ne.symm (by assumption) | omega)).trans ((f339 _ (by first | assumption | exact Ne.symm (by assumption) | omega)).trans ((f338 _ (by first | assumption | omega) (by first | assumption | exact Ne.symm (by assumption) | omega)).trans ((f337 _ (by first | assumption | omega) (by first | assumption | exact Ne.symm (by assumption) | omega)).trans ((f336 _ (by first | assumption | omega) (by first | assumption | exact Ne.symm (by assumption) | omega)))))))), by have := s342.2.1; omega, s342.2.2⟩, Or.inr ⟨by rw [hk9]; exact c342x, _, rfl, by rw [hk9]; exact fl342⟩⟩
  obtain ⟨rfl, p342, c342, s342⟩ := q9.n
  obtain ⟨nm342, tk342, o342, t342⟩ := id p342
  obtain ⟨f342, z342, w342⟩ := id s342
  have n342 := n341.kp (xKp.one w341 ((f341 _ (by first | assumption | exact Ne.symm (by assumption) | omega)).trans (o340)) (by decide) f342)
  have x342 := xLen_l c342.2.2
  show ax_W Ω Γ _ _ (h342) _ _ (.int v342 :: _)
  refine ax_putf (pc := 57) G flX11_134_10 dX11_parse_57 ((f342 _ (by first | assumption | omega) (by first | assumption | exact Ne.symm (by assumption) | omega)).trans (g341)) (by omega) (Nat.le_of_ble_eq_true rfl) rfl rfl ?_
  refine ax_hvS w342 (by omega) (fun h343 g343 f343 z343 w343 => ?_)
  replace g343 : h343.1 sc = some (.inr (10, [.ref Lp, .ref Lv, .ref Lo, .int v338, .int v340, .int v342, .int i3, .int i4, .int i5, .int i6, .int i7, .int i8])) := g343
  have n343 := n342.kp (xKp.one w342 ((f342 _ (by first | assumption | omega) (by first | assumption | exact Ne.symm (by assumption) | omega)).trans (g341)) (by decide) (fun q a1 a2 => f343 q a2))
  have t343 : xTk h343 tk342 nm342 β k342 := ⟨t342.1.kp (xKp.one w342 ((f342 _ (by first | assumption | omega) (by first | assumption | exact Ne.symm (by assumption) | omega)).trans (g341)) (by decide) (fun q a1 a2 => f343 q a2)), t342.2⟩
  have p343 : xPs h343 P tx n sc sa β k342 := ⟨nm342, tk342, (f343 _ (by first | assumption | exact Ne.symm (by assumption) | omega)).trans (o342), t343⟩
  refine ax_aload_n (pc := 60) G dX11_parse_60 rfl rfl ?_
  refine ax_getf (pc := 61) (v := .ref sc) G flX11_20_9 dX11_parse_61 ((f343 _ (by first | assumption | exact Ne.symm (by assumption) | omega)).trans (o342)) rfl ?_
  refine ax_aload_n (pc := 64) G dX11_parse_64 rfl rfl ?_
  refine ax_ldcS (pc := 65) G q1093 dX11_parse_65 ?_
  refine ax_iconst (pc := 67) (v := nI 1) G dX11_parse_67 ic_1 ?_
  refine ax_sipush (pc := 68) (v := nI 9999) G dX11_parse_68 is_9999 ?_
  obtain ⟨k344, v344, e344, y344⟩ : ∃ (a : pK) (c : Int32), a = (pGauge b n k342 (sL "cap") (nI 1) (nI 9999)).1 ∧ c = (pGauge b n k342 (sL "cap") (nI 1) (nI 9999)).2 := ⟨_, _, rfl, rfl⟩
  refine ax_pV (pc := 71) (kb := 2851) (nb := 68988) G (ct_xgauge hA w343 (by omega) hbP n343 p343 c342 (n343.l xLm_136) (by decide) (l := sL "cap") (xEq_word hβ c342.2.2 c342.1 (l := sL "cap") rfl (by decide) (by decide)) (nI 1) (nI 9999) e344 y344) lVX11_123_9 dX11_parse_71 ((f343 _ (by first | assumption | exact Ne.symm (by assumption) | omega)).trans (o342)) rfl (by decide) (Nat.le_of_ble_eq_true rfl) rfl (fun v9 h344 q9 => ?_) (fun x9 h9x q9 => ?_)
  rotate_left
  obtain ⟨c344x, fl344, s344⟩ := q9.x
  have e9 : (rFirst b n (pNx b n κ) p0 p0).1 = k344 := by rw [rFirst, ← e336, show pKey b n k336 (sL "scope") = k337 from e337.symm, rG_e e338 y338, rG_e e340 y340, rG_e e342 y342, rG_e e344 y344, rG_c c344x, rG_c c344x, rG_c c344x, rG_c c344x, rG_c c344x, rG_c c344x]
  have hk9 : ψ.1 = k344 := by rw [hψ, rText, rLoop_c (by rw [e9]; exact c344x), rEnd_c (by rw [e9]; exact c344x)]; exact e9
  exact ax_outP G E (fun x hx => by cases hx) ⟨⟨fun q a0 => (s344.1 q (by omega) (by omega)).trans ((f343 _ (by first | assumption | exact Ne.symm (by assumption) | omega)).trans ((f342 _ (by first | assumption | omega) (by first | assumption | exact Ne.symm (by assumption) | omega)).trans ((f341 _ (by first | assumption | exact Ne.symm (by assumption) | omega)).trans ((f340 _ (by first | assumption | omega) (by first | assumption | exact Ne.symm (by assumption) | omega)).trans ((f339 _ (by first | assumption | exact Ne.symm (by assumption) | omega)).trans ((f338 _ (by first | assumption | omega) (by first | assumption | exact Ne.symm (by assumption) | omega)).trans ((f337 _ (by first | assumption | omega) (by first | assumption | exact Ne.symm (by assumption) | omega)).trans ((f336 _ (by first | assumption | omega) (by first | assumption | exact Ne.symm (by assumption) | omega)))))))))), by have := s344.2.1; omega, s344.2.2⟩, Or.inr ⟨by rw [hk9]; exact c344x, _, rfl, by rw [hk9]; exact fl344⟩⟩
  obtain ⟨rfl, p344, c344, s344⟩ := q9.n
  obtain ⟨nm344, tk344, o344, t344⟩ := id p344
  obtain ⟨f344, z344, w344⟩ := id s344
  have n344 := n343.kp (xKp.one w343 ((f343 _ (by first | assumption | exact Ne.symm (by assumption) | omega)).trans (o342)) (by decide) f344)
  have x344 := xLen_l c344.2.2
  show ax_W Ω Γ _ _ (h344) _ _ (.int v344 :: _)
  refine ax_putf (pc := 74) G flX11_138_10 dX11_parse_74 ((f344 _ (by first | assumption | omega) (by first | assumption | exact Ne.symm (by assumption) | omega)).trans (g343)) (by omega) (Nat.le_of_ble_eq_true rfl) rfl rfl ?_
  refine ax_hvS w344 (by omega) (fun h345 g345 f345 z345 w345 => ?_)
  replace g345 : h345.1 sc = some (.inr (10, [.ref Lp, .ref Lv, .ref Lo, .int v338, .int v340, .int v342, .int v344, .int i4, .int i5, .int i6, .int i7, .int i8])) := g345
  have n345 := n344.kp (xKp.one w344 ((f344 _ (by first | assumption | omega) (by first | assumption | exact Ne.symm (by assumption) | omega)).trans (g343)) (by decide) (fun q a1 a2 => f345 q a2))
  have t345 : xTk h345 tk344 nm344 β k344 := ⟨t344.1.kp (xKp.one w344 ((f344 _ (by first | assumption | omega) (by first | assumption | exact Ne.symm (by assumption) | omega)).trans (g343)) (by decide) (fun q a1 a2 => f345 q a2)), t344.2⟩
  have p345 : xPs h345 P tx n sc sa β k344 := ⟨nm344, tk344, (f345 _ (by first | assumption | exact Ne.symm (by assumption) | omega)).trans (o344), t345⟩
  refine ax_aload_n (pc := 77) G dX11_parse_77 rfl rfl ?_
  refine ax_getf (pc := 78) (v := .ref sc) G flX11_20_9 dX11_parse_78 ((f345 _ (by first | assumption | exact Ne.symm (by assumption) | omega)).trans (o344)) rfl ?_
  refine ax_aload_n (pc := 81) G dX11_parse_81 rfl rfl ?_
  refine ax_ldcS (pc := 82) G q1094 dX11_parse_82 ?_
  refine ax_iconst (pc := 84) (v := nI 1) G dX11_parse_84 ic_1 ?_
  refine ax_bipush (pc := 85) (v := nI 99) G dX11_parse_85 ib_99 ?_
  obtain ⟨k346, v346, e346, y346⟩ : ∃ (a : pK) (c : Int32), a = (pGauge b n k344 (sL "dump") (nI 1) (nI 99)).1 ∧ c = (pGauge b n k344 (sL "dump") (nI 1) (nI 99)).2 := ⟨_, _, rfl, rfl⟩
  refine ax_pV (pc := 87) (kb := 2841) (nb := 68784) G (ct_xgauge hA w345 (by omega) hbP n345 p345 c344 (n345.l xLm_140) (by decide) (l := sL "dump") (xEq_word hβ c344.2.2 c344.1 (l := sL "dump") rfl (by decide) (by decide)) (nI 1) (nI 99) e346 y346) lVX11_123_9 dX11_parse_87 ((f345 _ (by first | assumption | exact Ne.symm (by assumption) | omega)).trans (o344)) rfl (by decide) (Nat.le_of_ble_eq_true rfl) rfl (fun v9 h346 q9 => ?_) (fun x9 h9x q9 => ?_)
  rotate_left
  obtain ⟨c346x, fl346, s346⟩ := q9.x
  have e9 : (rFirst b n (pNx b n κ) p0 p0).1 = k346 := by rw [rFirst, ← e336, show pKey b n k336 (sL "scope") = k337 from e337.symm, rG_e e338 y338, rG_e e340 y340, rG_e e342 y342, rG_e e344 y344, rG_e e346 y346, rG_c c346x, rG_c c346x, rG_c c346x, rG_c c346x, rG_c c346x]
  have hk9 : ψ.1 = k346 := by rw [hψ, rText, rLoop_c (by rw [e9]; exact c346x), rEnd_c (by rw [e9]; exact c346x)]; exact e9
  exact ax_outP G E (fun x hx => by cases hx) ⟨⟨fun q a0 => (s346.1 q (by omega) (by omega)).trans ((f345 _ (by first | assumption | exact Ne.symm (by assumption) | omega)).trans ((f344 _ (by first | assumption | omega) (by first | assumption | exact Ne.symm (by assumption) | omega)).trans ((f343 _ (by first | assumption | exact Ne.symm (by assumption) | omega)).trans ((f342 _ (by first | assumption | omega) (by first | assumption | exact Ne.symm (by assumption) | omega)).trans ((f341 _ (by first | assumption | exact Ne.symm (by assumption) | omega)).trans ((f340 _ (by first | assumption | omega) (by first | assumption | exact Ne.symm (by assumption) | omega)).trans ((f339 _ (by first | assumption | exact Ne.symm (by assumption) | omega)).trans ((f338 _ (by first | assumption | omega) (by first | assumption | exact Ne.symm (by assumption) | omega)).trans ((f337 _ (by first | assumption | omega) (by first | assumption | exact Ne.symm (by assumption) | omega)).trans ((f336 _ (by first | assumption | omega) (by first | assumption | exact Ne.symm (by assumption) | omega)))))))))))), by have := s346.2.1; omega, s346.2.2⟩, Or.inr ⟨by rw [hk9]; exact c346x, _, rfl, by rw [hk9]; exact fl346⟩⟩
  obtain ⟨rfl, p346, c346, s346⟩ := q9.n
  obtain ⟨nm346, tk346, o346, t346⟩ := id p346
  obtain ⟨f346, z346, w346⟩ := id s346
  have n346 := n345.kp (xKp.one w345 ((f345 _ (by first | assumption | exact Ne.symm (by assumption) | omega)).trans (o344)) (by decide) f346)
  have x346 := xLen_l c346.2.2
  show ax_W Ω Γ _ _ (h346) _ _ (.int v346 :: _)
  refine ax_putf (pc := 90) G flX11_142_10 dX11_parse_90 ((f346 _ (by first | assumption | omega) (by first | assumption | exact Ne.symm (by assumption) | omega)).trans (g345)) (by omega) (Nat.le_of_ble_eq_true rfl) rfl rfl ?_
  refine ax_hvS w346 (by omega) (fun h347 g347 f347 z347 w347 => ?_)
  replace g347 : h347.1 sc = some (.inr (10, [.ref Lp, .ref Lv, .ref Lo, .int v338, .int v340, .int v342, .int v344, .int v346, .int i5, .int i6, .int i7, .int i8])) := g347
  have n347 := n346.kp (xKp.one w346 ((f346 _ (by first | assumption | omega) (by first | assumption | exact Ne.symm (by assumption) | omega)).trans (g345)) (by decide) (fun q a1 a2 => f347 q a2))
  have t347 : xTk h347 tk346 nm346 β k346 := ⟨t346.1.kp (xKp.one w346 ((f346 _ (by first | assumption | omega) (by first | assumption | exact Ne.symm (by assumption) | omega)).trans (g345)) (by decide) (fun q a1 a2 => f347 q a2)), t346.2⟩
  have p347 : xPs h347 P tx n sc sa β k346 := ⟨nm346, tk346, (f347 _ (by first | assumption | exact Ne.symm (by assumption) | omega)).trans (o346), t347⟩
  refine ax_aload_n (pc := 93) G dX11_parse_93 rfl rfl ?_
  refine ax_getf (pc := 94) (v := .ref sa) G flX11_29_9 dX11_parse_94 ((f347 _ (by first | assumption | exact Ne.symm (by assumption) | omega)).trans (o346)) rfl ?_
  refine ax_aload_n (pc := 97) G dX11_parse_97 rfl rfl ?_
  refine ax_ldcS (pc := 98) G q1095 dX11_parse_98 ?_
  refine ax_bipush (pc := 100) (v := nI 10) G dX11_parse_100 ib_10 ?_
  refine ax_sipush (pc := 102) (v := nI 2000) G dX11_parse_102 is_2000 ?_
  obtain ⟨k348, v348, e348, y348⟩ : ∃ (a : pK) (c : Int32), a = (pGauge b n k346 (sL "cadence") (nI 10) (nI 2000)).1 ∧ c = (pGauge b n k346 (sL "cadence") (nI 10) (nI 2000)).2 := ⟨_, _, rfl, rfl⟩
  refine ax_pV (pc := 105) (kb := 2831) (nb := 68580) G (ct_xgauge hA w347 (by omega) hbP n347 p347 c346 (n347.l xLm_144) (by decide) (l := sL "cadence") (xEq_word hβ c346.2.2 c346.1 (l := sL "cadence") rfl (by decide) (by decide)) (nI 10) (nI 2000) e348 y348) lVX11_123_9 dX11_parse_105 ((f347 _ (by first | assumption | exact Ne.symm (by assumption) | omega)).trans (o346)) rfl (by decide) (Nat.le_of_ble_eq_true rfl) rfl (fun v9 h348 q9 => ?_) (fun x9 h9x q9 => ?_)
  rotate_left
  obtain ⟨c348x, fl348, s348⟩ := q9.x
  have e9 : (rFirst b n (pNx b n κ) p0 p0).1 = k348 := by rw [rFirst, ← e336, show pKey b n k336 (sL "scope") = k337 from e337.symm, rG_e e338 y338, rG_e e340 y340, rG_e e342 y342, rG_e e344 y344, rG_e e346 y346, rG_e e348 y348, rG_c c348x, rG_c c348x, rG_c c348x, rG_c c348x]
  have hk9 : ψ.1 = k348 := by rw [hψ, rText, rLoop_c (by rw [e9]; exact c348x), rEnd_c (by rw [e9]; exact c348x)]; exact e9
  exact ax_outP G E (fun x hx => by cases hx) ⟨⟨fun q a0 => (s348.1 q (by omega) (by omega)).trans ((f347 _ (by first | assumption | exact Ne.symm (by assumption) | omega)).trans ((f346 _ (by first | assumption | omega) (by first | assumption | exact Ne.symm (by assumption) | omega)).trans ((f345 _ (by first | assumption | exact Ne.symm (by assumption) | omega)).trans ((f344 _ (by first | assumption | omega) (by first | assumption | exact Ne.symm (by assumption) | omega)).trans ((f343 _ (by first | assumption | exact Ne.symm (by assumption) | omega)).trans ((f342 _ (by first | assumption | omega) (by first | assumption | exact Ne.symm (by assumption) | omega)).trans ((f341 _ (by first | assumption | exact Ne.symm (by assumption) | omega)).trans ((f340 _ (by first | assumption | omega) (by first | assumption | exact Ne.symm (by assumption) | omega)).trans ((f339 _ (by first | assumption | exact Ne.symm (by assumption) | omega)).trans ((f338 _ (by first | assumption | omega) (by first | assumption | exact Ne.symm (by assumption) | omega)).trans ((f337 _ (by first | assumption | omega) (by first | assumption | exact Ne.symm (by assumption) | omega)).trans ((f336 _ (by first | assumption | omega) (by first | assumption | exact Ne.symm (by assumption) | omega)))))))))))))), by have := s348.2.1; omega, s348.2.2⟩, Or.inr ⟨by rw [hk9]; exact c348x, _, rfl, by rw [hk9]; exact fl348⟩⟩
  obtain ⟨rfl, p348, c348, s348⟩ := q9.n
  obtain ⟨nm348, tk348, o348, t348⟩ := id p348
  obtain ⟨f348, z348, w348⟩ := id s348
  have n348 := n347.kp (xKp.one w347 ((f347 _ (by first | assumption | exact Ne.symm (by assumption) | omega)).trans (o346)) (by decide) f348)
  have x348 := xLen_l c348.2.2
  show ax_W Ω Γ _ _ (h348) _ _ (.int v348 :: _)
  obtain ⟨hY, ehY⟩ : ∃ y, y = sH h348 sa (upd s0 15 v348, π, .ref sc, rl) := ⟨_, rfl⟩
  have hX0 : sIs h348 sa (s0, π, .ref sc, rl) := hS.fr (fun q hq => (f348 _ (by first | assumption | omega) (by first | assumption | exact Ne.symm (by assumption) | omega)).trans ((f347 _ (by first | assumption | exact Ne.symm (by assumption) | omega)).trans ((f346 _ (by first | assumption | omega) (by first | assumption | exact Ne.symm (by assumption) | omega)).trans ((f345 _ (by first | assumption | exact Ne.symm (by assumption) | omega)).trans ((f344 _ (by first | assumption | omega) (by first | assumption | exact Ne.symm (by assumption) | omega)).trans ((f343 _ (by first | assumption | exact Ne.symm (by assumption) | omega)).trans ((f342 _ (by first | assumption | omega) (by first | assumption | exact Ne.symm (by assumption) | omega)).trans ((f341 _ (by first | assumption | exact Ne.symm (by assumption) | omega)).trans ((f340 _ (by first | assumption | omega) (by first | assumption | exact Ne.symm (by assumption) | omega)).trans ((f339 _ (by first | assumption | exact Ne.symm (by assumption) | omega)).trans ((f338 _ (by first | assumption | omega) (by first | assumption | exact Ne.symm (by assumption) | omega)).trans ((f337 _ (by first | assumption | omega) (by first | assumption | exact Ne.symm (by assumption) | omega)).trans ((f336 _ (by first | assumption | omega) (by first | assumption | exact Ne.symm (by assumption) | omega)))))))))))))))
  have gY : ∀ q, (q < sa ∨ sa + 18 < q ∨ (sa < q ∧ q < sa + 4)) → hY.1 q = h348.1 q := fun q hq => by rw [ehY]; exact sH_out hq
  have zY : hY.2 = h348.2 := by rw [ehY]; rfl
  have wY : ax_wf hY := by rw [ehY]; exact sH_wf w348 (by omega)
  have sY : sIs hY sa (upd s0 15 v348, π, .ref sc, rl) := by rw [ehY]; exact sH_sH
  have kY : xKp h348 hY := fun q e he hi => (gY q (hX0.out he (fun fs y => by have := hi.2 _ _ y; omega) (fun fs y => by have := hi.2 _ _ y; omega) (fun x y => by have := hi.1 _ x.1 x.2 y; cases this))).trans he
  have nY := n348.kp kY
  have tY : xTk hY tk348 nm348 β k348 := ⟨t348.1.kp kY, t348.2⟩
  have pY : xPs hY P tx n sc sa β k348 := ⟨nm348, tk348, (gY _ (by first | assumption | omega) ).trans (o348), tY⟩
  have KS : ax_W Ω Γ 2831 68580 (sH h348 sa (s0, π, .ref sc, rl)) 108 [some (.ref P)] [.int v348, .ref sa] := by
    refine sr_put (pc := 108) G flX11_146_1 dX11_parse_108 (by omega) (by decide) (by decide) rfl rfl rfl ?_
    show ax_W Ω Γ _ _ (sH h348 sa (upd s0 15 v348, π, .ref sc, rl)) _ _ _
    rw [← ehY]
    refine ax_aload_n (pc := 111) G dX11_parse_111 rfl rfl ?_
    refine ax_getf (pc := 112) (v := .ref sc) G flX11_20_9 dX11_parse_112 ((gY _ (by first | assumption | omega) ).trans (o348)) rfl ?_
    refine ax_aload_n (pc := 115) G dX11_parse_115 rfl rfl ?_
    refine ax_ldcS (pc := 116) G q1096 dX11_parse_116 ?_
    refine ax_iconst (pc := 118) (v := nI 1) G dX11_parse_118 ic_1 ?_
    refine ax_bipush (pc := 119) (v := nI 99) G dX11_parse_119 ib_99 ?_
    obtain ⟨k349, v349, e349, y349⟩ : ∃ (a : pK) (c : Int32), a = (pGauge b n k348 (sL "cal") (nI 1) (nI 99)).1 ∧ c = (pGauge b n k348 (sL "cal") (nI 1) (nI 99)).2 := ⟨_, _, rfl, rfl⟩
    refine ax_pV (pc := 121) (kb := 2821) (nb := 68376) G (ct_xgauge hA wY (by omega) hbP nY pY c348 (nY.l xLm_148) (by decide) (l := sL "cal") (xEq_word hβ c348.2.2 c348.1 (l := sL "cal") rfl (by decide) (by decide)) (nI 1) (nI 99) e349 y349) lVX11_123_9 dX11_parse_121 ((gY _ (by first | assumption | omega) ).trans (o348)) rfl (by decide) (Nat.le_of_ble_eq_true rfl) rfl (fun v9 h349 q9 => ?_) (fun x9 h9x q9 => ?_)
    rotate_left
    obtain ⟨c349x, fl349, s349⟩ := q9.x
    have e9 : (rFirst b n (pNx b n κ) p0 p0).1 = k349 := by rw [rFirst, ← e336, show pKey b n k336 (sL "scope") = k337 from e337.symm, rG_e e338 y338, rG_e e340 y340, rG_e e342 y342, rG_e e344 y344, rG_e e346 y346, rG_e e348 y348, rG_e e349 y349, rG_c c349x, rG_c c349x, rG_c c349x]
    have hk9 : ψ.1 = k349 := by rw [hψ, rText, rLoop_c (by rw [e9]; exact c349x), rEnd_c (by rw [e9]; exact c349x)]; exact e9
    exact ax_outP G E (fun x hx => by cases hx) ⟨⟨fun q a0 => (s349.1 q (by omega) (by omega)).trans ((gY _ (by first | assumption | omega) ).trans ((f348 _ (by first | assumption | omega) (by first | assumption | exact Ne.symm (by assumption) | omega)).trans ((f347 _ (by first | assumption | exact Ne.symm (by assumption) | omega)).trans ((f346 _ (by first | assumption | omega) (by first | assumption | exact Ne.symm (by assumption) | omega)).trans ((f345 _ (by first | assumption | exact Ne.symm (by assumption) | omega)).trans ((f344 _ (by first | assumption | omega) (by first | assumption | exact Ne.symm (by assumption) | omega)).trans ((f343 _ (by first | assumption | exact Ne.symm (by assumption) | omega)).trans ((f342 _ (by first | assumption | omega) (by first | assumption | exact Ne.symm (by assumption) | omega)).trans ((f341 _ (by first | assumption | exact Ne.symm (by assumption) | omega)).trans ((f340 _ (by first | assumption | omega) (by first | assumption | exact Ne.symm (by assumption) | omega)).trans ((f339 _ (by first | assumption | exact Ne.symm (by assumption) | omega)).trans ((f338 _ (by first | assumption | omega) (by first | assumption | exact Ne.symm (by assumption) | omega)).trans ((f337 _ (by first | assumption | omega) (by first | assumption | exact Ne.symm (by assumption) | omega)).trans ((f336 _ (by first | assumption | omega) (by first | assumption | exact Ne.symm (by assumption) | omega)))))))))))))))), by have := s349.2.1; omega, s349.2.2⟩, Or.inr ⟨by rw [hk9]; exact c349x, _, rfl, by rw [hk9]; exact fl349⟩⟩
    obtain ⟨rfl, p349, c349, s349⟩ := q9.n
    obtain ⟨nm349, tk349, o349, t349⟩ := id p349
    obtain ⟨f349, z349, w349⟩ := id s349
    have n349 := nY.kp (xKp.one wY ((gY _ (by first | assumption | omega) ).trans (o348)) (by decide) f349)
    have x349 := xLen_l c349.2.2
    show ax_W Ω Γ _ _ (h349) _ _ (.int v349 :: _)
    refine ax_putf (pc := 124) G flX11_150_10 dX11_parse_124 ((f349 _ (by first | assumption | omega) (by first | assumption | exact Ne.symm (by assumption) | omega)).trans ((gY _ (by first | assumption | omega) ).trans ((f348 _ (by first | assumption | omega) (by first | assumption | exact Ne.symm (by assumption) | omega)).trans (g347)))) (by omega) (Nat.le_of_ble_eq_true rfl) rfl rfl ?_
    refine ax_hvS w349 (by omega) (fun h350 g350 f350 z350 w350 => ?_)
    replace g350 : h350.1 sc = some (.inr (10, [.ref Lp, .ref Lv, .ref Lo, .int v338, .int v340, .int v342, .int v344, .int v346, .int v349, .int i6, .int i7, .int i8])) := g350
    have n350 := n349.kp (xKp.one w349 ((f349 _ (by first | assumption | omega) (by first | assumption | exact Ne.symm (by assumption) | omega)).trans ((gY _ (by first | assumption | omega) ).trans ((f348 _ (by first | assumption | omega) (by first | assumption | exact Ne.symm (by assumption) | omega)).trans (g347)))) (by decide) (fun q a1 a2 => f350 q a2))
    have t350 : xTk h350 tk349 nm349 β k349 := ⟨t349.1.kp (xKp.one w349 ((f349 _ (by first | assumption | omega) (by first | assumption | exact Ne.symm (by assumption) | omega)).trans ((gY _ (by first | assumption | omega) ).trans ((f348 _ (by first | assumption | omega) (by first | assumption | exact Ne.symm (by assumption) | omega)).trans (g347)))) (by decide) (fun q a1 a2 => f350 q a2)), t349.2⟩
    have p350 : xPs h350 P tx n sc sa β k349 := ⟨nm349, tk349, (f350 _ (by first | assumption | exact Ne.symm (by assumption) | omega)).trans (o349), t350⟩
    refine ax_aload_n (pc := 127) G dX11_parse_127 rfl rfl ?_
    refine ax_getf (pc := 128) (v := .ref sc) G flX11_20_9 dX11_parse_128 ((f350 _ (by first | assumption | exact Ne.symm (by assumption) | omega)).trans (o349)) rfl ?_
    refine ax_aload_n (pc := 131) G dX11_parse_131 rfl rfl ?_
    refine ax_ldcS (pc := 132) G q1097 dX11_parse_132 ?_
    refine ax_iconst (pc := 134) (v := nI 0) G dX11_parse_134 ic_0 ?_
    refine ax_sipush (pc := 135) (v := nI 359) G dX11_parse_135 is_359 ?_
    obtain ⟨k351, v351, e351, y351⟩ : ∃ (a : pK) (c : Int32), a = (pGauge b n k349 (sL "sun") (nI 0) (nI 359)).1 ∧ c = (pGauge b n k349 (sL "sun") (nI 0) (nI 359)).2 := ⟨_, _, rfl, rfl⟩
    refine ax_pV (pc := 138) (kb := 2811) (nb := 68172) G (ct_xgauge hA w350 (by omega) hbP n350 p350 c349 (n350.l xLm_152) (by decide) (l := sL "sun") (xEq_word hβ c349.2.2 c349.1 (l := sL "sun") rfl (by decide) (by decide)) (nI 0) (nI 359) e351 y351) lVX11_123_9 dX11_parse_138 ((f350 _ (by first | assumption | exact Ne.symm (by assumption) | omega)).trans (o349)) rfl (by decide) (Nat.le_of_ble_eq_true rfl) rfl (fun v9 h351 q9 => ?_) (fun x9 h9x q9 => ?_)
    rotate_left
    obtain ⟨c351x, fl351, s351⟩ := q9.x
    have e9 : (rFirst b n (pNx b n κ) p0 p0).1 = k351 := by rw [rFirst, ← e336, show pKey b n k336 (sL "scope") = k337 from e337.symm, rG_e e338 y338, rG_e e340 y340, rG_e e342 y342, rG_e e344 y344, rG_e e346 y346, rG_e e348 y348, rG_e e349 y349, rG_e e351 y351, rG_c c351x, rG_c c351x]
    have hk9 : ψ.1 = k351 := by rw [hψ, rText, rLoop_c (by rw [e9]; exact c351x), rEnd_c (by rw [e9]; exact c351x)]; exact e9
    exact ax_outP G E (fun x hx => by cases hx) ⟨⟨fun q a0 => (s351.1 q (by omega) (by omega)).trans ((f350 _ (by first | assumption | exact Ne.symm (by assumption) | omega)).trans ((f349 _ (by first | assumption | omega) (by first | assumption | exact Ne.symm (by assumption) | omega)).trans ((gY _ (by first | assumption | omega) ).trans ((f348 _ (by first | assumption | omega) (by first | assumption | exact Ne.symm (by assumption) | omega)).trans ((f347 _ (by first | assumption | exact Ne.symm (by assumption) | omega)).trans ((f346 _ (by first | assumption | omega) (by first | assumption | exact Ne.symm (by assumption) | omega)).trans ((f345 _ (by first | assumption | exact Ne.symm (by assumption) | omega)).trans ((f344 _ (by first | assumption | omega) (by first | assumption | exact Ne.symm (by assumption) | omega)).trans ((f343 _ (by first | assumption | exact Ne.symm (by assumption) | omega)).trans ((f342 _ (by first | assumption | omega) (by first | assumption | exact Ne.symm (by assumption) | omega)).trans ((f341 _ (by first | assumption | exact Ne.symm (by assumption) | omega)).trans ((f340 _ (by first | assumption | omega) (by first | assumption | exact Ne.symm (by assumption) | omega)).trans ((f339 _ (by first | assumption | exact Ne.symm (by assumption) | omega)).trans ((f338 _ (by first | assumption | omega) (by first | assumption | exact Ne.symm (by assumption) | omega)).trans ((f337 _ (by first | assumption | omega) (by first | assumption | exact Ne.symm (by assumption) | omega)).trans ((f336 _ (by first | assumption | omega) (by first | assumption | exact Ne.symm (by assumption) | omega)))))))))))))))))), by have := s351.2.1; omega, s351.2.2⟩, Or.inr ⟨by rw [hk9]; exact c351x, _, rfl, by rw [hk9]; exact fl351⟩⟩
    obtain ⟨rfl, p351, c351, s351⟩ := q9.n
    obtain ⟨nm351, tk351, o351, t351⟩ := id p351
    obtain ⟨f351, z351, w351⟩ := id s351
    have n351 := n350.kp (xKp.one w350 ((f350 _ (by first | assumption | exact Ne.symm (by assumption) | omega)).trans (o349)) (by decide) f351)
    have x351 := xLen_l c351.2.2
    show ax_W Ω Γ _ _ (h351) _ _ (.int v351 :: _)
    refine ax_putf (pc := 141) G flX11_154_10 dX11_parse_141 ((f351 _ (by first | assumption | omega) (by first | assumption | exact Ne.symm (by assumption) | omega)).trans (g350)) (by omega) (Nat.le_of_ble_eq_true rfl) rfl rfl ?_
    refine ax_hvS w351 (by omega) (fun h352 g352 f352 z352 w352 => ?_)
    replace g352 : h352.1 sc = some (.inr (10, [.ref Lp, .ref Lv, .ref Lo, .int v338, .int v340, .int v342, .int v344, .int v346, .int v349, .int v351, .int i7, .int i8])) := g352
    have n352 := n351.kp (xKp.one w351 ((f351 _ (by first | assumption | omega) (by first | assumption | exact Ne.symm (by assumption) | omega)).trans (g350)) (by decide) (fun q a1 a2 => f352 q a2))
    have t352 : xTk h352 tk351 nm351 β k351 := ⟨t351.1.kp (xKp.one w351 ((f351 _ (by first | assumption | omega) (by first | assumption | exact Ne.symm (by assumption) | omega)).trans (g350)) (by decide) (fun q a1 a2 => f352 q a2)), t351.2⟩
    have p352 : xPs h352 P tx n sc sa β k351 := ⟨nm351, tk351, (f352 _ (by first | assumption | exact Ne.symm (by assumption) | omega)).trans (o351), t352⟩
    refine ax_aload_n (pc := 144) G dX11_parse_144 rfl rfl ?_
    refine ax_getf (pc := 145) (v := .ref sc) G flX11_20_9 dX11_parse_145 ((f352 _ (by first | assumption | exact Ne.symm (by assumption) | omega)).trans (o351)) rfl ?_
    refine ax_aload_n (pc := 148) G dX11_parse_148 rfl rfl ?_
    refine ax_ldcS (pc := 149) G q1098 dX11_parse_149 ?_
    refine ax_iconst (pc := 151) (v := nI 1) G dX11_parse_151 ic_1 ?_
    refine ax_sipush (pc := 152) (v := nI 999) G dX11_parse_152 is_999 ?_
    obtain ⟨k353, v353, e353, y353⟩ : ∃ (a : pK) (c : Int32), a = (pGauge b n k351 (sL "drift") (nI 1) (nI 999)).1 ∧ c = (pGauge b n k351 (sL "drift") (nI 1) (nI 999)).2 := ⟨_, _, rfl, rfl⟩
    refine ax_pV (pc := 155) (kb := 2801) (nb := 67968) G (ct_xgauge hA w352 (by omega) hbP n352 p352 c351 (n352.l xLm_156) (by decide) (l := sL "drift") (xEq_word hβ c351.2.2 c351.1 (l := sL "drift") rfl (by decide) (by decide)) (nI 1) (nI 999) e353 y353) lVX11_123_9 dX11_parse_155 ((f352 _ (by first | assumption | exact Ne.symm (by assumption) | omega)).trans (o351)) rfl (by decide) (Nat.le_of_ble_eq_true rfl) rfl (fun v9 h353 q9 => ?_) (fun x9 h9x q9 => ?_)
    rotate_left
    obtain ⟨c353x, fl353, s353⟩ := q9.x
    have e9 : (rFirst b n (pNx b n κ) p0 p0).1 = k353 := by rw [rFirst, ← e336, show pKey b n k336 (sL "scope") = k337 from e337.symm, rG_e e338 y338, rG_e e340 y340, rG_e e342 y342, rG_e e344 y344, rG_e e346 y346, rG_e e348 y348, rG_e e349 y349, rG_e e351 y351, rG_e e353 y353, rG_c c353x]
    have hk9 : ψ.1 = k353 := by rw [hψ, rText, rLoop_c (by rw [e9]; exact c353x), rEnd_c (by rw [e9]; exact c353x)]; exact e9
    exact ax_outP G E (fun x hx => by cases hx) ⟨⟨fun q a0 => (s353.1 q (by omega) (by omega)).trans ((f352 _ (by first | assumption | exact Ne.symm (by assumption) | omega)).trans ((f351 _ (by first | assumption | omega) (by first | assumption | exact Ne.symm (by assumption) | omega)).trans ((f350 _ (by first | assumption | exact Ne.symm (by assumption) | omega)).trans ((f349 _ (by first | assumption | omega) (by first | assumption | exact Ne.symm (by assumption) | omega)).trans ((gY _ (by first | assumption | omega) ).trans ((f348 _ (by first | assumption | omega) (by first | assumption | exact Ne.symm (by assumption) | omega)).trans ((f347 _ (by first | assumption | exact Ne.symm (by assumption) | omega)).trans ((f346 _ (by first | assumption | omega) (by first | assumption | exact Ne.symm (by assumption) | omega)).trans ((f345 _ (by first | assumption | exact Ne.symm (by assumption) | omega)).trans ((f344 _ (by first | assumption | omega) (by first | assumption | exact Ne.symm (by assumption) | omega)).trans ((f343 _ (by first | assumption | exact Ne.symm (by assumption) | omega)).trans ((f342 _ (by first | assumption | omega) (by first | assumption | exact Ne.symm (by assumption) | omega)).trans ((f341 _ (by first | assumption | exact Ne.symm (by assumption) | omega)).trans ((f340 _ (by first | assumption | omega) (by first | assumption | exact Ne.symm (by assumption) | omega)).trans ((f339 _ (by first | assumption | exact Ne.symm (by assumption) | omega)).trans ((f338 _ (by first | assumption | omega) (by first | assumption | exact Ne.symm (by assumption) | omega)).trans ((f337 _ (by first | assumption | omega) (by first | assumption | exact Ne.symm (by assumption) | omega)).trans ((f336 _ (by first | assumption | omega) (by first | assumption | exact Ne.symm (by assumption) | omega)))))))))))))))))))), by have := s353.2.1; omega, s353.2.2⟩, Or.inr ⟨by rw [hk9]; exact c353x, _, rfl, by rw [hk9]; exact fl353⟩⟩
    obtain ⟨rfl, p353, c353, s353⟩ := q9.n
    obtain ⟨nm353, tk353, o353, t353⟩ := id p353
    obtain ⟨f353, z353, w353⟩ := id s353
    have n353 := n352.kp (xKp.one w352 ((f352 _ (by first | assumption | exact Ne.symm (by assumption) | omega)).trans (o351)) (by decide) f353)
    have x353 := xLen_l c353.2.2
    show ax_W Ω Γ _ _ (h353) _ _ (.int v353 :: _)
    refine ax_putf (pc := 158) G flX11_158_10 dX11_parse_158 ((f353 _ (by first | assumption | omega) (by first | assumption | exact Ne.symm (by assumption) | omega)).trans (g352)) (by omega) (Nat.le_of_ble_eq_true rfl) rfl rfl ?_
    refine ax_hvS w353 (by omega) (fun h354 g354 f354 z354 w354 => ?_)
    replace g354 : h354.1 sc = some (.inr (10, [.ref Lp, .ref Lv, .ref Lo, .int v338, .int v340, .int v342, .int v344, .int v346, .int v349, .int v351, .int v353, .int i8])) := g354
    have n354 := n353.kp (xKp.one w353 ((f353 _ (by first | assumption | omega) (by first | assumption | exact Ne.symm (by assumption) | omega)).trans (g352)) (by decide) (fun q a1 a2 => f354 q a2))
    have t354 : xTk h354 tk353 nm353 β k353 := ⟨t353.1.kp (xKp.one w353 ((f353 _ (by first | assumption | omega) (by first | assumption | exact Ne.symm (by assumption) | omega)).trans (g352)) (by decide) (fun q a1 a2 => f354 q a2)), t353.2⟩
    have p354 : xPs h354 P tx n sc sa β k353 := ⟨nm353, tk353, (f354 _ (by first | assumption | exact Ne.symm (by assumption) | omega)).trans (o353), t354⟩
    refine ax_aload_n (pc := 161) G dX11_parse_161 rfl rfl ?_
    refine ax_getf (pc := 162) (v := .ref sc) G flX11_20_9 dX11_parse_162 ((f354 _ (by first | assumption | exact Ne.symm (by assumption) | omega)).trans (o353)) rfl ?_
    refine ax_aload_n (pc := 165) G dX11_parse_165 rfl rfl ?_
    refine ax_ldcS (pc := 166) G q1099 dX11_parse_166 ?_
    refine ax_iconst (pc := 168) (v := nI 0) G dX11_parse_168 ic_0 ?_
    refine ax_sipush (pc := 169) (v := nI 170) G dX11_parse_169 is_170 ?_
    obtain ⟨k355, v355, e355, y355⟩ : ∃ (a : pK) (c : Int32), a = (pGauge b n k353 (sL "avoid") (nI 0) (nI 170)).1 ∧ c = (pGauge b n k353 (sL "avoid") (nI 0) (nI 170)).2 := ⟨_, _, rfl, rfl⟩
    refine ax_pV (pc := 172) (kb := 2791) (nb := 67764) G (ct_xgauge hA w354 (by omega) hbP n354 p354 c353 (n354.l xLm_160) (by decide) (l := sL "avoid") (xEq_word hβ c353.2.2 c353.1 (l := sL "avoid") rfl (by decide) (by decide)) (nI 0) (nI 170) e355 y355) lVX11_123_9 dX11_parse_172 ((f354 _ (by first | assumption | exact Ne.symm (by assumption) | omega)).trans (o353)) rfl (by decide) (Nat.le_of_ble_eq_true rfl) rfl (fun v9 h355 q9 => ?_) (fun x9 h9x q9 => ?_)
    rotate_left
    obtain ⟨c355x, fl355, s355⟩ := q9.x
    have e9 : (rFirst b n (pNx b n κ) p0 p0).1 = k355 := by rw [rFirst, ← e336, show pKey b n k336 (sL "scope") = k337 from e337.symm, rG_e e338 y338, rG_e e340 y340, rG_e e342 y342, rG_e e344 y344, rG_e e346 y346, rG_e e348 y348, rG_e e349 y349, rG_e e351 y351, rG_e e353 y353, rG_e e355 y355]
    have hk9 : ψ.1 = k355 := by rw [hψ, rText, rLoop_c (by rw [e9]; exact c355x), rEnd_c (by rw [e9]; exact c355x)]; exact e9
    exact ax_outP G E (fun x hx => by cases hx) ⟨⟨fun q a0 => (s355.1 q (by omega) (by omega)).trans ((f354 _ (by first | assumption | exact Ne.symm (by assumption) | omega)).trans ((f353 _ (by first | assumption | omega) (by first | assumption | exact Ne.symm (by assumption) | omega)).trans ((f352 _ (by first | assumption | exact Ne.symm (by assumption) | omega)).trans ((f351 _ (by first | assumption | omega) (by first | assumption | exact Ne.symm (by assumption) | omega)).trans ((f350 _ (by first | assumption | exact Ne.symm (by assumption) | omega)).trans ((f349 _ (by first | assumption | omega) (by first | assumption | exact Ne.symm (by assumption) | omega)).trans ((gY _ (by first | assumption | omega) ).trans ((f348 _ (by first | assumption | omega) (by first | assumption | exact Ne.symm (by assumption) | omega)).trans ((f347 _ (by first | assumption | exact Ne.symm (by assumption) | omega)).trans ((f346 _ (by first | assumption | omega) (by first | assumption | exact Ne.symm (by assumption) | omega)).trans ((f345 _ (by first | assumption | exact Ne.symm (by assumption) | omega)).trans ((f344 _ (by first | assumption | omega) (by first | assumption | exact Ne.symm (by assumption) | omega)).trans ((f343 _ (by first | assumption | exact Ne.symm (by assumption) | omega)).trans ((f342 _ (by first | assumption | omega) (by first | assumption | exact Ne.symm (by assumption) | omega)).trans ((f341 _ (by first | assumption | exact Ne.symm (by assumption) | omega)).trans ((f340 _ (by first | assumption | omega) (by first | assumption | exact Ne.symm (by assumption) | omega)).trans ((f339 _ (by first | assumption | exact Ne.symm (by assumption) | omega)).trans ((f338 _ (by first | assumption | omega) (by first | assumption | exact Ne.symm (by assumption) | omega)).trans ((f337 _ (by first | assumption | omega) (by first | assumption | exact Ne.symm (by assumption) | omega)).trans ((f336 _ (by first | assumption | omega) (by first | assumption | exact Ne.symm (by assumption) | omega)))))))))))))))))))))), by have := s355.2.1; omega, s355.2.2⟩, Or.inr ⟨by rw [hk9]; exact c355x, _, rfl, by rw [hk9]; exact fl355⟩⟩
    obtain ⟨rfl, p355, c355, s355⟩ := q9.n
    obtain ⟨nm355, tk355, o355, t355⟩ := id p355
    obtain ⟨f355, z355, w355⟩ := id s355
    have n355 := n354.kp (xKp.one w354 ((f354 _ (by first | assumption | exact Ne.symm (by assumption) | omega)).trans (o353)) (by decide) f355)
    have x355 := xLen_l c355.2.2
    show ax_W Ω Γ _ _ (h355) _ _ (.int v355 :: _)
    refine ax_putf (pc := 175) G flX11_162_10 dX11_parse_175 ((f355 _ (by first | assumption | omega) (by first | assumption | exact Ne.symm (by assumption) | omega)).trans (g354)) (by omega) (Nat.le_of_ble_eq_true rfl) rfl rfl ?_
    refine ax_hvS w355 (by omega) (fun h356 g356 f356 z356 w356 => ?_)
    replace g356 : h356.1 sc = some (.inr (10, [.ref Lp, .ref Lv, .ref Lo, .int v338, .int v340, .int v342, .int v344, .int v346, .int v349, .int v351, .int v353, .int v355])) := g356
    have n356 := n355.kp (xKp.one w355 ((f355 _ (by first | assumption | omega) (by first | assumption | exact Ne.symm (by assumption) | omega)).trans (g354)) (by decide) (fun q a1 a2 => f356 q a2))
    have t356 : xTk h356 tk355 nm355 β k355 := ⟨t355.1.kp (xKp.one w355 ((f355 _ (by first | assumption | omega) (by first | assumption | exact Ne.symm (by assumption) | omega)).trans (g354)) (by decide) (fun q a1 a2 => f356 q a2)), t355.2⟩
    have p356 : xPs h356 P tx n sc sa β k355 := ⟨nm355, tk355, (f356 _ (by first | assumption | exact Ne.symm (by assumption) | omega)).trans (o355), t356⟩
    obtain ⟨ψ0, hψ0⟩ : ∃ x, x = rFirst b n (pNx b n κ) p0 p0 := ⟨_, rfl⟩
    have hr := hψ0
    rw [rFirst, ← e336, show pKey b n k336 (sL "scope") = k337 from e337.symm, rG_e e338 y338, rG_e e340 y340, rG_e e342 y342, rG_e e344 y344, rG_e e346 y346, rG_e e348 y348, rG_e e349 y349, rG_e e351 y351, rG_e e353 y353, rG_e e355 y355] at hr
    have hk0 : ψ0.1 = k355 := by rw [hr]
    have hsc0 : h356.1 sc = some (.inr (10, [.ref Lp, .ref Lv, .ref Lo, .int (ψ0.2.1 0), .int (ψ0.2.1 1), .int (ψ0.2.1 2), .int (ψ0.2.1 3), .int (ψ0.2.1 4), .int (ψ0.2.1 6), .int (ψ0.2.1 7), .int (ψ0.2.1 8), .int (ψ0.2.1 9)])) := by rw [hr]; exact g356
    have hg15 : ψ0.2.2 15 = v348 := by rw [hr]; rfl
    have hC0 : rC ψ0.2.1 ψ0.2.2 0 0 0 0 := by rw [hr]; exact ⟨⟨rfl, rfl, rfl, rfl⟩, by decide, by decide, by decide, by decide⟩
    have hT0 : xTh h356 z Lp Lv Lo (sa + 2) ψ0.2.1 ψ0.2.2 0 0 0 0 := hT.first (fun q e he hc => by have q1 := wf.lt he; have q2 : q ≠ P := (fun y => by rw [y, hPo] at he; have := hc.1 _ _ (Option.some.inj he).symm; omega); have q3 : q ≠ sc := (fun y => by rw [y, hsc] at he; have := hc.1 _ _ (Option.some.inj he).symm; omega); have q4 := hc.out hS he; exact ((f356 _ (by first | assumption | exact Ne.symm (by assumption) | omega)).trans ((f355 _ (by first | assumption | omega) (by first | assumption | exact Ne.symm (by assumption) | omega)).trans ((f354 _ (by first | assumption | exact Ne.symm (by assumption) | omega)).trans ((f353 _ (by first | assumption | omega) (by first | assumption | exact Ne.symm (by assumption) | omega)).trans ((f352 _ (by first | assumption | exact Ne.symm (by assumption) | omega)).trans ((f351 _ (by first | assumption | omega) (by first | assumption | exact Ne.symm (by assumption) | omega)).trans ((f350 _ (by first | assumption | exact Ne.symm (by assumption) | omega)).trans ((f349 _ (by first | assumption | omega) (by first | assumption | exact Ne.symm (by assumption) | omega)).trans ((gY _ (by first | assumption | omega) ).trans ((f348 _ (by first | assumption | omega) (by first | assumption | exact Ne.symm (by assumption) | omega)).trans ((f347 _ (by first | assumption | exact Ne.symm (by assumption) | omega)).trans ((f346 _ (by first | assumption | omega) (by first | assumption | exact Ne.symm (by assumption) | omega)).trans ((f345 _ (by first | assumption | exact Ne.symm (by assumption) | omega)).trans ((f344 _ (by first | assumption | omega) (by first | assumption | exact Ne.symm (by assumption) | omega)).trans ((f343 _ (by first | assumption | exact Ne.symm (by assumption) | omega)).trans ((f342 _ (by first | assumption | omega) (by first | assumption | exact Ne.symm (by assumption) | omega)).trans ((f341 _ (by first | assumption | exact Ne.symm (by assumption) | omega)).trans ((f340 _ (by first | assumption | omega) (by first | assumption | exact Ne.symm (by assumption) | omega)).trans ((f339 _ (by first | assumption | exact Ne.symm (by assumption) | omega)).trans ((f338 _ (by first | assumption | omega) (by first | assumption | exact Ne.symm (by assumption) | omega)).trans ((f337 _ (by first | assumption | omega) (by first | assumption | exact Ne.symm (by assumption) | omega)).trans ((f336 _ (by first | assumption | omega) (by first | assumption | exact Ne.symm (by assumption) | omega)))))))))))))))))))))))).trans he)
    have gR0 : h356.1 rl = some (.inr (2, [])) := ((f356 _ (by first | assumption | exact Ne.symm (by assumption) | omega)).trans ((f355 _ (by first | assumption | omega) (by first | assumption | exact Ne.symm (by assumption) | omega)).trans ((f354 _ (by first | assumption | exact Ne.symm (by assumption) | omega)).trans ((f353 _ (by first | assumption | omega) (by first | assumption | exact Ne.symm (by assumption) | omega)).trans ((f352 _ (by first | assumption | exact Ne.symm (by assumption) | omega)).trans ((f351 _ (by first | assumption | omega) (by first | assumption | exact Ne.symm (by assumption) | omega)).trans ((f350 _ (by first | assumption | exact Ne.symm (by assumption) | omega)).trans ((f349 _ (by first | assumption | omega) (by first | assumption | exact Ne.symm (by assumption) | omega)).trans ((gY _ (by first | assumption | omega) ).trans ((f348 _ (by first | assumption | omega) (by first | assumption | exact Ne.symm (by assumption) | omega)).trans ((f347 _ (by first | assumption | exact Ne.symm (by assumption) | omega)).trans ((f346 _ (by first | assumption | omega) (by first | assumption | exact Ne.symm (by assumption) | omega)).trans ((f345 _ (by first | assumption | exact Ne.symm (by assumption) | omega)).trans ((f344 _ (by first | assumption | omega) (by first | assumption | exact Ne.symm (by assumption) | omega)).trans ((f343 _ (by first | assumption | exact Ne.symm (by assumption) | omega)).trans ((f342 _ (by first | assumption | omega) (by first | assumption | exact Ne.symm (by assumption) | omega)).trans ((f341 _ (by first | assumption | exact Ne.symm (by assumption) | omega)).trans ((f340 _ (by first | assumption | omega) (by first | assumption | exact Ne.symm (by assumption) | omega)).trans ((f339 _ (by first | assumption | exact Ne.symm (by assumption) | omega)).trans ((f338 _ (by first | assumption | omega) (by first | assumption | exact Ne.symm (by assumption) | omega)).trans ((f337 _ (by first | assumption | omega) (by first | assumption | exact Ne.symm (by assumption) | omega)).trans ((f336 _ (by first | assumption | omega) (by first | assumption | exact Ne.symm (by assumption) | omega)))))))))))))))))))))))).trans hrl
    have LP : ∀ (k N V A O : Nat) (ψ1 : rS) (hh : ax_H), N + V + A + O + k = 36 → ψ = rEnd (rLoop b n (k + 965) ψ1) → xPs hh P tx n sc sa β ψ1.1 → xK n β ψ1.1 → xEn Ω hh tx n tb b β → hh.1 sc = some (.inr (10, [.ref Lp, .ref Lv, .ref Lo, .int (ψ0.2.1 0), .int (ψ0.2.1 1), .int (ψ0.2.1 2), .int (ψ0.2.1 3), .int (ψ0.2.1 4), .int (ψ0.2.1 6), .int (ψ0.2.1 7), .int (ψ0.2.1 8), .int (ψ0.2.1 9)])) → sIs hh sa (upd s0 15 v348, π, .ref sc, rl) → hh.1 rl = some (.inr (2, [])) → xTh hh z Lp Lv Lo (sa + 2) ψ1.2.1 ψ1.2.2 N V A O → rC ψ1.2.1 ψ1.2.2 N V A O → xLo ψ0.2.1 ψ0.2.2 ψ1.2.1 ψ1.2.2 → (∀ q, q < z → hh.1 q = h.1 q) → h.2 ≤ hh.2 → ax_wf hh → ax_W Ω Γ (k * 74 + 20) (k * 1794 + 400) hh 178 [some (.ref P)] [] := by
      intro k
      induction k with
      | zero =>
        intro N V A O ψ1 hh hk hE1 hP1 hK1 hn1 gSc sS gR hT1 hC1 hLo1 fz zz wh
        obtain ⟨-, cN, cV, cA, cO⟩ := hC1
        omega
      | succ k ih =>
        intro N V A O ψ1 hh hk hE1 hP1 hK1 hn1 gSc sS gR hT1 hC1 hLo1 fz zz wh
        have hlR1 := wh.lt gR
        refine ax_more (kb := (k * 74 + 20) + 74) (nb := (k * 1794 + 400) + 1794) (by omega) (by omega) ?_
        obtain ⟨nm1, tk1, gP, tT⟩ := id hP1
        have hlx1 := xLen_l hK1.2.2
        obtain ⟨ep, ev, eo, ea, xp, xv, xo, xa, nm0, ln0, lt0, T1⟩ := id hT1
        obtain ⟨mc0, cap0, F0, hLp, hEp, l1, l2, l3, l4, l5⟩ := id T1.p
        have hcc := hC1.2
        have gSa : hh.1 sa = some (.inr (1, sF sa (upd s0 15 v348, π, .ref sc, rl))) := ((show hh.1 sa = (sH hh sa (upd s0 15 v348, π, .ref sc, rl)).1 sa by rw [show sH hh sa (upd s0 15 v348, π, .ref sc, rl) = hh from sS])).trans sH_obj
        have hscP1 : sc ≠ P := hscP
        have hsaP1 : sa ≠ P := fun y => by rw [y, gP] at gSa; cases gSa
        have hPLp : P ≠ Lp := fun y => by rw [y, hLp] at gP; cases gP
        have hlLp := wh.lt hLp
        have oP1 := sS.out gP (fun fs y => by cases y) (fun fs y => by cases y) (fun x y => by cases y)
        have hlP1 := wh.lt gP
        have hlsc1 := wh.lt gSc
        refine ax_aload_n (pc := 178) G dX11_parse_178 rfl rfl ?_
        refine ax_ldcS (pc := 179) G q1031 dX11_parse_179 ?_
        refine ax_more (kb := (k * 74 + 20) + 70 + 4) (nb := (k * 1794 + 400) + 1700 + 94) (by omega) (by omega) ?_
        obtain ⟨k357, e357⟩ : ∃ a : pK, a = if pSg ψ1.1 (nI 59) = true then pNx b n ψ1.1 else ψ1.1 := ⟨_, rfl⟩
        refine ax_pV (pc := 181) (kb := ((k * 74 + 20) + 70)) (nb := ((k * 1794 + 400) + 1700)) G (ct_xtakesH (z := z) hA wh (by omega) (by omega) hbP hn1 hP1 hK1 (hn1.l xLm_88) (by decide) (B := pSg ψ1.1 (nI 59)) (xEq_sign hβ hK1.2.2 hK1.1 rfl rfl (by decide)) e357) lVX11_106_9 dX11_parse_181 (gP) rfl (by decide) (Nat.le_of_ble_eq_true rfl) rfl (fun v9 h357 q9 => ?_) (fun x9 h9x q9 => ?_)
        rotate_left
        exact absurd (show k357.2.2.2.2.1 = 0 by rw [e357]; split; exact (hK1.nx hβ).1; exact hK1.1) q9.1.x.1
        have H9 := q9.2
        obtain ⟨rfl, p357, c357, s357⟩ := q9.1.n
        obtain ⟨nm357, tk357, o357, t357⟩ := id p357
        obtain ⟨f357, z357, w357⟩ := id s357
        have n357 := hn1.kp (xKp.one wh (gP) (by decide) f357)
        have x357 := xLen_l c357.2.2
        show ax_W Ω Γ _ _ (h357) _ _ (.int (bI (pSg ψ1.1 (nI 59))) :: _)
        refine ax_if_eq (pc := 184) (tgt := 194) G dX11_parse_184 rfl (fun c184 => ?_) (fun c184 => ?_)
        · have c184b := bI_f c184
          refine ax_aload_n (pc := 194) G dX11_parse_194 rfl rfl ?_
          refine ax_getf (pc := 195) (v := .ref tk357) G flX11_11_9 dX11_parse_195 (o357) rfl ?_
          refine ax_cV1 (pc := 198) (kb := ((k * 74 + 20) + 70)) (nb := ((k * 1794 + 400) + 1700)) G (ct_semptyS hA (t357.1) (by omega)) lVX11_167_19 dX11_parse_198 (t357.1.o.choose_spec) rfl (by decide) (Nat.le_of_ble_eq_true rfl) rfl ?_
          refine ax_top (show Value.int (bI (decide (xLen k357 = 0))) = .int (bI (decide (k357.2.1 = 1))) from congrArg (fun z => Value.int (bI z)) (xEq_end c357.2.2)) ?_
          refine ax_if_ne (pc := 201) (tgt := 210) G dX11_parse_201 rfl (fun c201 => ?_) (fun c201 => ?_)
          · have c201b := bI_t c201
            refine ax_aload_n (pc := 210) G dX11_parse_210 rfl rfl ?_
            refine ax_getf (pc := 211) (v := .ref sc) G flX11_20_9 dX11_parse_211 (o357) rfl ?_
            refine ax_getf (pc := 214) (v := .ref Lp) G flX11_171_10 dX11_parse_214 ((f357 _ (by first | assumption | omega) (by first | assumption | exact Ne.symm (by assumption) | omega)).trans (gSc)) rfl ?_
            refine ax_cJ1 (pc := 217) (kb := ((k * 74 + 20) + 70)) (nb := ((k * 1794 + 400) + 1700)) G (ct_lempty hA ((f357 _ (by first | assumption | omega) (by first | assumption | exact Ne.symm (by assumption) | omega)).trans (hLp)) (by omega)) lJX11_175_16 dX11_parse_217 ((f357 _ (by first | assumption | omega) (by first | assumption | exact Ne.symm (by assumption) | omega)).trans (hLp)) rfl (by decide) (Nat.le_of_ble_eq_true rfl) rfl ?_
            refine ax_if_eq (pc := 222) (tgt := 231) G dX11_parse_222 rfl (fun c222 => ?_) (fun c222 => ?_)
            · have c222b := bI_f c222
              refine ax_aload_n (pc := 231) G dX11_parse_231 rfl rfl ?_
              refine ax_getf (pc := 232) (v := .ref sa) G flX11_29_9 dX11_parse_232 (o357) rfl ?_
              have hkn : k357 = ψ1.1 := by rw [e357, if_neg (by rw [c184b]; decide)]
              have hf0 : ψ1.1.2.2.2.2.1 = 0 := hK1.1
              have hN0 : ¬ ψ1.2.1 10 = 0 := fun y => of_decide_eq_false c222b (nz_eq (hC1.1.1.symm.trans y) (by omega))
              have hψ1 : ψ = ψ1 := by rw [hE1, rLoop_e (by rw [c184b]; decide)]; exact rEnd_0 hf0 (by rw [← hkn]; exact of_decide_eq_true c201b) hN0
              have sS9 : sIs h357 sa (upd s0 15 v348, π, .ref sc, rl) := sS.fr (fun q hq => f357 q (by omega) (by omega))
              have T9 : xTh h357 z Lp Lv Lo (sa + 2) ψ1.2.1 ψ1.2.2 N V A O := hT1.kp (fun q e he hk => (f357 q (wh.lt he) (fun y => by rw [y, gP] at he; have := hk.1 _ _ (Option.some.inj he).symm; omega)).trans he)
              have C9 : h357.1 sc = _ := (f357 _ (by omega) hscP1).trans gSc
              have R9 : h357.1 rl = _ := (f357 _ (by omega) nRP).trans gR
              have oR9 := sS9.out R9 (fun fs y => by cases y) (fun fs y => by cases y) (fun x y => by cases y)
              have oC9 := sS9.out C9 (fun fs y => by cases y) (fun fs y => by cases y) (fun x y => by cases y)
              obtain ⟨ep9, ev9, eo9, ea9, xp9, xv9, xo9, xa9, nm9, ln9, lt9, T8⟩ := id T9
              obtain ⟨m1, cap1, F1, L1, E1, u1, u2, u3, u4, u5⟩ := id T8.p
              obtain ⟨m2, cap2, F2, L2, E2, v1, v2, v3, v4, v5⟩ := id T8.v
              have KB : ax_W Ω Γ ((k * 74 + 20) + 70) ((k * 1794 + 400) + 1700) (sH h357 sa (upd s0 15 v348, π, .ref sc, rl)) 235 [some (.ref P)] [.ref sa] := by
                refine ax_cV1 (pc := 235) (kb := ((k * 74 + 20) + 70)) (nb := ((k * 1794 + 400) + 1700)) G (ct_sbegin (vl := fun k j => ψ1.2.1 (66 + 8 * k + if j = 4 then 5 else j)) (g := fun k => ψ1.2.2 (17 + k)) (pr := fun k => ψ1.2.2 (107 + k)) hA (by omega) C9 oC9 L1 (xKd.out sS9 L1 (xKd_o (by decide))) E1 (xKd.out sS9 E1 xKd_a) u3 hC1.2.1 (by omega) u4 (fun k hk => (T8.n k hk).1) (fun k hk => xKd.out sS9 (T8.n k hk).1 (xKd_o (by decide))) L2 (xKd.out sS9 L2 (xKd_o (by decide))) E2 (xKd.out sS9 E2 xKd_a) v3 hC1.2.2.1 (by omega) v4 (fun k hk => T8.t.1 k hk) (fun k hk => xKd.out sS9 (T8.t.1 k hk) (xKd_o (by decide)))) lVX11_178_1 dX11_parse_235 sH_obj rfl (by decide) (Nat.le_of_ble_eq_true rfl) rfl ?_
                exact ax_aretP (pc := 238) G E rfl (Or.inl ⟨_, rfl⟩) (Or.inr ⟨_, rfl⟩) dX11_parse_238 ⟨⟨fun q a0 => (sH_out (by omega)).trans ((f357 q (by omega) (by omega)).trans (fz q a0)), (by show h.2 ≤ h357.2; omega), sH_wf w357 (by omega)⟩, Or.inl ⟨rfl, (by rw [hψ1]; exact hf0), N, V, A, O, (by rw [hψ1]; exact hC1), (by rw [hψ1]; exact T9.kp (fun q e he hk => (sH_out (xKd.out sS9 he hk)).trans he)), (by rw [hψ1, hLo1.1 0 (by decide), hLo1.1 1 (by decide), hLo1.1 2 (by decide), hLo1.1 3 (by decide), hLo1.1 4 (by decide), hLo1.1 6 (by decide), hLo1.1 7 (by decide), hLo1.1 8 (by decide), hLo1.1 9 (by decide)]; exact (sH_out oC9).trans C9), (by rw [hψ1, hLo1.2, hg15]; exact sH_sH), (sH_out oR9).trans R9⟩⟩
              rw [show sH h357 sa (upd s0 15 v348, π, .ref sc, rl) = h357 from sS9] at KB
              exact KB
            · have c222b := bI_t c222
              refine ax_aload_n (pc := 225) G dX11_parse_225 rfl rfl ?_
              refine ax_iconst (pc := 226) (v := nI 5) G dX11_parse_226 ic_5 ?_
              refine ax_more (kb := (k * 74 + 20) + 69 + 1) (nb := (k * 1794 + 400) + 1692 + 8) (by omega) (by omega) ?_
              refine ax_nV (pc := 227) (kb := ((k * 74 + 20) + 69)) (nb := ((k * 1794 + 400) + 1692)) G (ct_xflaw (b := b) (tb := tb) hA w357 (by omega) (o357) 5) lVX11_110_9 dX11_parse_227 (o357) rfl (by decide) (Nat.le_of_ble_eq_true rfl) rfl (fun v358 h358 q9 => ?_)
              obtain ⟨rfl, g358, f358, z358, w358⟩ := q9
              show ax_W Ω Γ _ _ (h358) _ _ (.ref h357.2 :: _)
              refine ax_athrow (pc := 230) G dX11_parse_230 ?_
              have hkn : k357 = ψ1.1 := by rw [e357, if_neg (by rw [c184b]; decide)]
              have hf0 : ψ1.1.2.2.2.2.1 = 0 := hK1.1
              have hk9 : ψ.1 = pFl k357 5 := by rw [hE1, rLoop_e (by rw [c184b]; decide), hkn]; exact rEnd_5 hf0 (by rw [← hkn]; exact of_decide_eq_true c201b) (by rw [hC1.1.1, of_decide_eq_true c222b]; rfl)
              exact ax_outP G E (fun x hx => by cases hx) ⟨⟨fun q a0 => (f358 q (by omega)).trans ((f357 q (by omega) (by omega)).trans (fz q a0)), by omega, w358⟩, Or.inr ⟨by rw [hk9, pFl_c c357.1]; decide, _, rfl, by rw [xFl, hk9, pFl_v c357.1]; exact g358⟩⟩
          · have c201b := bI_f c201
            refine ax_aload_n (pc := 204) G dX11_parse_204 rfl rfl ?_
            refine ax_iconst (pc := 205) (v := nI 1) G dX11_parse_205 ic_1 ?_
            refine ax_more (kb := (k * 74 + 20) + 69 + 1) (nb := (k * 1794 + 400) + 1692 + 8) (by omega) (by omega) ?_
            refine ax_nV (pc := 206) (kb := ((k * 74 + 20) + 69)) (nb := ((k * 1794 + 400) + 1692)) G (ct_xflaw (b := b) (tb := tb) hA w357 (by omega) (o357) 1) lVX11_110_9 dX11_parse_206 (o357) rfl (by decide) (Nat.le_of_ble_eq_true rfl) rfl (fun v359 h359 q9 => ?_)
            obtain ⟨rfl, g359, f359, z359, w359⟩ := q9
            show ax_W Ω Γ _ _ (h359) _ _ (.ref h357.2 :: _)
            refine ax_athrow (pc := 209) G dX11_parse_209 ?_
            have hkn : k357 = ψ1.1 := by rw [e357, if_neg (by rw [c184b]; decide)]
            have hf0 : ψ1.1.2.2.2.2.1 = 0 := hK1.1
            have hk9 : ψ.1 = pFl k357 1 := by rw [hE1, rLoop_e (by rw [c184b]; decide), hkn]; exact rEnd_1 hf0 (by rw [← hkn]; exact of_decide_eq_false c201b)
            exact ax_outP G E (fun x hx => by cases hx) ⟨⟨fun q a0 => (f359 q (by omega)).trans ((f357 q (by omega) (by omega)).trans (fz q a0)), by omega, w359⟩, Or.inr ⟨by rw [hk9, pFl_c c357.1]; decide, _, rfl, by rw [xFl, hk9, pFl_v c357.1]; exact g359⟩⟩
        · have c184b := bI_t c184
          refine ax_aload_n (pc := 187) G dX11_parse_187 rfl rfl ?_
          have hkn : k357 = pNx b n ψ1.1 := by rw [e357, if_pos c184b]
          obtain ⟨ψ2, hψ2⟩ : ∃ x, x = rLine b n k357 ψ1.2.1 ψ1.2.2 N V A O := ⟨_, rfl⟩
          have hE2 : ψ = rEnd (rLoop b n (k + 965) ψ2) := by rw [hE1, show k + 1 + 965 = (k + 965) + 1 by omega, rLoop_s, if_pos c184b, ← hkn, hC1.1.1, hC1.1.2.1, hC1.1.2.2.2, hC1.1.2.2.1, pN_nI (by omega), pN_nI (by omega), pN_nI (by omega), pN_nI (by omega), ← hψ2]
          have gS357 : h357.1 sa = some (.inr (1, sF sa (upd s0 15 v348, π, .ref sc, rl))) := (f357 _ (by omega) hsaP1).trans gSa
          have T357 : xTh h357 z Lp Lv Lo (sa + 2) ψ1.2.1 ψ1.2.2 N V A O := hT1.kp (fun q e he hk => (f357 q (wh.lt he) (fun y => by rw [y, gP] at he; have := hk.1 _ _ (Option.some.inj he).symm; omega)).trans he)
          have C357 : h357.1 sc = _ := (f357 _ (by omega) hscP1).trans gSc
          refine ax_pV (pc := 188) (kb := (k * 74 + 20)) (nb := (k * 1794 + 400)) G (ct_xline hA w357 (by omega) hbP n357 p357 c357 hΩz hzP (H9 c184b) C357 gS357 hd T357 hC1 hψ2) lVX11_164_9 dX11_parse_188 (o357) rfl (by decide) (Nat.le_of_ble_eq_true rfl) rfl (fun v9 h360 q9 => ?_) (fun x9 h9x q9 => ?_)
          rotate_left
          obtain ⟨c9x, fl9, M9⟩ := q9.x
          have hk9 : ψ.1 = ψ2.1 := by rw [hE2, rLoop_c c9x, rEnd_c c9x]
          have z9 := M9.2.2.1
          exact ax_outP G E (fun x hx => by cases hx) ⟨⟨fun q a0 => (M9.1 q a0).trans ((f357 q (by omega) (by omega)).trans (fz q a0)), by omega, M9.2.2.2⟩, Or.inr ⟨by rw [hk9]; exact c9x, _, rfl, by rw [hk9]; exact fl9⟩⟩
          obtain ⟨rfl, p360, c360, ⟨n360, N9, V9, A9, O9, r1, r2, r3, r4⟩, M360⟩ := q9.n
          have w360 := M360.2.2.2
          have z360 := M360.2.2.1
          show ax_W Ω Γ _ _ (h360) _ _ (_)
          refine ax_goto (pc := 191) (tgt := 178) G dX11_parse_191 rfl ?_
          have sS9 : sIs h357 sa (upd s0 15 v348, π, .ref sc, rl) := sS.fr (fun q hq => f357 q (by omega) (by omega))
          exact ih N9 V9 A9 O9 ψ2 h360 (by omega) hE2 p360 c360 n360 (M360.2.1 _ _ C357 (xIn_o (by decide))) (sS9.fm M360.2.1) (M360.2.1 _ _ ((f357 _ (by omega) nRP).trans gR) (xIn_o (by decide))) r4 r1 (hLo1.trans r3) (fun q a0 => (M360.1 q a0).trans ((f357 q (by omega) (by omega)).trans (fz q a0))) (by omega) w360
    refine ax_more (kb := 36 * 74 + 20) (nb := 36 * 1794 + 400) (by omega) (by omega) ?_
    exact LP 36 0 0 0 0 ψ0 h356 rfl (by rw [hψ, rText, hψ0]) (by rw [hk0]; exact p356) (by rw [hk0]; exact c355) n356 hsc0 (sY.fr (fun q hq => (f356 _ (by first | assumption | exact Ne.symm (by assumption) | omega)).trans ((f355 _ (by first | assumption | omega) (by first | assumption | exact Ne.symm (by assumption) | omega)).trans ((f354 _ (by first | assumption | exact Ne.symm (by assumption) | omega)).trans ((f353 _ (by first | assumption | omega) (by first | assumption | exact Ne.symm (by assumption) | omega)).trans ((f352 _ (by first | assumption | exact Ne.symm (by assumption) | omega)).trans ((f351 _ (by first | assumption | omega) (by first | assumption | exact Ne.symm (by assumption) | omega)).trans ((f350 _ (by first | assumption | exact Ne.symm (by assumption) | omega)).trans ((f349 _ (by first | assumption | omega) (by first | assumption | exact Ne.symm (by assumption) | omega))))))))))) gR0 hT0 hC0 ⟨fun _ _ => rfl, rfl⟩ (fun q a0 => (f356 _ (by first | assumption | exact Ne.symm (by assumption) | omega)).trans ((f355 _ (by first | assumption | omega) (by first | assumption | exact Ne.symm (by assumption) | omega)).trans ((f354 _ (by first | assumption | exact Ne.symm (by assumption) | omega)).trans ((f353 _ (by first | assumption | omega) (by first | assumption | exact Ne.symm (by assumption) | omega)).trans ((f352 _ (by first | assumption | exact Ne.symm (by assumption) | omega)).trans ((f351 _ (by first | assumption | omega) (by first | assumption | exact Ne.symm (by assumption) | omega)).trans ((f350 _ (by first | assumption | exact Ne.symm (by assumption) | omega)).trans ((f349 _ (by first | assumption | omega) (by first | assumption | exact Ne.symm (by assumption) | omega)).trans ((gY _ (by first | assumption | omega) ).trans ((f348 _ (by first | assumption | omega) (by first | assumption | exact Ne.symm (by assumption) | omega)).trans ((f347 _ (by first | assumption | exact Ne.symm (by assumption) | omega)).trans ((f346 _ (by first | assumption | omega) (by first | assumption | exact Ne.symm (by assumption) | omega)).trans ((f345 _ (by first | assumption | exact Ne.symm (by assumption) | omega)).trans ((f344 _ (by first | assumption | omega) (by first | assumption | exact Ne.symm (by assumption) | omega)).trans ((f343 _ (by first | assumption | exact Ne.symm (by assumption) | omega)).trans ((f342 _ (by first | assumption | omega) (by first | assumption | exact Ne.symm (by assumption) | omega)).trans ((f341 _ (by first | assumption | exact Ne.symm (by assumption) | omega)).trans ((f340 _ (by first | assumption | omega) (by first | assumption | exact Ne.symm (by assumption) | omega)).trans ((f339 _ (by first | assumption | exact Ne.symm (by assumption) | omega)).trans ((f338 _ (by first | assumption | omega) (by first | assumption | exact Ne.symm (by assumption) | omega)).trans ((f337 _ (by first | assumption | omega) (by first | assumption | exact Ne.symm (by assumption) | omega)).trans ((f336 _ (by first | assumption | omega) (by first | assumption | exact Ne.symm (by assumption) | omega)))))))))))))))))))))))) (by omega) w356
  rw [show sH h348 sa (s0, π, .ref sc, rl) = h348 from hX0] at KS
  exact KS

