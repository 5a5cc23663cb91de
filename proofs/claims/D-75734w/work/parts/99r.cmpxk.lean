/-! TelescopeQueue: the parser is made -/
theorem ct_xinit {Ω : ax_O} (hA : ax_Amb Ω) {h : ax_H} (wf : ax_wf h) (hz : Ω.2.1.heap.size ≤ h.2) {P tx n : Nat} (hO : h.1 P = some (.inr (9, [.null, .int (nI 0), .int (nI 0), .int (nI 0), .int (nI 0), .null, .null, .null]))) (hbO : Ω.2.1.heap.size ≤ P)  : ax_MetP Ω yX11_init 6 26 837 [.ref P, .ref tx, .int (nI n)] h (ax_Nm (fun v h' => v = none ∧ h'.1 P = some (.inr (9, [.ref tx, .int (nI n), .int (nI 0), .int (nI 0), .int (nI 0), .ref (Ω.2.2.2.1 "TelescopeQueue$Parser" 9), .ref h.2, .ref (h.2 + 7)])) ∧ h'.1 h.2 = some (.inr (10, [.ref (h.2 + 1), .ref (h.2 + 3), .ref (h.2 + 5), .int (nI 0), .int (nI 0), .int (nI 0), .int (nI 0), .int (nI 0), .int (nI 0), .int (nI 0), .int (nI 0), .int (nI 0)])) ∧ h'.1 (h.2 + 1) = some (.inr (16, [.int (nI 0), .ref (h.2 + 2), .int (nI 0)])) ∧ h'.1 (h.2 + 2) = some (.inl (.object "java/lang/Object", 4, .inr (.inr (.inr (.inr fun _ => none))))) ∧ h'.1 (h.2 + 3) = some (.inr (16, [.int (nI 0), .ref (h.2 + 4), .int (nI 0)])) ∧ h'.1 (h.2 + 4) = some (.inl (.object "java/lang/Object", 8, .inr (.inr (.inr (.inr fun _ => none))))) ∧ h'.1 (h.2 + 5) = some (.inr (16, [.int (nI 0), .ref (h.2 + 6), .int (nI 0)])) ∧ h'.1 (h.2 + 6) = some (.inl (.object "java/lang/Object", 2, .inr (.inr (.inr (.inr fun _ => none))))) ∧ sIs h' (h.2 + 7) (cZ (.ref h.2) (h.2 + 8)) ∧ h'.1 (h.2 + 8) = some (.inr (2, [])) ∧ h'.1 (h.2 + 9) = some (.inr (16, [.int (nI 0), .ref (h.2 + 10), .int (nI 0)])) ∧ h'.1 (h.2 + 10) = some (.inl (.object "java/lang/Object", 4, .inr (.inr (.inr (.inr fun _ => none))))) ∧ (∀ q, q < h.2 → q ≠ P → h'.1 q = h.1 q) ∧ h'.2 = h.2 + 26 ∧ ax_wf h')) := by
  refine ax_metP q884 q145 (by decide +kernel) (by decide) hA (Nat.le_of_ble_eq_true rfl) (fun Γ G E => ?_)
  have hlO := wf.lt hO
  show ax_W Ω Γ 26 837 h 0 [some (.ref P), some (.ref tx), some (.int (nI n))] []
  refine ax_aload_n (pc := 0) G dX11_init_0 rfl rfl ?_
  refine ax_objInit (pc := 1) G (by decide) q885 q166 q167 dX11_init_1 (Nat.le_of_ble_eq_true rfl) ?_
  refine ax_aload_n (pc := 4) G dX11_init_4 rfl rfl ?_
  refine ax_ldcS (pc := 5) G q886 dX11_init_5 ?_
  refine ax_putf (pc := 7) G flX11_11_9 dX11_init_7 (hO) (by omega) (Nat.le_of_ble_eq_true rfl) rfl rfl ?_
  refine ax_hvS wf (by omega) (fun h211 g211 f211 z211 w211 => ?_)
  replace g211 : h211.1 P = some (.inr (9, [.null, .int (nI 0), .int (nI 0), .int (nI 0), .int (nI 0), .ref (Ω.2.2.2.1 "TelescopeQueue$Parser" 9), .null, .null])) := g211
  refine ax_aload_n (pc := 10) G dX11_init_10 rfl rfl ?_
  refine ax_new (pc := 11) (ci := 10) (kb := 25) (nb := 825) G [.null, .null, .null, .int (nI 0), .int (nI 0), .int (nI 0), .int (nI 0), .int (nI 0), .int (nI 0), .int (nI 0), .int (nI 0), .int (nI 0)] dX11_init_11 rfl cok_X12 rfl q887 q888 q146 (fun j hj => by have hj9 : j < 12 := hj; rcases (show j = 0 ∨ j = 1 ∨ j = 2 ∨ j = 3 ∨ j = 4 ∨ j = 5 ∨ j = 6 ∨ j = 7 ∨ j = 8 ∨ j = 9 ∨ j = 10 ∨ j = 11 by omega) with rfl | rfl | rfl | rfl | rfl | rfl | rfl | rfl | rfl | rfl | rfl | rfl <;> rfl) ?_
  refine ax_hvA w211 (fun h212 g212 f212 z212 w212 => ?_)
  refine ax_dup (pc := 14) G dX11_init_14 rfl ?_
  refine ax_nIN (pc := 15) (kb := 19) (nb := 726) G (ct_scinit hA w212 (by omega) (g212) (by omega)) lIX11_19 dX11_init_15 rfl (by decide) (Nat.le_of_ble_eq_true rfl) rfl (fun v213 h213 q9 => ?_)
  obtain ⟨rfl, g213, l0, l1, l2, l3, l4, l5, f213, z213, w213⟩ := q9
  show ax_W Ω Γ _ _ (h213) _ _ (_)
  refine ax_putfF (pc := 18) G flFX11_20_9 rfl dX11_init_18 ((f213 _ (by omega) (by omega)).trans ((f212 _ (by omega)).trans (g211))) (by omega) (Nat.le_of_ble_eq_true rfl) rfl rfl ?_
  refine ax_hvS w213 (by omega) (fun h214 g214 f214 z214 w214 => ?_)
  replace g214 : h214.1 P = some (.inr (9, [.null, .int (nI 0), .int (nI 0), .int (nI 0), .int (nI 0), .ref (Ω.2.2.2.1 "TelescopeQueue$Parser" 9), .ref h211.2, .null])) := g214
  refine ax_aload_n (pc := 21) G dX11_init_21 rfl rfl ?_
  refine ax_new (pc := 22) (ci := 1) (kb := 18) (nb := 700) G [.null, .null, .null, .null, .null, .null, .null, .null, .null, .null, .null, .null, .null, .null, .null, .int (nI 0), .int (nI 0), .int (nI 0), .int (nI 0), .int (nI 0), .int (nI 0), .int (nI 0), .int (nI 0), .null, .null, .null] dX11_init_22 rfl cok_X2 rfl q958 q169 q114 (fun j hj => by have hj9 : j < 26 := hj; rcases (show j = 0 ∨ j = 1 ∨ j = 2 ∨ j = 3 ∨ j = 4 ∨ j = 5 ∨ j = 6 ∨ j = 7 ∨ j = 8 ∨ j = 9 ∨ j = 10 ∨ j = 11 ∨ j = 12 ∨ j = 13 ∨ j = 14 ∨ j = 15 ∨ j = 16 ∨ j = 17 ∨ j = 18 ∨ j = 19 ∨ j = 20 ∨ j = 21 ∨ j = 22 ∨ j = 23 ∨ j = 24 ∨ j = 25 by omega) with rfl | rfl | rfl | rfl | rfl | rfl | rfl | rfl | rfl | rfl | rfl | rfl | rfl | rfl | rfl | rfl | rfl | rfl | rfl | rfl | rfl | rfl | rfl | rfl | rfl | rfl <;> rfl) ?_
  refine ax_hvA w214 (fun h215 g215 f215 z215 w215 => ?_)
  refine ax_dup (pc := 25) G dX11_init_25 rfl ?_
  refine ax_aload_n (pc := 26) G dX11_init_26 rfl rfl ?_
  refine ax_getf (pc := 27) (v := .ref h211.2) G flX11_20_9 dX11_init_27 ((f215 _ (by omega)).trans (g214)) rfl ?_
  refine ax_nI (pc := 30) (kb := 0) (nb := 0) G (ct_stinitR hA w215 (by omega) (sc := h211.2) (g215) (by omega) (by omega)) lIX11_26 dX11_init_30 rfl (by decide) (Nat.le_of_ble_eq_true rfl) rfl (fun v216 h216 q9 => ?_)
  obtain ⟨rfl, I1, I2, I3, I4, f216, z216, w216⟩ := q9
  show ax_W Ω Γ _ _ (h216) _ _ (_)
  refine ax_putfF (pc := 33) G flFX11_29_9 rfl dX11_init_33 ((f216 _ (by omega) ).trans ((f215 _ (by omega)).trans (g214))) (by omega) (Nat.le_of_ble_eq_true rfl) rfl rfl ?_
  refine ax_hvS w216 (by omega) (fun h217 g217 f217 z217 w217 => ?_)
  replace g217 : h217.1 P = some (.inr (9, [.null, .int (nI 0), .int (nI 0), .int (nI 0), .int (nI 0), .ref (Ω.2.2.2.1 "TelescopeQueue$Parser" 9), .ref h211.2, .ref h214.2])) := g217
  refine ax_aload_n (pc := 36) G dX11_init_36 rfl rfl ?_
  refine ax_aload_n (pc := 37) G dX11_init_37 rfl rfl ?_
  refine ax_putfF (pc := 38) G flFX11_33_9 rfl dX11_init_38 (g217) (by omega) (Nat.le_of_ble_eq_true rfl) rfl rfl ?_
  refine ax_hvS w217 (by omega) (fun h218 g218 f218 z218 w218 => ?_)
  replace g218 : h218.1 P = some (.inr (9, [.ref tx, .int (nI 0), .int (nI 0), .int (nI 0), .int (nI 0), .ref (Ω.2.2.2.1 "TelescopeQueue$Parser" 9), .ref h211.2, .ref h214.2])) := g218
  refine ax_aload_n (pc := 41) G dX11_init_41 rfl rfl ?_
  refine ax_iload_n (pc := 42) G dX11_init_42 rfl rfl ?_
  refine ax_putfF (pc := 43) G flFX11_37_9 rfl dX11_init_43 (g218) (by omega) (Nat.le_of_ble_eq_true rfl) rfl rfl ?_
  refine ax_hvS w218 (by omega) (fun h219 g219 f219 z219 w219 => ?_)
  replace g219 : h219.1 P = some (.inr (9, [.ref tx, .int (nI n), .int (nI 0), .int (nI 0), .int (nI 0), .ref (Ω.2.2.2.1 "TelescopeQueue$Parser" 9), .ref h211.2, .ref h214.2])) := g219
  have eS : h211.2 = h.2 := by omega
  have eA : h214.2 = h.2 + 7 := by omega
  have e1 : h212.2 + 0 = h.2 + 1 := by omega
  have e3 : h212.2 + 2 = h.2 + 3 := by omega
  have e5 : h212.2 + 4 = h.2 + 5 := by omega
  have gP := g219
  rw [eS, eA] at gP
  have gS := (f219 _ (by omega)).trans ((f218 _ (by omega)).trans ((f217 _ (by omega)).trans ((f216 _ (by omega) ).trans ((f215 _ (by omega)).trans ((f214 _ (by omega)).trans (g213))))))
  rw [eS, e1, e3, e5] at gS
  have I9 := I1.keep (h' := h219) (fun q hq => (f219 _ (by omega)).trans ((f218 _ (by omega)).trans ((f217 _ (by omega)))))
  rw [eS, eA] at I9
  have g900 := (f219 _ (by omega)).trans ((f218 _ (by omega)).trans ((f217 _ (by omega)).trans ((f216 _ (by omega) ).trans ((f215 _ (by omega)).trans ((f214 _ (by omega)).trans (l0))))))
  rw [show h212.2 + 0 = h.2 + 1 from by omega, show h212.2 + 1 = h.2 + 2 from by omega] at g900
  have k900 := (f219 _ (by omega)).trans ((f218 _ (by omega)).trans ((f217 _ (by omega)).trans ((f216 _ (by omega) ).trans ((f215 _ (by omega)).trans ((f214 _ (by omega)).trans (l1))))))
  rw [show h212.2 + 1 = h.2 + 2 from by omega] at k900
  have g902 := (f219 _ (by omega)).trans ((f218 _ (by omega)).trans ((f217 _ (by omega)).trans ((f216 _ (by omega) ).trans ((f215 _ (by omega)).trans ((f214 _ (by omega)).trans (l2))))))
  rw [show h212.2 + 2 = h.2 + 3 from by omega, show h212.2 + 3 = h.2 + 4 from by omega] at g902
  have k902 := (f219 _ (by omega)).trans ((f218 _ (by omega)).trans ((f217 _ (by omega)).trans ((f216 _ (by omega) ).trans ((f215 _ (by omega)).trans ((f214 _ (by omega)).trans (l3))))))
  rw [show h212.2 + 3 = h.2 + 4 from by omega] at k902
  have g904 := (f219 _ (by omega)).trans ((f218 _ (by omega)).trans ((f217 _ (by omega)).trans ((f216 _ (by omega) ).trans ((f215 _ (by omega)).trans ((f214 _ (by omega)).trans (l4))))))
  rw [show h212.2 + 4 = h.2 + 5 from by omega, show h212.2 + 5 = h.2 + 6 from by omega] at g904
  have k904 := (f219 _ (by omega)).trans ((f218 _ (by omega)).trans ((f217 _ (by omega)).trans ((f216 _ (by omega) ).trans ((f215 _ (by omega)).trans ((f214 _ (by omega)).trans (l5))))))
  rw [show h212.2 + 5 = h.2 + 6 from by omega] at k904
  have r9 := (f219 _ (by omega)).trans ((f218 _ (by omega)).trans ((f217 _ (by omega)).trans (I2)))
  rw [eA] at r9
  have m9 := (f219 _ (by omega)).trans ((f218 _ (by omega)).trans ((f217 _ (by omega)).trans (I3)))
  rw [eA] at m9
  have a9 := (f219 _ (by omega)).trans ((f218 _ (by omega)).trans ((f217 _ (by omega)).trans (I4)))
  rw [eA] at a9
  exact ax_vretP (pc := 46) G E rfl dX11_init_46 ⟨_, rfl, rfl, gP, gS, g900, k900, g902, k902, g904, k904, I9, r9, m9, a9, fun q a1 a2 => (f219 _ (by omega)).trans ((f218 _ (by omega)).trans ((f217 _ (by omega)).trans ((f216 _ (by omega) ).trans ((f215 _ (by omega)).trans ((f214 _ (by omega)).trans ((f213 _ (by omega) (by omega)).trans ((f212 _ (by omega)).trans ((f211 _ (by omega)))))))))), by omega, w219⟩

