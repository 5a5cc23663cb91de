/-! THE COMPONENT: constructors -/
theorem ct_init_X4 {Ω : ax_O} (hA : ax_Amb Ω) {h : ax_H} {a : Nat} : ax_Met Ω yX4_init 1 0 0 [.ref a] h (.inl none) h := by
  refine ax_met q181 q116 (by decide +kernel) (by decide) hA (Nat.le_of_ble_eq_true rfl) (fun Γ G E => ?_)
  show ax_W Ω Γ 0 0 h 0 [some (.ref a)] []
  refine ax_aload_n (pc := 0) G dX4_init_0 rfl rfl ?_
  refine ax_objInit (pc := 1) G (by decide) q182 q166 q167 dX4_init_1 (Nat.le_of_ble_eq_true rfl) ?_
  exact ax_vretE (pc := 4) G E rfl dX4_init_4 (rfl)

theorem ct_init_X5 {Ω : ax_O} (hA : ax_Amb Ω) {h : ax_H} {a : Nat} : ax_Met Ω yX5_init 1 0 0 [.ref a] h (.inl none) h := by
  refine ax_met q189 q117 (by decide +kernel) (by decide) hA (Nat.le_of_ble_eq_true rfl) (fun Γ G E => ?_)
  show ax_W Ω Γ 0 0 h 0 [some (.ref a)] []
  refine ax_aload_n (pc := 0) G dX5_init_0 rfl rfl ?_
  refine ax_objInit (pc := 1) G (by decide) q190 q166 q167 dX5_init_1 (Nat.le_of_ble_eq_true rfl) ?_
  exact ax_vretE (pc := 4) G E rfl dX5_init_4 (rfl)

theorem ct_init_X6 {Ω : ax_O} (hA : ax_Amb Ω) {h : ax_H} {a : Nat} : ax_Met Ω yX6_init 1 0 0 [.ref a] h (.inl none) h := by
  refine ax_met q196 q118 (by decide +kernel) (by decide) hA (Nat.le_of_ble_eq_true rfl) (fun Γ G E => ?_)
  show ax_W Ω Γ 0 0 h 0 [some (.ref a)] []
  refine ax_aload_n (pc := 0) G dX6_init_0 rfl rfl ?_
  refine ax_objInit (pc := 1) G (by decide) q197 q166 q167 dX6_init_1 (Nat.le_of_ble_eq_true rfl) ?_
  exact ax_vretE (pc := 4) G E rfl dX6_init_4 (rfl)

theorem ct_init_X7 {Ω : ax_O} (hA : ax_Amb Ω) {h : ax_H} {a : Nat} : ax_Met Ω yX7_init 1 0 0 [.ref a] h (.inl none) h := by
  refine ax_met q203 q119 (by decide +kernel) (by decide) hA (Nat.le_of_ble_eq_true rfl) (fun Γ G E => ?_)
  show ax_W Ω Γ 0 0 h 0 [some (.ref a)] []
  refine ax_aload_n (pc := 0) G dX7_init_0 rfl rfl ?_
  refine ax_objInit (pc := 1) G (by decide) q204 q166 q167 dX7_init_1 (Nat.le_of_ble_eq_true rfl) ?_
  exact ax_vretE (pc := 4) G E rfl dX7_init_4 (rfl)

theorem ct_init_X8 {Ω : ax_O} (hA : ax_Amb Ω) {h : ax_H} {a : Nat} : ax_Met Ω yX8_init 1 0 0 [.ref a] h (.inl none) h := by
  refine ax_met q555 q139 (by decide +kernel) (by decide) hA (Nat.le_of_ble_eq_true rfl) (fun Γ G E => ?_)
  show ax_W Ω Γ 0 0 h 0 [some (.ref a)] []
  refine ax_aload_n (pc := 0) G dX8_init_0 rfl rfl ?_
  refine ax_objInit (pc := 1) G (by decide) q556 q166 q167 dX8_init_1 (Nat.le_of_ble_eq_true rfl) ?_
  exact ax_vretE (pc := 4) G E rfl dX8_init_4 (rfl)

theorem ct_oinit {Ω : ax_O} (hA : ax_Amb Ω) {h : ax_H} (wf : ax_wf h) (hz : Ω.2.1.heap.size ≤ h.2) {a : Nat} {x1 x2 : Int32} (hO : h.1 a = some (.inr (15, [.int (nI 0), .int (nI 0)]))) (hbO : Ω.2.1.heap.size ≤ a)  : ax_MetP Ω yX18_init 1 0 0 [.ref a, .int x1, .int x2] h (ax_Nm (fun v h' => v = none ∧ h'.1 a = some (.inr (15, [.int x1, .int x2])) ∧ (∀ q, q ≠ a → h'.1 q = h.1 q) ∧ h'.2 = h.2 ∧ ax_wf h')) := by
  refine ax_metP q1374 q153 (by decide +kernel) (by decide) hA (Nat.le_of_ble_eq_true rfl) (fun Γ G E => ?_)
  have hlO := wf.lt hO
  show ax_W Ω Γ 0 0 h 0 [some (.ref a), some (.int x1), some (.int x2)] []
  refine ax_aload_n (pc := 0) G dX18_init_0 rfl rfl ?_
  refine ax_objInit (pc := 1) G (by decide) q1375 q166 q167 dX18_init_1 (Nat.le_of_ble_eq_true rfl) ?_
  refine ax_aload_n (pc := 4) G dX18_init_4 rfl rfl ?_
  refine ax_iload_n (pc := 5) G dX18_init_5 rfl rfl ?_
  refine ax_putfF (pc := 6) G flFX18_7_15 rfl dX18_init_6 (hO) (by omega) (Nat.le_of_ble_eq_true rfl) rfl rfl ?_
  refine ax_hvS wf (by omega) (fun h83 g83 f83 z83 w83 => ?_)
  replace g83 : h83.1 a = some (.inr (15, [.int x1, .int (nI 0)])) := g83
  refine ax_aload_n (pc := 9) G dX18_init_9 rfl rfl ?_
  refine ax_iload_n (pc := 10) G dX18_init_10 rfl rfl ?_
  refine ax_putfF (pc := 11) G flFX18_13_15 rfl dX18_init_11 (g83) (by omega) (Nat.le_of_ble_eq_true rfl) rfl rfl ?_
  refine ax_hvS w83 (by omega) (fun h84 g84 f84 z84 w84 => ?_)
  replace g84 : h84.1 a = some (.inr (15, [.int x1, .int x2])) := g84
  exact ax_vretP (pc := 14) G E rfl dX18_init_14 (⟨_, rfl, rfl, g84, fun q a1 => (f84 _ (by omega)).trans ((f83 _ (by omega))), by omega, w84⟩)

theorem ct_pinit {Ω : ax_O} (hA : ax_Amb Ω) {h : ax_H} (wf : ax_wf h) (hz : Ω.2.1.heap.size ≤ h.2) {a : Nat} {p : Nat} {x1 : Int32} (hO : h.1 a = some (.inr (12, [.null, .int (nI 0)]))) (hbO : Ω.2.1.heap.size ≤ a)  : ax_MetP Ω yX14_init 1 0 0 [.ref a, .ref p, .int x1] h (ax_Nm (fun v h' => v = none ∧ h'.1 a = some (.inr (12, [.ref p, .int x1])) ∧ (∀ q, q ≠ a → h'.1 q = h.1 q) ∧ h'.2 = h.2 ∧ ax_wf h')) := by
  refine ax_metP q1223 q149 (by decide +kernel) (by decide) hA (Nat.le_of_ble_eq_true rfl) (fun Γ G E => ?_)
  have hlO := wf.lt hO
  show ax_W Ω Γ 0 0 h 0 [some (.ref a), some (.ref p), some (.int x1)] []
  refine ax_aload_n (pc := 0) G dX14_init_0 rfl rfl ?_
  refine ax_objInit (pc := 1) G (by decide) q1224 q166 q167 dX14_init_1 (Nat.le_of_ble_eq_true rfl) ?_
  refine ax_aload_n (pc := 4) G dX14_init_4 rfl rfl ?_
  refine ax_aload_n (pc := 5) G dX14_init_5 rfl rfl ?_
  refine ax_putfF (pc := 6) G flFX14_7_12 rfl dX14_init_6 (hO) (by omega) (Nat.le_of_ble_eq_true rfl) rfl rfl ?_
  refine ax_hvS wf (by omega) (fun h85 g85 f85 z85 w85 => ?_)
  replace g85 : h85.1 a = some (.inr (12, [.ref p, .int (nI 0)])) := g85
  refine ax_aload_n (pc := 9) G dX14_init_9 rfl rfl ?_
  refine ax_iload_n (pc := 10) G dX14_init_10 rfl rfl ?_
  refine ax_putfF (pc := 11) G flFX14_13_12 rfl dX14_init_11 (g85) (by omega) (Nat.le_of_ble_eq_true rfl) rfl rfl ?_
  refine ax_hvS w85 (by omega) (fun h86 g86 f86 z86 w86 => ?_)
  replace g86 : h86.1 a = some (.inr (12, [.ref p, .int x1])) := g86
  exact ax_vretP (pc := 14) G E rfl dX14_init_14 (⟨_, rfl, rfl, g86, fun q a1 => (f86 _ (by omega)).trans ((f85 _ (by omega))), by omega, w86⟩)

theorem ct_tinit_13 {Ω : ax_O} (hA : ax_Amb Ω) {h : ax_H} (wf : ax_wf h) (hz : Ω.2.1.heap.size ≤ h.2) {a : Nat} {x1 x2 x3 x4 x5 : Int32} (hO : h.1 a = some (.inr (13, [.int (nI 0), .int (nI 0), .int (nI 0), .int (nI 0), .int (nI 0), .int (nI 0), .int (nI 0), .int (nI 0)]))) (hbO : Ω.2.1.heap.size ≤ a)  : ax_MetP Ω yX15_init 1 0 0 [.ref a, .int x1, .int x2, .int x3, .int x4, .int x5] h (ax_Nm (fun v h' => v = none ∧ h'.1 a = some (.inr (13, [.int x1, .int x2, .int x3, .int x4, .int x5, .int (nI 0), .int (nI 0), .int (nI 0)])) ∧ (∀ q, q ≠ a → h'.1 q = h.1 q) ∧ h'.2 = h.2 ∧ ax_wf h')) := by
  refine ax_metP q1317 q150 (by decide +kernel) (by decide) hA (Nat.le_of_ble_eq_true rfl) (fun Γ G E => ?_)
  have hlO := wf.lt hO
  show ax_W Ω Γ 0 0 h 0 [some (.ref a), some (.int x1), some (.int x2), some (.int x3), some (.int x4), some (.int x5)] []
  refine ax_aload_n (pc := 0) G dX15_init_0 rfl rfl ?_
  refine ax_objInit (pc := 1) G (by decide) q1318 q166 q167 dX15_init_1 (Nat.le_of_ble_eq_true rfl) ?_
  refine ax_aload_n (pc := 4) G dX15_init_4 rfl rfl ?_
  refine ax_iload_n (pc := 5) G dX15_init_5 rfl rfl ?_
  refine ax_putfF (pc := 6) G flFX15_7_13 rfl dX15_init_6 (hO) (by omega) (Nat.le_of_ble_eq_true rfl) rfl rfl ?_
  refine ax_hvS wf (by omega) (fun h87 g87 f87 z87 w87 => ?_)
  replace g87 : h87.1 a = some (.inr (13, [.int x1, .int (nI 0), .int (nI 0), .int (nI 0), .int (nI 0), .int (nI 0), .int (nI 0), .int (nI 0)])) := g87
  refine ax_aload_n (pc := 9) G dX15_init_9 rfl rfl ?_
  refine ax_iload_n (pc := 10) G dX15_init_10 rfl rfl ?_
  refine ax_putfF (pc := 11) G flFX15_13_13 rfl dX15_init_11 (g87) (by omega) (Nat.le_of_ble_eq_true rfl) rfl rfl ?_
  refine ax_hvS w87 (by omega) (fun h88 g88 f88 z88 w88 => ?_)
  replace g88 : h88.1 a = some (.inr (13, [.int x1, .int x2, .int (nI 0), .int (nI 0), .int (nI 0), .int (nI 0), .int (nI 0), .int (nI 0)])) := g88
  refine ax_aload_n (pc := 14) G dX15_init_14 rfl rfl ?_
  refine ax_iload_n (pc := 15) G dX15_init_15 rfl rfl ?_
  refine ax_putfF (pc := 16) G flFX15_16_13 rfl dX15_init_16 (g88) (by omega) (Nat.le_of_ble_eq_true rfl) rfl rfl ?_
  refine ax_hvS w88 (by omega) (fun h89 g89 f89 z89 w89 => ?_)
  replace g89 : h89.1 a = some (.inr (13, [.int x1, .int x2, .int x3, .int (nI 0), .int (nI 0), .int (nI 0), .int (nI 0), .int (nI 0)])) := g89
  refine ax_aload_n (pc := 19) G dX15_init_19 rfl rfl ?_
  refine ax_iload (pc := 20) G dX15_init_20 rfl ?_
  refine ax_putfF (pc := 22) G flFX15_19_13 rfl dX15_init_22 (g89) (by omega) (Nat.le_of_ble_eq_true rfl) rfl rfl ?_
  refine ax_hvS w89 (by omega) (fun h90 g90 f90 z90 w90 => ?_)
  replace g90 : h90.1 a = some (.inr (13, [.int x1, .int x2, .int x3, .int x4, .int (nI 0), .int (nI 0), .int (nI 0), .int (nI 0)])) := g90
  refine ax_aload_n (pc := 25) G dX15_init_25 rfl rfl ?_
  refine ax_iload (pc := 26) G dX15_init_26 rfl ?_
  refine ax_putfF (pc := 28) G flFX15_22_13 rfl dX15_init_28 (g90) (by omega) (Nat.le_of_ble_eq_true rfl) rfl rfl ?_
  refine ax_hvS w90 (by omega) (fun h91 g91 f91 z91 w91 => ?_)
  replace g91 : h91.1 a = some (.inr (13, [.int x1, .int x2, .int x3, .int x4, .int x5, .int (nI 0), .int (nI 0), .int (nI 0)])) := g91
  exact ax_vretP (pc := 31) G E rfl dX15_init_31 (⟨_, rfl, rfl, g91, fun q a1 => (f91 _ (by omega)).trans ((f90 _ (by omega)).trans ((f89 _ (by omega)).trans ((f88 _ (by omega)).trans ((f87 _ (by omega)))))), by omega, w91⟩)

theorem ct_vinit {Ω : ax_O} (hA : ax_Amb Ω) {h : ax_H} (wf : ax_wf h) (hz : Ω.2.1.heap.size ≤ h.2) {a : Nat} {x1 x2 x3 x4 x5 x6 x7 x8 : Int32} (hO : h.1 a = some (.inr (13, [.int (nI 0), .int (nI 0), .int (nI 0), .int (nI 0), .int (nI 0), .int (nI 0), .int (nI 0), .int (nI 0)]))) (hbO : Ω.2.1.heap.size ≤ a)  : ax_MetP Ω yX16_init 2 0 0 [.ref a, .int x1, .int x2, .int x3, .int x4, .int x5, .int x6, .int x7, .int x8] h (ax_Nm (fun v h' => v = none ∧ h'.1 a = some (.inr (13, [.int x1, .int x2, .int x3, .int x4, .int x6, .int x5, .int x7, .int x8])) ∧ (∀ q, q ≠ a → h'.1 q = h.1 q) ∧ h'.2 = h.2 ∧ ax_wf h')) := by
  refine ax_metP q1314 q151 (by decide +kernel) (by decide) hA (Nat.le_of_ble_eq_true rfl) (fun Γ G E => ?_)
  have hlO := wf.lt hO
  show ax_W Ω Γ 0 0 h 0 [some (.ref a), some (.int x1), some (.int x2), some (.int x3), some (.int x4), some (.int x5), some (.int x6), some (.int x7), some (.int x8)] []
  refine ax_aload_n (pc := 0) G dX16_init_0 rfl rfl ?_
  refine ax_iload_n (pc := 1) G dX16_init_1 rfl rfl ?_
  refine ax_iload_n (pc := 2) G dX16_init_2 rfl rfl ?_
  refine ax_iload_n (pc := 3) G dX16_init_3 rfl rfl ?_
  refine ax_iload (pc := 4) G dX16_init_4 rfl ?_
  refine ax_iload (pc := 6) G dX16_init_6 rfl ?_
  refine ax_nI (pc := 8) (kb := 0) (nb := 0) G (ct_tinit_13 hA wf (by omega) (hO) (by omega)) lIX16_1 dX16_init_8 rfl (by decide) (Nat.le_of_ble_eq_true rfl) rfl (fun v92 h92 q9 => ?_)
  obtain ⟨rfl, g92, f92, z92, w92⟩ := q9
  show ax_W Ω Γ _ _ (h92) _ _ (_)
  refine ax_aload_n (pc := 11) G dX16_init_11 rfl rfl ?_
  refine ax_iload (pc := 12) G dX16_init_12 rfl ?_
  refine ax_putfF (pc := 14) G flFX16_7_13 rfl dX16_init_14 (g92) (by omega) (Nat.le_of_ble_eq_true rfl) rfl rfl ?_
  refine ax_hvS w92 (by omega) (fun h93 g93 f93 z93 w93 => ?_)
  replace g93 : h93.1 a = some (.inr (13, [.int x1, .int x2, .int x3, .int x4, .int x6, .int x5, .int (nI 0), .int (nI 0)])) := g93
  refine ax_aload_n (pc := 17) G dX16_init_17 rfl rfl ?_
  refine ax_iload (pc := 18) G dX16_init_18 rfl ?_
  refine ax_putfF (pc := 20) G flFX16_13_13 rfl dX16_init_20 (g93) (by omega) (Nat.le_of_ble_eq_true rfl) rfl rfl ?_
  refine ax_hvS w93 (by omega) (fun h94 g94 f94 z94 w94 => ?_)
  replace g94 : h94.1 a = some (.inr (13, [.int x1, .int x2, .int x3, .int x4, .int x6, .int x5, .int x7, .int (nI 0)])) := g94
  refine ax_aload_n (pc := 23) G dX16_init_23 rfl rfl ?_
  refine ax_iload (pc := 24) G dX16_init_24 rfl ?_
  refine ax_putfF (pc := 26) G flFX16_16_13 rfl dX16_init_26 (g94) (by omega) (Nat.le_of_ble_eq_true rfl) rfl rfl ?_
  refine ax_hvS w94 (by omega) (fun h95 g95 f95 z95 w95 => ?_)
  replace g95 : h95.1 a = some (.inr (13, [.int x1, .int x2, .int x3, .int x4, .int x6, .int x5, .int x7, .int x8])) := g95
  exact ax_vretP (pc := 29) G E rfl dX16_init_29 (⟨_, rfl, rfl, g95, fun q a1 => (f95 _ (by omega)).trans ((f94 _ (by omega)).trans ((f93 _ (by omega)).trans ((f92 _ (by omega))))), by omega, w95⟩)

theorem ct_tinit_14 {Ω : ax_O} (hA : ax_Amb Ω) {h : ax_H} (wf : ax_wf h) (hz : Ω.2.1.heap.size ≤ h.2) {a : Nat} {x1 x2 x3 x4 x5 : Int32} (hO : h.1 a = some (.inr (14, [.int (nI 0), .int (nI 0), .int (nI 0), .int (nI 0), .int (nI 0), .int (nI 0), .int (nI 0)]))) (hbO : Ω.2.1.heap.size ≤ a)  : ax_MetP Ω yX15_init 1 0 0 [.ref a, .int x1, .int x2, .int x3, .int x4, .int x5] h (ax_Nm (fun v h' => v = none ∧ h'.1 a = some (.inr (14, [.int x1, .int x2, .int x3, .int x4, .int x5, .int (nI 0), .int (nI 0)])) ∧ (∀ q, q ≠ a → h'.1 q = h.1 q) ∧ h'.2 = h.2 ∧ ax_wf h')) := by
  refine ax_metP q1317 q150 (by decide +kernel) (by decide) hA (Nat.le_of_ble_eq_true rfl) (fun Γ G E => ?_)
  have hlO := wf.lt hO
  show ax_W Ω Γ 0 0 h 0 [some (.ref a), some (.int x1), some (.int x2), some (.int x3), some (.int x4), some (.int x5)] []
  refine ax_aload_n (pc := 0) G dX15_init_0 rfl rfl ?_
  refine ax_objInit (pc := 1) G (by decide) q1318 q166 q167 dX15_init_1 (Nat.le_of_ble_eq_true rfl) ?_
  refine ax_aload_n (pc := 4) G dX15_init_4 rfl rfl ?_
  refine ax_iload_n (pc := 5) G dX15_init_5 rfl rfl ?_
  refine ax_putfF (pc := 6) G flFX15_7_14 rfl dX15_init_6 (hO) (by omega) (Nat.le_of_ble_eq_true rfl) rfl rfl ?_
  refine ax_hvS wf (by omega) (fun h96 g96 f96 z96 w96 => ?_)
  replace g96 : h96.1 a = some (.inr (14, [.int x1, .int (nI 0), .int (nI 0), .int (nI 0), .int (nI 0), .int (nI 0), .int (nI 0)])) := g96
  refine ax_aload_n (pc := 9) G dX15_init_9 rfl rfl ?_
  refine ax_iload_n (pc := 10) G dX15_init_10 rfl rfl ?_
  refine ax_putfF (pc := 11) G flFX15_13_14 rfl dX15_init_11 (g96) (by omega) (Nat.le_of_ble_eq_true rfl) rfl rfl ?_
  refine ax_hvS w96 (by omega) (fun h97 g97 f97 z97 w97 => ?_)
  replace g97 : h97.1 a = some (.inr (14, [.int x1, .int x2, .int (nI 0), .int (nI 0), .int (nI 0), .int (nI 0), .int (nI 0)])) := g97
  refine ax_aload_n (pc := 14) G dX15_init_14 rfl rfl ?_
  refine ax_iload_n (pc := 15) G dX15_init_15 rfl rfl ?_
  refine ax_putfF (pc := 16) G flFX15_16_14 rfl dX15_init_16 (g97) (by omega) (Nat.le_of_ble_eq_true rfl) rfl rfl ?_
  refine ax_hvS w97 (by omega) (fun h98 g98 f98 z98 w98 => ?_)
  replace g98 : h98.1 a = some (.inr (14, [.int x1, .int x2, .int x3, .int (nI 0), .int (nI 0), .int (nI 0), .int (nI 0)])) := g98
  refine ax_aload_n (pc := 19) G dX15_init_19 rfl rfl ?_
  refine ax_iload (pc := 20) G dX15_init_20 rfl ?_
  refine ax_putfF (pc := 22) G flFX15_19_14 rfl dX15_init_22 (g98) (by omega) (Nat.le_of_ble_eq_true rfl) rfl rfl ?_
  refine ax_hvS w98 (by omega) (fun h99 g99 f99 z99 w99 => ?_)
  replace g99 : h99.1 a = some (.inr (14, [.int x1, .int x2, .int x3, .int x4, .int (nI 0), .int (nI 0), .int (nI 0)])) := g99
  refine ax_aload_n (pc := 25) G dX15_init_25 rfl rfl ?_
  refine ax_iload (pc := 26) G dX15_init_26 rfl ?_
  refine ax_putfF (pc := 28) G flFX15_22_14 rfl dX15_init_28 (g99) (by omega) (Nat.le_of_ble_eq_true rfl) rfl rfl ?_
  refine ax_hvS w99 (by omega) (fun h100 g100 f100 z100 w100 => ?_)
  replace g100 : h100.1 a = some (.inr (14, [.int x1, .int x2, .int x3, .int x4, .int x5, .int (nI 0), .int (nI 0)])) := g100
  exact ax_vretP (pc := 31) G E rfl dX15_init_31 (⟨_, rfl, rfl, g100, fun q a1 => (f100 _ (by omega)).trans ((f99 _ (by omega)).trans ((f98 _ (by omega)).trans ((f97 _ (by omega)).trans ((f96 _ (by omega)))))), by omega, w100⟩)

theorem ct_ainit {Ω : ax_O} (hA : ax_Amb Ω) {h : ax_H} (wf : ax_wf h) (hz : Ω.2.1.heap.size ≤ h.2) {a : Nat} {x1 x2 x3 x4 x5 x6 x7 : Int32} (hO : h.1 a = some (.inr (14, [.int (nI 0), .int (nI 0), .int (nI 0), .int (nI 0), .int (nI 0), .int (nI 0), .int (nI 0)]))) (hbO : Ω.2.1.heap.size ≤ a)  : ax_MetP Ω yX17_init 2 0 0 [.ref a, .int x1, .int x2, .int x3, .int x4, .int x5, .int x6, .int x7] h (ax_Nm (fun v h' => v = none ∧ h'.1 a = some (.inr (14, [.int x1, .int x3, .int x4, .int x5, .int x6, .int x2, .int x7])) ∧ (∀ q, q ≠ a → h'.1 q = h.1 q) ∧ h'.2 = h.2 ∧ ax_wf h')) := by
  refine ax_metP q1353 q152 (by decide +kernel) (by decide) hA (Nat.le_of_ble_eq_true rfl) (fun Γ G E => ?_)
  have hlO := wf.lt hO
  show ax_W Ω Γ 0 0 h 0 [some (.ref a), some (.int x1), some (.int x2), some (.int x3), some (.int x4), some (.int x5), some (.int x6), some (.int x7)] []
  refine ax_aload_n (pc := 0) G dX17_init_0 rfl rfl ?_
  refine ax_iload_n (pc := 1) G dX17_init_1 rfl rfl ?_
  refine ax_iload_n (pc := 2) G dX17_init_2 rfl rfl ?_
  refine ax_iload (pc := 3) G dX17_init_3 rfl ?_
  refine ax_iload (pc := 5) G dX17_init_5 rfl ?_
  refine ax_iload (pc := 7) G dX17_init_7 rfl ?_
  refine ax_nI (pc := 9) (kb := 0) (nb := 0) G (ct_tinit_14 hA wf (by omega) (hO) (by omega)) lIX17_1 dX17_init_9 rfl (by decide) (Nat.le_of_ble_eq_true rfl) rfl (fun v101 h101 q9 => ?_)
  obtain ⟨rfl, g101, f101, z101, w101⟩ := q9
  show ax_W Ω Γ _ _ (h101) _ _ (_)
  refine ax_aload_n (pc := 12) G dX17_init_12 rfl rfl ?_
  refine ax_iload_n (pc := 13) G dX17_init_13 rfl rfl ?_
  refine ax_putfF (pc := 14) G flFX17_7_14 rfl dX17_init_14 (g101) (by omega) (Nat.le_of_ble_eq_true rfl) rfl rfl ?_
  refine ax_hvS w101 (by omega) (fun h102 g102 f102 z102 w102 => ?_)
  replace g102 : h102.1 a = some (.inr (14, [.int x1, .int x3, .int x4, .int x5, .int x6, .int x2, .int (nI 0)])) := g102
  refine ax_aload_n (pc := 17) G dX17_init_17 rfl rfl ?_
  refine ax_iload (pc := 18) G dX17_init_18 rfl ?_
  refine ax_putfF (pc := 20) G flFX17_13_14 rfl dX17_init_20 (g102) (by omega) (Nat.le_of_ble_eq_true rfl) rfl rfl ?_
  refine ax_hvS w102 (by omega) (fun h103 g103 f103 z103 w103 => ?_)
  replace g103 : h103.1 a = some (.inr (14, [.int x1, .int x3, .int x4, .int x5, .int x6, .int x2, .int x7])) := g103
  exact ax_vretP (pc := 23) G E rfl dX17_init_23 (⟨_, rfl, rfl, g103, fun q a1 => (f103 _ (by omega)).trans ((f102 _ (by omega)).trans ((f101 _ (by omega)))), by omega, w103⟩)

theorem ct_rof_0 {Ω : ax_O} (hA : ax_Amb Ω) {h : ax_H} (wf : ax_wf h) (hz : Ω.2.1.heap.size ≤ h.2)  : ax_MetP Ω yX3_of 2 1 0 [.int (nI 0)] h (ax_Nm (fun v h' => v = some (.ref h.2) ∧ h'.1 h.2 = some (.inr (2, [])) ∧ (∀ q, q < h.2 → h'.1 q = h.1 q) ∧ h'.2 = h.2 + 1 ∧ ax_wf h')) := by
  refine ax_metP q176 q115 (by decide +kernel) (by decide) hA (Nat.le_of_ble_eq_true rfl) (fun Γ G E => ?_)
  show ax_W Ω Γ 1 0 h 0 [some (.int (nI 0))] []
  refine ax_iload_n (pc := 0) G dX3_of_0 rfl rfl ?_
  refine ax_tabIn (pc := 1) (tgt := 28) G dX3_of_1 (by decide) (by decide) (by decide) rfl rfl ?_
  refine ax_new (pc := 28) (ci := 2) (kb := 0) (nb := 0) G [] dX3_of_28 rfl cok_X4 rfl q177 q178 q116 (fun j hj => by exact absurd hj (Nat.not_lt_zero j)) ?_
  refine ax_hvA wf (fun h104 g104 f104 z104 w104 => ?_)
  refine ax_dup (pc := 31) G dX3_of_31 rfl ?_
  refine ax_cIN0 (pc := 32) (kb := 0) (nb := 0) G (ct_init_X4 hA) lIX3_26 dX3_of_32 rfl (by decide) (Nat.le_of_ble_eq_true rfl) rfl ?_
  refine ax_goto (pc := 35) (tgt := 65) G dX3_of_35 rfl ?_
  exact ax_aretP (pc := 65) G E rfl (Or.inl ⟨_, rfl⟩) (Or.inr ⟨_, rfl⟩) dX3_of_65 (⟨_, rfl, rfl, g104, fun q a1 => (f104 _ (by omega)), by omega, w104⟩)

theorem ct_rof_1 {Ω : ax_O} (hA : ax_Amb Ω) {h : ax_H} (wf : ax_wf h) (hz : Ω.2.1.heap.size ≤ h.2)  : ax_MetP Ω yX3_of 2 1 0 [.int (nI 1)] h (ax_Nm (fun v h' => v = some (.ref h.2) ∧ h'.1 h.2 = some (.inr (3, [])) ∧ (∀ q, q < h.2 → h'.1 q = h.1 q) ∧ h'.2 = h.2 + 1 ∧ ax_wf h')) := by
  refine ax_metP q176 q115 (by decide +kernel) (by decide) hA (Nat.le_of_ble_eq_true rfl) (fun Γ G E => ?_)
  show ax_W Ω Γ 1 0 h 0 [some (.int (nI 1))] []
  refine ax_iload_n (pc := 0) G dX3_of_0 rfl rfl ?_
  refine ax_tabIn (pc := 1) (tgt := 38) G dX3_of_1 (by decide) (by decide) (by decide) rfl rfl ?_
  refine ax_new (pc := 38) (ci := 3) (kb := 0) (nb := 0) G [] dX3_of_38 rfl cok_X5 rfl q185 q186 q117 (fun j hj => by exact absurd hj (Nat.not_lt_zero j)) ?_
  refine ax_hvA wf (fun h105 g105 f105 z105 w105 => ?_)
  refine ax_dup (pc := 41) G dX3_of_41 rfl ?_
  refine ax_cIN0 (pc := 42) (kb := 0) (nb := 0) G (ct_init_X5 hA) lIX3_32 dX3_of_42 rfl (by decide) (Nat.le_of_ble_eq_true rfl) rfl ?_
  refine ax_goto (pc := 45) (tgt := 65) G dX3_of_45 rfl ?_
  exact ax_aretP (pc := 65) G E rfl (Or.inl ⟨_, rfl⟩) (Or.inr ⟨_, rfl⟩) dX3_of_65 (⟨_, rfl, rfl, g105, fun q a1 => (f105 _ (by omega)), by omega, w105⟩)

theorem ct_rof_2 {Ω : ax_O} (hA : ax_Amb Ω) {h : ax_H} (wf : ax_wf h) (hz : Ω.2.1.heap.size ≤ h.2)  : ax_MetP Ω yX3_of 2 1 0 [.int (nI 2)] h (ax_Nm (fun v h' => v = some (.ref h.2) ∧ h'.1 h.2 = some (.inr (4, [])) ∧ (∀ q, q < h.2 → h'.1 q = h.1 q) ∧ h'.2 = h.2 + 1 ∧ ax_wf h')) := by
  refine ax_metP q176 q115 (by decide +kernel) (by decide) hA (Nat.le_of_ble_eq_true rfl) (fun Γ G E => ?_)
  show ax_W Ω Γ 1 0 h 0 [some (.int (nI 2))] []
  refine ax_iload_n (pc := 0) G dX3_of_0 rfl rfl ?_
  refine ax_tabIn (pc := 1) (tgt := 48) G dX3_of_1 (by decide) (by decide) (by decide) rfl rfl ?_
  refine ax_new (pc := 48) (ci := 4) (kb := 0) (nb := 0) G [] dX3_of_48 rfl cok_X6 rfl q192 q193 q118 (fun j hj => by exact absurd hj (Nat.not_lt_zero j)) ?_
  refine ax_hvA wf (fun h106 g106 f106 z106 w106 => ?_)
  refine ax_dup (pc := 51) G dX3_of_51 rfl ?_
  refine ax_cIN0 (pc := 52) (kb := 0) (nb := 0) G (ct_init_X6 hA) lIX3_35 dX3_of_52 rfl (by decide) (Nat.le_of_ble_eq_true rfl) rfl ?_
  refine ax_goto (pc := 55) (tgt := 65) G dX3_of_55 rfl ?_
  exact ax_aretP (pc := 65) G E rfl (Or.inl ⟨_, rfl⟩) (Or.inr ⟨_, rfl⟩) dX3_of_65 (⟨_, rfl, rfl, g106, fun q a1 => (f106 _ (by omega)), by omega, w106⟩)

theorem ct_rof_3 {Ω : ax_O} (hA : ax_Amb Ω) {h : ax_H} (wf : ax_wf h) (hz : Ω.2.1.heap.size ≤ h.2)  : ax_MetP Ω yX3_of 2 1 0 [.int (nI 3)] h (ax_Nm (fun v h' => v = some (.ref h.2) ∧ h'.1 h.2 = some (.inr (5, [])) ∧ (∀ q, q < h.2 → h'.1 q = h.1 q) ∧ h'.2 = h.2 + 1 ∧ ax_wf h')) := by
  refine ax_metP q176 q115 (by decide +kernel) (by decide) hA (Nat.le_of_ble_eq_true rfl) (fun Γ G E => ?_)
  show ax_W Ω Γ 1 0 h 0 [some (.int (nI 3))] []
  refine ax_iload_n (pc := 0) G dX3_of_0 rfl rfl ?_
  refine ax_tabOut (pc := 1) (tgt := 58) G dX3_of_1 (by decide) (by decide) rfl ?_
  refine ax_new (pc := 58) (ci := 5) (kb := 0) (nb := 0) G [] dX3_of_58 rfl cok_X7 rfl q199 q200 q119 (fun j hj => by exact absurd hj (Nat.not_lt_zero j)) ?_
  refine ax_hvA wf (fun h107 g107 f107 z107 w107 => ?_)
  refine ax_dup (pc := 61) G dX3_of_61 rfl ?_
  refine ax_cIN0 (pc := 62) (kb := 0) (nb := 0) G (ct_init_X7 hA) lIX3_38 dX3_of_62 rfl (by decide) (Nat.le_of_ble_eq_true rfl) rfl ?_
  exact ax_aretP (pc := 65) G E rfl (Or.inl ⟨_, rfl⟩) (Or.inr ⟨_, rfl⟩) dX3_of_65 (⟨_, rfl, rfl, g107, fun q a1 => (f107 _ (by omega)), by omega, w107⟩)

theorem ct_rof {Ω : ax_O} (hA : ax_Amb Ω) {h : ax_H} (wf : ax_wf h) (hz : Ω.2.1.heap.size ≤ h.2) (p : Nat) (hp : p < 4) : ax_MetP Ω yX3_of 2 1 0 [.int (nI p)] h (ax_Nm (fun v h' => v = some (.ref h.2) ∧ h'.1 h.2 = some (.inr (2 + p, [])) ∧ (∀ q, q < h.2 → h'.1 q = h.1 q) ∧ h'.2 = h.2 + 1 ∧ ax_wf h')) := by
  have e : p = 0 ∨ p = 1 ∨ p = 2 ∨ p = 3 := by omega
  rcases e with rfl | rfl | rfl | rfl
  · exact ct_rof_0 hA wf hz
  · exact ct_rof_1 hA wf hz
  · exact ct_rof_2 hA wf hz
  · exact ct_rof_3 hA wf hz
theorem ct_scinit {Ω : ax_O} (hA : ax_Amb Ω) {h : ax_H} (wf : ax_wf h) (hz : Ω.2.1.heap.size ≤ h.2) {a : Nat} (hO : h.1 a = some (.inr (10, [.null, .null, .null, .int (nI 0), .int (nI 0), .int (nI 0), .int (nI 0), .int (nI 0), .int (nI 0), .int (nI 0), .int (nI 0), .int (nI 0)]))) (hbO : Ω.2.1.heap.size ≤ a)  : ax_MetP Ω yX12_init 5 6 99 [.ref a] h (ax_Nm (fun v h' => v = none ∧ h'.1 a = some (.inr (10, [.ref (h.2 + 0), .ref (h.2 + 2), .ref (h.2 + 4), .int (nI 0), .int (nI 0), .int (nI 0), .int (nI 0), .int (nI 0), .int (nI 0), .int (nI 0), .int (nI 0), .int (nI 0)])) ∧ h'.1 (h.2 + 0) = some (.inr (16, [.int (nI 0), .ref (h.2 + 1), .int (nI 0)])) ∧ h'.1 (h.2 + 1) = some (.inl (.object "java/lang/Object", 4, .inr (.inr (.inr (.inr fun _ => none))))) ∧ h'.1 (h.2 + 2) = some (.inr (16, [.int (nI 0), .ref (h.2 + 3), .int (nI 0)])) ∧ h'.1 (h.2 + 3) = some (.inl (.object "java/lang/Object", 8, .inr (.inr (.inr (.inr fun _ => none))))) ∧ h'.1 (h.2 + 4) = some (.inr (16, [.int (nI 0), .ref (h.2 + 5), .int (nI 0)])) ∧ h'.1 (h.2 + 5) = some (.inl (.object "java/lang/Object", 2, .inr (.inr (.inr (.inr fun _ => none))))) ∧ (∀ q, q < h.2 → q ≠ a → h'.1 q = h.1 q) ∧ h'.2 = h.2 + 6 ∧ ax_wf h')) := by
  refine ax_metP q891 q146 (by decide +kernel) (by decide) hA (Nat.le_of_ble_eq_true rfl) (fun Γ G E => ?_)
  have hlO := wf.lt hO
  show ax_W Ω Γ 6 99 h 0 [some (.ref a)] []
  refine ax_aload_n (pc := 0) G dX12_init_0 rfl rfl ?_
  refine ax_objInit (pc := 1) G (by decide) q892 q166 q167 dX12_init_1 (Nat.le_of_ble_eq_true rfl) ?_
  refine ax_aload_n (pc := 4) G dX12_init_4 rfl rfl ?_
  refine ax_new (pc := 5) (ci := 16) (kb := 5) (nb := 96) G [.int (nI 0), .null, .int (nI 0)] dX12_init_5 rfl cok_J2 rfl q893 q207 q122 (fun j hj => by match j, hj with | 0, _ => rfl | 1, _ => rfl | 2, _ => rfl) ?_
  refine ax_hvA wf (fun h108 g108 f108 z108 w108 => ?_)
  refine ax_dup (pc := 8) G dX12_init_8 rfl ?_
  refine ax_iconst (pc := 9) (v := nI 4) G dX12_init_9 ic_4 ?_
  refine ax_nI (pc := 10) (kb := 4) (nb := 66) G (ct_linit hA w108 (by omega) (g108) (by omega) 4 (by omega) (by omega)) lIX12_11 dX12_init_10 rfl (by decide) (Nat.le_of_ble_eq_true rfl) rfl (fun v109 h109 q9 => ?_)
  obtain ⟨rfl, g109, k109, f109, z109, w109⟩ := q9
  show ax_W Ω Γ _ _ (h109) _ _ (_)
  refine ax_putfF (pc := 13) G flFX12_14_10 rfl dX12_init_13 ((f109 _ (by omega) (by omega)).trans ((f108 _ (by omega)).trans (hO))) (by omega) (Nat.le_of_ble_eq_true rfl) rfl rfl ?_
  refine ax_hvS w109 (by omega) (fun h110 g110 f110 z110 w110 => ?_)
  replace g110 : h110.1 a = some (.inr (10, [.ref h.2, .null, .null, .int (nI 0), .int (nI 0), .int (nI 0), .int (nI 0), .int (nI 0), .int (nI 0), .int (nI 0), .int (nI 0), .int (nI 0)])) := g110
  refine ax_aload_n (pc := 16) G dX12_init_16 rfl rfl ?_
  refine ax_new (pc := 17) (ci := 16) (kb := 3) (nb := 63) G [.int (nI 0), .null, .int (nI 0)] dX12_init_17 rfl cok_J2 rfl q893 q207 q122 (fun j hj => by match j, hj with | 0, _ => rfl | 1, _ => rfl | 2, _ => rfl) ?_
  refine ax_hvA w110 (fun h111 g111 f111 z111 w111 => ?_)
  refine ax_dup (pc := 20) G dX12_init_20 rfl ?_
  refine ax_bipush (pc := 21) (v := nI 8) G dX12_init_21 ib_8 ?_
  refine ax_nI (pc := 23) (kb := 2) (nb := 33) G (ct_linit hA w111 (by omega) (g111) (by omega) 8 (by omega) (by omega)) lIX12_11 dX12_init_23 rfl (by decide) (Nat.le_of_ble_eq_true rfl) rfl (fun v112 h112 q9 => ?_)
  obtain ⟨rfl, g112, k112, f112, z112, w112⟩ := q9
  show ax_W Ω Γ _ _ (h112) _ _ (_)
  refine ax_putfF (pc := 26) G flFX12_20_10 rfl dX12_init_26 ((f112 _ (by omega) (by omega)).trans ((f111 _ (by omega)).trans (g110))) (by omega) (Nat.le_of_ble_eq_true rfl) rfl rfl ?_
  refine ax_hvS w112 (by omega) (fun h113 g113 f113 z113 w113 => ?_)
  replace g113 : h113.1 a = some (.inr (10, [.ref h.2, .ref h110.2, .null, .int (nI 0), .int (nI 0), .int (nI 0), .int (nI 0), .int (nI 0), .int (nI 0), .int (nI 0), .int (nI 0), .int (nI 0)])) := g113
  refine ax_aload_n (pc := 29) G dX12_init_29 rfl rfl ?_
  refine ax_new (pc := 30) (ci := 16) (kb := 1) (nb := 30) G [.int (nI 0), .null, .int (nI 0)] dX12_init_30 rfl cok_J2 rfl q893 q207 q122 (fun j hj => by match j, hj with | 0, _ => rfl | 1, _ => rfl | 2, _ => rfl) ?_
  refine ax_hvA w113 (fun h114 g114 f114 z114 w114 => ?_)
  refine ax_dup (pc := 33) G dX12_init_33 rfl ?_
  refine ax_iconst (pc := 34) (v := nI 2) G dX12_init_34 ic_2 ?_
  refine ax_nI (pc := 35) (kb := 0) (nb := 0) G (ct_linit hA w114 (by omega) (g114) (by omega) 2 (by omega) (by omega)) lIX12_11 dX12_init_35 rfl (by decide) (Nat.le_of_ble_eq_true rfl) rfl (fun v115 h115 q9 => ?_)
  obtain ⟨rfl, g115, k115, f115, z115, w115⟩ := q9
  show ax_W Ω Γ _ _ (h115) _ _ (_)
  refine ax_putfF (pc := 38) G flFX12_23_10 rfl dX12_init_38 ((f115 _ (by omega) (by omega)).trans ((f114 _ (by omega)).trans (g113))) (by omega) (Nat.le_of_ble_eq_true rfl) rfl rfl ?_
  refine ax_hvS w115 (by omega) (fun h116 g116 f116 z116 w116 => ?_)
  replace g116 : h116.1 a = some (.inr (10, [.ref h.2, .ref h110.2, .ref h113.2, .int (nI 0), .int (nI 0), .int (nI 0), .int (nI 0), .int (nI 0), .int (nI 0), .int (nI 0), .int (nI 0), .int (nI 0)])) := g116
  exact ax_vretP (pc := 41) G E rfl dX12_init_41 (⟨_, rfl, rfl, by rw [show h.2 + 0 = h.2 from rfl, show h.2 + 2 = h110.2 from by omega, show h.2 + 4 = h113.2 from by omega]; exact g116, by rw [show h.2 + 0 = h.2 from by omega, show h.2 + 1 = h108.2 from by omega]; exact (f116 _ (by omega)).trans ((f115 _ (by omega) (by omega)).trans ((f114 _ (by omega)).trans ((f113 _ (by omega)).trans ((f112 _ (by omega) (by omega)).trans ((f111 _ (by omega)).trans ((f110 _ (by omega)).trans (g109))))))), by rw [show h.2 + 1 = h108.2 from by omega]; exact (f116 _ (by omega)).trans ((f115 _ (by omega) (by omega)).trans ((f114 _ (by omega)).trans ((f113 _ (by omega)).trans ((f112 _ (by omega) (by omega)).trans ((f111 _ (by omega)).trans ((f110 _ (by omega)).trans (k109))))))), by rw [show h.2 + 2 = h110.2 from by omega, show h.2 + 3 = h111.2 from by omega]; exact (f116 _ (by omega)).trans ((f115 _ (by omega) (by omega)).trans ((f114 _ (by omega)).trans ((f113 _ (by omega)).trans (g112)))), by rw [show h.2 + 3 = h111.2 from by omega]; exact (f116 _ (by omega)).trans ((f115 _ (by omega) (by omega)).trans ((f114 _ (by omega)).trans ((f113 _ (by omega)).trans (k112)))), by rw [show h.2 + 4 = h113.2 from by omega, show h.2 + 5 = h114.2 from by omega]; exact (f116 _ (by omega)).trans (g115), by rw [show h.2 + 5 = h114.2 from by omega]; exact (f116 _ (by omega)).trans (k115), fun q a1 a2 => (f116 _ (by omega)).trans ((f115 _ (by omega) (by omega)).trans ((f114 _ (by omega)).trans ((f113 _ (by omega)).trans ((f112 _ (by omega) (by omega)).trans ((f111 _ (by omega)).trans ((f110 _ (by omega)).trans ((f109 _ (by omega) (by omega)).trans ((f108 _ (by omega)))))))))), by omega, w116⟩)

