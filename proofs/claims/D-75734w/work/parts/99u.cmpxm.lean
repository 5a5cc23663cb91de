/-! TelescopeQueue: made -/
theorem cq_load_B {Ω : ax_O} (hA : ax_Amb Ω) {h : ax_H} {X bf tr hi sv lb : Nat} {x1 x2 x3 : Int32} {stv : Value} (hX : h.1 X = some (.inr (0, [.ref bf, .int x1, .int x2, .int x3, stv, .ref tr, .ref hi, .ref sv, .ref lb]))) (k : Int32) (hb : pIn k (nI 0) (x1 + nI 1 - nI 1) = false)  : ax_MetPW Ω yX1_load 20 3 18 [.ref X, .int k] h (fun o h' => o = .inr h.2 ∧ h' = ax_add h (.inr (22, []))) := by
  refine ax_metPW q851 q113 (by decide +kernel) (by decide) hA (Nat.le_of_ble_eq_true rfl) (fun Γ G E => ?_)
  show ax_W Ω Γ 3 18 h 0 [some (.ref X), some (.int k), none, none] []
  refine ax_iload_n (pc := 0) G dX1_load_0 rfl rfl ?_
  refine ax_aload_n (pc := 1) G dX1_load_1 rfl rfl ?_
  refine ax_getf (pc := 2) (v := .int x1) G flX1_109_0 dX1_load_2 (hX) rfl ?_
  refine ax_iconst (pc := 5) (v := nI 1) G dX1_load_5 ic_1 ?_
  refine ax_iadd (pc := 6) G dX1_load_6 ?_
  refine ax_callS (pc := 7) (kb := 2) (nb := 12) G (ct_idxN hA k (x1 + (nI 1)) (hb)) lSX1_93 dX1_load_7 rfl (by decide) (Nat.le_of_ble_eq_true rfl) rfl (fun _ e9 => by cases e9) (fun q9 e9 => ?_)
  cases e9
  exact ax_outP G E (by decide) ⟨rfl, rfl⟩

def xWi (h : ax_H) (w : Nat → Nat) (tr : Nat) : Nat → Nat := fun q => if q < h.2 then w q else if tr ≤ q ∧ q ≤ tr + 18 then tr + 10 else 2
def xLi0 (μ' : md_S) : Prop := μ'.1 2 = nI 0 ∧ μ'.1 5 = nI 0 ∧ μ'.1 6 = -1 ∧ μ'.1 18 = nI 0 ∧ μ'.1 24 = nI 0 ∧ (μ'.2 9 0 = nI 0 ∧ μ'.2 9 1 = nI 0)
theorem cj_init {Ω : ax_O} (hA : ax_Amb Ω) {h : ax_H} (wf : ax_wf h) (hz : Ω.2.1.heap.size ≤ h.2) {w : Nat → Nat} {X : Nat} (hO : h.1 X = some (.inr (0, [.null, .int (nI 0), .int (nI 0), .int (nI 0), .null, .null, .null, .null, .null]))) (hbO : Ω.2.1.heap.size ≤ X) (wX : w X = 2) {pl : pR}  : ax_MetP Ω yX1_init 6 30 2000 [.ref X] h (ax_Nm fun v h' => v = none ∧ ∃ w' bf tr hi sv lb, xFr (fun o => o = 2) h h' w w' ∧ ∀ μ', xLi0 μ' → xG Ω h' w' X bf tr hi sv lb .null 0 pl 0 0 0 μ' 0) := by
  refine ax_metP q164 q113 (by decide +kernel) (by decide) hA (Nat.le_of_ble_eq_true rfl) (fun Γ G E => ?_)
  have hlO := wf.lt hO
  show ax_W Ω Γ 30 2000 h 0 [some (.ref X)] []
  refine ax_aload_n (pc := 0) G dX1_init_0 rfl rfl ?_
  refine ax_objInit (pc := 1) G (by decide) q165 q166 q167 dX1_init_1 (Nat.le_of_ble_eq_true rfl) ?_
  refine ax_aload_n (pc := 4) G dX1_init_4 rfl rfl ?_
  refine ax_sipush (pc := 5) (v := nI 1000) G dX1_init_5 is_1000 ?_
  refine ax_newarray (pc := 8) (kb := 29) (nb := 1000) G 1000 (1000, .inl fun _ => 0) dX1_init_8 rfl q184 rfl (by omega) rfl (fun j => rfl) ?_
  refine ax_hvA wf (fun h234 g234 f234 z234 w234 => ?_)
  refine ax_putfF (pc := 10) G flFX1_24_0 rfl dX1_init_10 ((f234 _ (by omega)).trans (hO)) (by omega) (Nat.le_of_ble_eq_true rfl) rfl rfl ?_
  refine ax_hvS w234 (by omega) (fun h235 g235 f235 z235 w235 => ?_)
  replace g235 : h235.1 X = some (.inr (0, [.ref h.2, .int (nI 0), .int (nI 0), .int (nI 0), .null, .null, .null, .null, .null])) := g235
  refine ax_aload_n (pc := 13) G dX1_init_13 rfl rfl ?_
  refine ax_iconst (pc := 14) (v := (-1)) G dX1_init_14 (by decide) ?_
  refine ax_putf (pc := 15) G flX1_28_0 dX1_init_15 (g235) (by omega) (Nat.le_of_ble_eq_true rfl) rfl rfl ?_
  refine ax_hvS w235 (by omega) (fun h236 g236 f236 z236 w236 => ?_)
  replace g236 : h236.1 X = some (.inr (0, [.ref h.2, .int (nI 0), .int (nI 0), .int (-1), .null, .null, .null, .null, .null])) := g236
  refine ax_aload_n (pc := 18) G dX1_init_18 rfl rfl ?_
  refine ax_new (pc := 19) (ci := 1) (kb := 28) (nb := 974) G [.null, .null, .null, .null, .null, .null, .null, .null, .null, .null, .null, .null, .null, .null, .null, .int (nI 0), .int (nI 0), .int (nI 0), .int (nI 0), .int (nI 0), .int (nI 0), .int (nI 0), .int (nI 0), .null, .null, .null] dX1_init_19 rfl cok_X2 rfl q168 q169 q114 (fun j hj => by have hj9 : j < 26 := hj; rcases (show j = 0 ∨ j = 1 ∨ j = 2 ∨ j = 3 ∨ j = 4 ∨ j = 5 ∨ j = 6 ∨ j = 7 ∨ j = 8 ∨ j = 9 ∨ j = 10 ∨ j = 11 ∨ j = 12 ∨ j = 13 ∨ j = 14 ∨ j = 15 ∨ j = 16 ∨ j = 17 ∨ j = 18 ∨ j = 19 ∨ j = 20 ∨ j = 21 ∨ j = 22 ∨ j = 23 ∨ j = 24 ∨ j = 25 by omega) with rfl | rfl | rfl | rfl | rfl | rfl | rfl | rfl | rfl | rfl | rfl | rfl | rfl | rfl | rfl | rfl | rfl | rfl | rfl | rfl | rfl | rfl | rfl | rfl | rfl | rfl <;> rfl) ?_
  refine ax_hvA w236 (fun h237 g237 f237 z237 w237 => ?_)
  refine ax_dup (pc := 22) G dX1_init_22 rfl ?_
  refine ax_null (pc := 23) G dX1_init_23 ?_
  refine ax_nI (pc := 24) (kb := 10) (nb := 274) G (ct_stinitN hA w237 (by omega) (g237) (by omega) (by omega)) lIX1_34 dX1_init_24 rfl (by decide) (Nat.le_of_ble_eq_true rfl) rfl (fun v238 h238 q9 => ?_)
  obtain ⟨rfl, I1, I2, I3, I4, f238, z238, w238⟩ := q9
  show ax_W Ω Γ _ _ (h238) _ _ (_)
  refine ax_putfF (pc := 27) G flFX1_37_0 rfl dX1_init_27 ((f238 _ (by omega) ).trans ((f237 _ (by omega)).trans (g236))) (by omega) (Nat.le_of_ble_eq_true rfl) rfl rfl ?_
  refine ax_hvS w238 (by omega) (fun h239 g239 f239 z239 w239 => ?_)
  replace g239 : h239.1 X = some (.inr (0, [.ref h.2, .int (nI 0), .int (nI 0), .int (-1), .null, .ref h236.2, .null, .null, .null])) := g239
  refine ax_aload_n (pc := 30) G dX1_init_30 rfl rfl ?_
  refine ax_new (pc := 31) (ci := 7) (kb := 9) (nb := 273) G [.null] dX1_init_31 rfl cok_X9 rfl q706 q707 q140 (fun j hj => by match j, hj with | 0, _ => rfl) ?_
  refine ax_hvA w239 (fun h240 g240 f240 z240 w240 => ?_)
  refine ax_dup (pc := 34) G dX1_init_34 rfl ?_
  refine ax_nIN (pc := 35) (kb := 7) (nb := 253) G (ct_hinit hA w240 (by omega) (g240) (by omega)) lIX1_43 dX1_init_35 rfl (by decide) (Nat.le_of_ble_eq_true rfl) rfl (fun v241 h241 q9 => ?_)
  obtain ⟨rfl, g241, y2, y3, f241, z241, w241⟩ := q9
  show ax_W Ω Γ _ _ (h241) _ _ (_)
  refine ax_putfF (pc := 38) G flFX1_44_0 rfl dX1_init_38 ((f241 _ (by omega) (by omega)).trans ((f240 _ (by omega)).trans (g239))) (by omega) (Nat.le_of_ble_eq_true rfl) rfl rfl ?_
  refine ax_hvS w241 (by omega) (fun h242 g242 f242 z242 w242 => ?_)
  replace g242 : h242.1 X = some (.inr (0, [.ref h.2, .int (nI 0), .int (nI 0), .int (-1), .null, .ref h236.2, .ref h239.2, .null, .null])) := g242
  refine ax_aload_n (pc := 41) G dX1_init_41 rfl rfl ?_
  refine ax_iconst (pc := 42) (v := nI 2) G dX1_init_42 ic_2 ?_
  refine ax_anewarray (pc := 43) (kb := 6) (nb := 251) G 2 dX1_init_43 q168 q733 rfl (by omega) ?_
  refine ax_hvA w242 (fun h243 g243 f243 z243 w243 => ?_)
  refine ax_putfF (pc := 46) G flFX1_48_0 rfl dX1_init_46 ((f243 _ (by omega)).trans (g242)) (by omega) (Nat.le_of_ble_eq_true rfl) rfl rfl ?_
  refine ax_hvS w243 (by omega) (fun h244 g244 f244 z244 w244 => ?_)
  replace g244 : h244.1 X = some (.inr (0, [.ref h.2, .int (nI 0), .int (nI 0), .int (-1), .null, .ref h236.2, .ref h239.2, .ref h242.2, .null])) := g244
  refine ax_aload_n (pc := 49) G dX1_init_49 rfl rfl ?_
  refine ax_new (pc := 50) (ci := 18) (kb := 5) (nb := 247) G [.null, .int (nI 0), .int (nI 0), .int (nI 0)] dX1_init_50 rfl cok_J8 rfl q734 q267 q128 (fun j hj => by match j, hj with | 0, _ => rfl | 1, _ => rfl | 2, _ => rfl | 3, _ => rfl) ?_
  refine ax_hvA w244 (fun h245 g245 f245 z245 w245 => ?_)
  refine ax_dup (pc := 53) G dX1_init_53 rfl ?_
  refine ax_nI (pc := 54) (kb := 4) (nb := 231) G (ct_binit hA w245 (by omega) (g245) (by omega)) lIX1_54 dX1_init_54 rfl (by decide) (Nat.le_of_ble_eq_true rfl) rfl (fun v246 h246 q9 => ?_)
  obtain ⟨rfl, sB9, f246, z246, w246⟩ := q9
  show ax_W Ω Γ _ _ (h246) _ _ (_)
  refine ax_putfF (pc := 57) G flFX1_55_0 rfl dX1_init_57 ((f246 _ (by omega) (by omega)).trans ((f245 _ (by omega)).trans (g244))) (by omega) (Nat.le_of_ble_eq_true rfl) rfl rfl ?_
  refine ax_hvS w246 (by omega) (fun h247 g247 f247 z247 w247 => ?_)
  replace g247 : h247.1 X = some (.inr (0, [.ref h.2, .int (nI 0), .int (nI 0), .int (-1), .null, .ref h236.2, .ref h239.2, .ref h242.2, .ref h244.2])) := g247
  obtain ⟨w9', ew9⟩ : ∃ y, y = xWi h w (h236.2) := ⟨_, rfl⟩
  have e9' : ∀ q, q < h.2 → w9' q = w q := fun q hq => by rw [ew9]; exact if_pos hq
  have e8' : ∀ q, h.2 ≤ q → (q < h236.2 ∨ h236.2 + 18 < q) → w9' q = 2 := fun q h1 h2 => by rw [ew9]; unfold xWi; rw [if_neg (by omega), if_neg (by omega)]
  have e7' : ∀ q, h236.2 ≤ q → q ≤ h236.2 + 18 → w9' q = h236.2 + 10 := fun q h1 h2 => by rw [ew9]; unfold xWi; rw [if_neg (by omega), if_pos (by omega)]
  have F8 : xFr (fun o => o = 2) h h247 w w9' := ⟨fun q hl h2 => by
    have a0 : q ≠ X := fun z => h2 (by rw [z]; exact wX)
    exact (f247 _ (by omega)).trans ((f246 _ (by omega) (by omega)).trans ((f245 _ (by omega)).trans ((f244 _ (by omega)).trans ((f243 _ (by omega)).trans ((f242 _ (by omega)).trans ((f241 _ (by omega) (by omega)).trans ((f240 _ (by omega)).trans ((f239 _ (by omega)).trans ((f238 _ (by omega) ).trans ((f237 _ (by omega)).trans ((f236 _ (by omega)).trans ((f235 _ (by omega)).trans ((f234 _ (by omega))))))))))))))), e9', by omega, w247⟩
  have I9 := I1.keep (h' := h247) (fun q hq => (f247 _ (by omega)).trans ((f246 _ (by omega) (by omega)).trans ((f245 _ (by omega)).trans ((f244 _ (by omega)).trans ((f243 _ (by omega)).trans ((f242 _ (by omega)).trans ((f241 _ (by omega) (by omega)).trans ((f240 _ (by omega)).trans ((f239 _ (by omega)))))))))))
  refine ax_vretP (pc := 60) G E rfl dX1_init_60 ⟨_, rfl, rfl, w9', h.2, h236.2, h239.2, h242.2, h244.2, F8, fun μ' hm => ?_⟩
  obtain ⟨m2, m5, m6, m18, m24, m90, m91⟩ := hm
  refine ⟨⟨?_, (e9' _ hlO).trans wX, hbO⟩, ⟨0, fun _ => 0, m2, by decide, (f247 _ (by omega)).trans ((f246 _ (by omega) (by omega)).trans ((f245 _ (by omega)).trans ((f244 _ (by omega)).trans ((f243 _ (by omega)).trans ((f242 _ (by omega)).trans ((f241 _ (by omega) (by omega)).trans ((f240 _ (by omega)).trans ((f239 _ (by omega)).trans ((f238 _ (by omega) ).trans ((f237 _ (by omega)).trans ((f236 _ (by omega)).trans ((f235 _ (by omega)).trans (g234))))))))))))), e8' _ (by omega) (by omega), by omega, fun j hj => absurd hj (Nat.not_lt_zero j)⟩, ⟨h245.2, 0, fun _ => 0, sB9.fr ((f247 _ (by omega))) ((f247 _ (by omega))), e8' _ (by omega) (by omega), e8' _ (by omega) (by omega), by omega, by omega, m24, fun j hj => absurd hj (Nat.not_lt_zero j)⟩, ⟨h240.2, h240.2 + 1, 0, fun _ => none, fun _ => 0, fun _ => none, ⟨(f247 _ (by omega)).trans ((f246 _ (by omega) (by omega)).trans ((f245 _ (by omega)).trans ((f244 _ (by omega)).trans ((f243 _ (by omega)).trans ((f242 _ (by omega)).trans (g241)))))), (f247 _ (by omega)).trans ((f246 _ (by omega) (by omega)).trans ((f245 _ (by omega)).trans ((f244 _ (by omega)).trans ((f243 _ (by omega)).trans ((f242 _ (by omega)).trans (y2)))))), (f247 _ (by omega)).trans ((f246 _ (by omega) (by omega)).trans ((f245 _ (by omega)).trans ((f244 _ (by omega)).trans ((f243 _ (by omega)).trans ((f242 _ (by omega)).trans (y3))))))⟩, ⟨e8' _ (by omega) (by omega), e8' _ (by omega) (by omega), e8' _ (by omega) (by omega), by omega, by omega, by omega⟩, ⟨by decide, by decide, m18⟩, fun k hk => absurd hk (Nat.not_lt_zero k), fun j k hj => absurd hj (Nat.not_lt_zero j), ⟨(f247 _ (by omega)).trans ((f246 _ (by omega) (by omega)).trans ((f245 _ (by omega)).trans ((f244 _ (by omega)).trans (g243)))), e8' _ (by omega) (by omega), by omega⟩, fun j hj => Or.inl ?_⟩, ⟨_, _, _, _, h236.2 + 3, 0, 4, nI 0, fun _ => none, I9, (f247 _ (by omega)).trans ((f246 _ (by omega) (by omega)).trans ((f245 _ (by omega)).trans ((f244 _ (by omega)).trans ((f243 _ (by omega)).trans ((f242 _ (by omega)).trans ((f241 _ (by omega) (by omega)).trans ((f240 _ (by omega)).trans ((f239 _ (by omega)).trans (I3))))))))), (f247 _ (by omega)).trans ((f246 _ (by omega) (by omega)).trans ((f245 _ (by omega)).trans ((f244 _ (by omega)).trans ((f243 _ (by omega)).trans ((f242 _ (by omega)).trans ((f241 _ (by omega) (by omega)).trans ((f240 _ (by omega)).trans ((f239 _ (by omega)).trans (I4))))))))), ⟨by decide, by decide, by decide⟩, fun i hi q hq => (by cases hq), ⟨fun q h1 h2 _ => e7' q h1 h2, e7' _ (by omega) (by omega), Or.inr (Or.inr rfl), by omega, by omega, by omega, Or.inl (e7' _ (by omega) (by omega))⟩, e7' _ (by omega) (by omega), e7' _ (by omega) (by omega)⟩, w247, by omega⟩
  · rw [m2, m5, m6]; exact g247
  · have hj2 : j = 0 ∨ j = 1 := by omega
    rcases hj2 with rfl | rfl
    · exact ⟨rfl, m90⟩
    · exact ⟨rfl, m91⟩

