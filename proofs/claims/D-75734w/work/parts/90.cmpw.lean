/-! THE LIBRARY: makers of short texts -/
/-- a maker of at most 16 letters: it never grows -/
def sZ (h : ax_H) (B e n : Nat) (t : Nat → Nat) : Prop := ∃ (ml : Int32) (a : Nat → Int32), h.1 B = some (.inr (18, [.ref e, .int (nI 0), .int ml, .int (nI n)])) ∧ h.1 e = some (.inl (.byte, 16, .inl a)) ∧ n ≤ 16 ∧ sb_Fit a ∧ sb_Lat t n a
theorem sZ.B {h : ax_H} {B e n : Nat} {t : Nat → Nat} (z : sZ h B e n t) : sB h B e n t := by
  obtain ⟨ml, a, h1, h2, h3, h4, h5⟩ := z
  exact ⟨16, ml, a, h1, h2, Or.inl rfl, h3, h4, h5⟩
theorem sZ.o {h : ax_H} {B e n : Nat} {t : Nat → Nat} (z : sZ h B e n t) : ∃ fs, h.1 B = some (.inr (18, fs)) := by
  obtain ⟨ml, a, h1, -⟩ := z
  exact ⟨_, h1⟩
theorem sZ.fr {h h' : ax_H} {B e n : Nat} {t : Nat → Nat} (z : sZ h B e n t) (h1 : h'.1 B = h.1 B) (h2 : h'.1 e = h.1 e) : sZ h' B e n t := by
  obtain ⟨ml, a, b1, b2, b3⟩ := z
  exact ⟨ml, a, h1.trans b1, h2.trans b2, b3⟩
theorem sZ.cg {h : ax_H} {B e n : Nat} {t t' : Nat → Nat} (z : sZ h B e n t) (g : ∀ i, i < n → t i = t' i) : sZ h B e n t' := by
  obtain ⟨ml, a, b1, b2, b3, b4, b5⟩ := z
  exact ⟨ml, a, b1, b2, b3, b4, fun i hi => by rw [← g i hi]; exact b5 i hi⟩
theorem sStr.fr {h h' : ax_H} {w n : Nat} {t : Nat → Nat} (z : sStr h w n t) (g : ∀ q e, h.1 q = some e → (∀ ci fs, e = .inr (ci, fs) → ci = 19) → (∀ ty m f, e = .inl (ty, m, f) → ty = .byte) → h'.1 q = some e) : sStr h' w n t := by
  obtain ⟨e, hs, hz, b, b1, b2, b3⟩ := z
  exact ⟨e, hs, hz, b, g _ _ b1 (fun _ _ q => by cases q; rfl) (fun _ _ _ q => by cases q), g _ _ b2 (fun _ _ q => by cases q) (fun _ _ _ q => by cases q; rfl), b3⟩
/-- a string stays where an object of another class changes -/
theorem sStr.frO {h h' : ax_H} {w n P ci : Nat} {fs : List Value} {t : Nat → Nat} (z : sStr h w n t) (wf : ax_wf h) (hP : h.1 P = some (.inr (ci, fs))) (hc : ci ≠ 19) (g : ∀ q, q < h.2 → q ≠ P → h'.1 q = h.1 q) : sStr h' w n t :=
  z.fr fun q e he hk _ => (g q (wf.lt he) (fun x => by
    rw [x, hP] at he
    exact hc (hk ci fs (Option.some.inj he).symm))).trans he
theorem ct_bensZ {Ω : ax_O} (hA : ax_Amb Ω) {h : ax_H} {B e n m : Nat} {ml : Int32} {a : Nat → Int32} (hB : h.1 B = some (.inr (18, [.ref e, .int (nI 0), .int ml, .int (nI n)]))) (hE : h.1 e = some (.inl (.byte, m, .inl a))) (hm : m = 16) (q : Nat) (hq : q ≤ m) : ax_Met Ω yJ7_ensureCapacityInternal 4 0 0 [.ref B, .int (nI q)] h (.inl none) h := by
  refine ax_met q313 q127 (by decide +kernel) (by decide) hA (Nat.le_of_ble_eq_true rfl) (fun Γ G E => ?_)
  show ax_W Ω Γ 0 0 h 0 [some (.ref B), some (.int (nI q)), none] []
  refine ax_aload_n (pc := 0) G dJ7_ensureCapacityInternal_0 rfl rfl ?_
  refine ax_getf (pc := 1) (v := .ref e) G flJ7_15_18 dJ7_ensureCapacityInternal_1 (hB) rfl ?_
  refine ax_alen (pc := 4) (v := nI m) G dJ7_ensureCapacityInternal_4 (hE) rfl ?_
  refine ax_aload_n (pc := 5) G dJ7_ensureCapacityInternal_5 rfl rfl ?_
  refine ax_getf (pc := 6) (v := .int (nI 0)) G flJ7_22_18 dJ7_ensureCapacityInternal_6 (hB) rfl ?_
  refine ax_ishr (pc := 9) G dJ7_ensureCapacityInternal_9 ?_
  refine ax_top (show Value.int ((nI m) >>> ((nI 0) &&& 31)) = .int (nI m) from congrArg Value.int (sb_shr0 _)) ?_
  refine ax_istore_n (pc := 10) G dJ7_ensureCapacityInternal_10 rfl (Nat.le_of_ble_eq_true rfl) rfl ?_
  refine ax_iload_n (pc := 11) G dJ7_ensureCapacityInternal_11 rfl rfl ?_
  refine ax_iload_n (pc := 12) G dJ7_ensureCapacityInternal_12 rfl rfl ?_
  refine ax_isub (pc := 13) G dJ7_ensureCapacityInternal_13 ?_
  refine ax_if_le (pc := 14) (tgt := 38) G dJ7_ensureCapacityInternal_14 rfl (fun _ => ?_) (fun c9 => absurd (nI_sub_le hq (by omega)) c9)
  exact ax_vretE (pc := 38) G E rfl dJ7_ensureCapacityInternal_38 (rfl)

theorem ct_bappZ {Ω : ax_O} (hA : ax_Amb Ω) {h : ax_H} (wf : ax_wf h) (hz : Ω.2.1.heap.size ≤ h.2) {B e n : Nat} {t : Nat → Nat} (hS : sZ h B e n t) (hbB : Ω.2.1.heap.size ≤ B) (hbe : Ω.2.1.heap.size ≤ e) (c : Nat) (hc : c < 256) (hn : n < 16) : ax_MetP Ω yJ7_append_3 5 0 0 [.ref B, .int (nI c)] h (ax_Nm (fun v h' => v = some (.ref B) ∧ sZ h' B e (n + 1) (sb_cat t n (fun _ => c)) ∧ (∀ q, q ≠ B → q ≠ e → h'.1 q = h.1 q) ∧ h'.2 = h.2 ∧ ax_wf h')) := by
  refine ax_metP q1008 q127 (by decide +kernel) (by decide) hA (Nat.le_of_ble_eq_true rfl) (fun Γ G E => ?_)
  obtain ⟨ml, a, hB, hE, hnm, hf, hLat⟩ := hS
  have hlB := wf.lt hB
  have hle := wf.lt hE
  have hBe : B ≠ e := fun z => by rw [z, hE] at hB; cases hB
  show ax_W Ω Γ 0 0 h 0 [some (.ref B), some (.int (nI c))] []
  refine ax_aload_n (pc := 0) G dJ7_append_3_0 rfl rfl ?_
  refine ax_aload_n (pc := 1) G dJ7_append_3_1 rfl rfl ?_
  refine ax_getf (pc := 2) (v := .int (nI n)) G flJ7_79_18 dJ7_append_3_2 (hB) rfl ?_
  refine ax_iconst (pc := 5) (v := nI 1) G dJ7_append_3_5 ic_1 ?_
  refine ax_iaddN (pc := 6) G dJ7_append_3_6 ?_
  refine ax_cVP0 (pc := 7) (kb := 0) (nb := 0) G (ct_bensZ hA (hB) (hE) rfl (n + 1) (by omega)) lVPJ7_100_18 dJ7_append_3_7 (hB) rfl (by decide) (Nat.le_of_ble_eq_true rfl) rfl ?_
  refine ax_aload_n (pc := 10) G dJ7_append_3_10 rfl rfl ?_
  refine ax_cV1 (pc := 11) (kb := 0) (nb := 0) G (ct_blatin hA (hB) (hE)) lVJ7_83_18 dJ7_append_3_11 (hB) rfl (by decide) (Nat.le_of_ble_eq_true rfl) rfl ?_
  refine ax_if_eq (pc := 14) (tgt := 45) G dJ7_append_3_14 rfl (fun c9 => absurd c9 (by decide)) (fun _ => ?_)
  refine ax_iload_n (pc := 17) G dJ7_append_3_17 rfl rfl ?_
  refine ax_cS1 (pc := 18) (kb := 0) (nb := 0) G (ct_canenc hA c hc) lSJ7_191 dJ7_append_3_18 rfl (by decide) (Nat.le_of_ble_eq_true rfl) rfl ?_
  refine ax_if_eq (pc := 21) (tgt := 45) G dJ7_append_3_21 rfl (fun c9 => absurd c9 (by decide)) (fun _ => ?_)
  refine ax_aload_n (pc := 24) G dJ7_append_3_24 rfl rfl ?_
  refine ax_getf (pc := 25) (v := .ref e) G flJ7_15_18 dJ7_append_3_25 (hB) rfl ?_
  refine ax_aload_n (pc := 28) G dJ7_append_3_28 rfl rfl ?_
  refine ax_dup (pc := 29) G dJ7_append_3_29 rfl ?_
  refine ax_getf (pc := 30) (v := .int (nI n)) G flJ7_79_18 dJ7_append_3_30 (hB) rfl ?_
  refine ax_dup_x1 (pc := 33) G dJ7_append_3_33 rfl rfl ?_
  refine ax_iconst (pc := 34) (v := nI 1) G dJ7_append_3_34 ic_1 ?_
  refine ax_iaddN (pc := 35) G dJ7_append_3_35 ?_
  refine ax_putf (pc := 36) G flJ7_79_18 dJ7_append_3_36 (hB) (by omega) (Nat.le_of_ble_eq_true rfl) rfl rfl ?_
  refine ax_hvS wf (by omega) (fun h240 g240 f240 z240 w240 => ?_)
  replace g240 : h240.1 B = some (.inr (18, [.ref e, .int (nI 0), .int ml, .int (nI (n + 1))])) := g240
  refine ax_iload_n (pc := 39) G dJ7_append_3_39 rfl rfl ?_
  refine ax_i2b (pc := 40) G dJ7_append_3_40 rfl ?_
  refine ax_bastore (pc := 41) G n dJ7_append_3_41 ((f240 _ (by omega)).trans (hE)) (by omega) rfl (by omega) (by omega) ?_
  refine ax_hvS w240 (by omega) (fun h241 g241 f241 z241 w241 => ?_)
  refine ax_goto (pc := 42) (tgt := 75) G dJ7_append_3_42 rfl ?_
  refine ax_aload_n (pc := 75) G dJ7_append_3_75 rfl rfl ?_
  exact ax_aretP (pc := 76) G E rfl (Or.inl ⟨_, rfl⟩) (Or.inr ⟨_, rfl⟩) dJ7_append_3_76 (⟨_, rfl, rfl, ⟨ml, _, (f241 _ (by omega)).trans (g240), g241, by omega, sB_put2 hf hc, sB_put1 hLat (fun _ _ => rfl) hc⟩, fun q a1 a2 => (f241 _ (by omega)).trans ((f240 _ (by omega))), by omega, w241⟩)

theorem ct_bapp8Z {Ω : ax_O} (hA : ax_Amb Ω) {h : ax_H} (wf : ax_wf h) (hz : Ω.2.1.heap.size ≤ h.2) {B e n : Nat} {t : Nat → Nat} (hS : sZ h B e n t) (hbB : Ω.2.1.heap.size ≤ B) (hbe : Ω.2.1.heap.size ≤ e) (c : Nat) (hc : c < 256) (hn : n < 16) : ax_MetP Ω yJ8_append_3 6 0 0 [.ref B, .int (nI c)] h (ax_Nm (fun v h' => v = some (.ref B) ∧ sZ h' B e (n + 1) (sb_cat t n (fun _ => c)) ∧ (∀ q, q ≠ B → q ≠ e → h'.1 q = h.1 q) ∧ h'.2 = h.2 ∧ ax_wf h')) := by
  refine ax_metP q1005 q128 (by decide +kernel) (by decide) hA (Nat.le_of_ble_eq_true rfl) (fun Γ G E => ?_)
  have hS0 := hS
  obtain ⟨ml, a, hB, hE, hnm, hf, hLat⟩ := hS
  have hlB := wf.lt hB
  have hle := wf.lt hE
  have hBe : B ≠ e := fun z => by rw [z, hE] at hB; cases hB
  show ax_W Ω Γ 0 0 h 0 [some (.ref B), some (.int (nI c))] []
  refine ax_aload_n (pc := 0) G dJ8_append_3_0 rfl rfl ?_
  refine ax_iload_n (pc := 1) G dJ8_append_3_1 rfl rfl ?_
  refine ax_nSU (pc := 2) (kb := 0) (nb := 0) G (ct_bappZ hA wf (by omega) hS0 hbB hbe c (by omega) hn) lSUJ8_50 dJ8_append_3_2 (hB) rfl rfl (by decide) (Nat.le_of_ble_eq_true rfl) rfl (fun v242 h242 q9 => ?_)
  obtain ⟨rfl, p242⟩ := q9
  show ax_W Ω Γ _ _ (h242) _ _ (.ref B :: _)
  refine ax_pop (pc := 5) G dJ8_append_3_5 rfl ?_
  refine ax_aload_n (pc := 6) G dJ8_append_3_6 rfl rfl ?_
  exact ax_aretP (pc := 7) G E rfl (Or.inl ⟨_, rfl⟩) (Or.inr ⟨_, rfl⟩) dJ8_append_3_7 (⟨_, rfl, rfl, p242⟩)

theorem ct_binitZ7 {Ω : ax_O} (hA : ax_Amb Ω) {h : ax_H} (wf : ax_wf h) (hz : Ω.2.1.heap.size ≤ h.2) {B : Nat} (hB : h.1 B = some (.inr (18, [.null, .int (nI 0), .int (nI 0), .int (nI 0)]))) (hbB : Ω.2.1.heap.size ≤ B)  : ax_MetP Ω yJ7_init 2 1 16 [.ref B, .int (nI 16)] h (ax_Nm (fun v h' => v = none ∧ sZ h' B h.2 0 (fun _ => 0) ∧ (∀ q, q < h.2 → q ≠ B → h'.1 q = h.1 q) ∧ h'.2 = h.2 + 1 ∧ ax_wf h')) := by
  refine ax_metP q273 q127 (by decide +kernel) (by decide) hA (Nat.le_of_ble_eq_true rfl) (fun Γ G E => ?_)
  have hlB := wf.lt hB
  show ax_W Ω Γ 1 16 h 0 [some (.ref B), some (.int (nI 16))] []
  refine ax_aload_n (pc := 0) G dJ7_init_0 rfl rfl ?_
  refine ax_objInit (pc := 1) G (by decide) q274 q166 q167 dJ7_init_1 (Nat.le_of_ble_eq_true rfl) ?_
  refine ax_getsZ (pc := 4) G (zCS hA) q275 dJ7_init_4 ?_
  show ax_W Ω Γ _ _ _ _ _ (.int (nI 1) :: _)
  refine ax_if_eq (pc := 7) (tgt := 25) G dJ7_init_7 rfl (fun c9 => absurd c9 (by decide)) (fun _ => ?_)
  refine ax_aload_n (pc := 10) G dJ7_init_10 rfl rfl ?_
  refine ax_iload_n (pc := 11) G dJ7_init_11 rfl rfl ?_
  refine ax_newarray (pc := 12) (kb := 0) (nb := 0) G 16 (16, .inl fun _ => 0) dJ7_init_12 rfl q184 rfl (by omega) rfl (fun j => rfl) ?_
  refine ax_hvA wf (fun h243 g243 f243 z243 w243 => ?_)
  refine ax_putf (pc := 14) G flJ7_15_18 dJ7_init_14 ((f243 _ (by omega)).trans (hB)) (by omega) (Nat.le_of_ble_eq_true rfl) rfl rfl ?_
  refine ax_hvS w243 (by omega) (fun h244 g244 f244 z244 w244 => ?_)
  replace g244 : h244.1 B = some (.inr (18, [.ref h.2, .int (nI 0), .int (nI 0), .int (nI 0)])) := g244
  refine ax_aload_n (pc := 17) G dJ7_init_17 rfl rfl ?_
  refine ax_iconst (pc := 18) (v := nI 0) G dJ7_init_18 ic_0 ?_
  refine ax_putf (pc := 19) G flJ7_22_18 dJ7_init_19 (g244) (by omega) (Nat.le_of_ble_eq_true rfl) rfl rfl ?_
  refine ax_hvS w244 (by omega) (fun h245 g245 f245 z245 w245 => ?_)
  replace g245 : h245.1 B = some (.inr (18, [.ref h.2, .int (nI 0), .int (nI 0), .int (nI 0)])) := g245
  refine ax_goto (pc := 22) (tgt := 38) G dJ7_init_22 rfl ?_
  exact ax_vretP (pc := 38) G E rfl dJ7_init_38 (⟨_, rfl, rfl, ⟨nI 0, _, g245, (f245 _ (by omega)).trans ((f244 _ (by omega)).trans (g243)), by omega, sb_fit0, fun j hj => absurd hj (Nat.not_lt_zero _)⟩, fun q a1 a2 => (f245 _ (by omega)).trans ((f244 _ (by omega)).trans ((f243 _ (by omega)))), by omega, w245⟩)

theorem ct_binitZ {Ω : ax_O} (hA : ax_Amb Ω) {h : ax_H} (wf : ax_wf h) (hz : Ω.2.1.heap.size ≤ h.2) {B : Nat} (hB : h.1 B = some (.inr (18, [.null, .int (nI 0), .int (nI 0), .int (nI 0)]))) (hbB : Ω.2.1.heap.size ≤ B)  : ax_MetP Ω yJ8_init 3 1 16 [.ref B] h (ax_Nm (fun v h' => v = none ∧ sZ h' B h.2 0 (fun _ => 0) ∧ (∀ q, q < h.2 → q ≠ B → h'.1 q = h.1 q) ∧ h'.2 = h.2 + 1 ∧ ax_wf h')) := by
  refine ax_metP q270 q128 (by decide +kernel) (by decide) hA (Nat.le_of_ble_eq_true rfl) (fun Γ G E => ?_)
  have hlB := wf.lt hB
  show ax_W Ω Γ 1 16 h 0 [some (.ref B)] []
  refine ax_aload_n (pc := 0) G dJ8_init_0 rfl rfl ?_
  refine ax_bipush (pc := 1) (v := nI 16) G dJ8_init_1 ib_16 ?_
  refine ax_nI (pc := 3) (kb := 0) (nb := 0) G (ct_binitZ7 hA wf (by omega) (hB) (by omega)) lIJ8_1 dJ8_init_3 rfl (by decide) (Nat.le_of_ble_eq_true rfl) rfl (fun v246 h246 q9 => ?_)
  obtain ⟨rfl, p246⟩ := q9
  show ax_W Ω Γ _ _ (h246) _ _ (_)
  exact ax_vretP (pc := 6) G E rfl dJ8_init_6 (⟨_, rfl, rfl, p246⟩)

