/-! THE LIBRARY: a list takes a thing; queues -/
theorem ct_grow {Ω : ax_O} (hA : ax_Amb Ω) {h : ax_H} (wf : ax_wf h) (hz : Ω.2.1.heap.size ≤ h.2) {L n : Nat} {mc : Int32} {e cap : Nat} {f : Nat → Option Nat} (hE : h.1 e = some (.inl (.object "java/lang/Object", cap, .inr (.inr (.inr (.inr f)))))) (hbe : Ω.2.1.heap.size ≤ e) (hc : cap < 100) (hL : h.1 L = some (.inr (16, [.int mc, .ref e, .int (nI n)]))) (hbL : Ω.2.1.heap.size ≤ L) (hel : ∀ i, i < cap → ∀ q, f i = some q → ∃ ci fs, h.1 q = some (.inr (ci, fs)) ∧ ax_may ci "java/lang/Object") (hc0 : 0 < cap) (hn : n = cap) : ax_MetP Ω yJ2_grow 5 1 200 [.ref L] h (ax_Nm (fun v h' => v = some (.ref h.2) ∧ ∃ cap', cap < cap' ∧ cap' < 200 ∧ cap' ≤ cap + cap / 2 + 1 ∧ h'.1 L = some (.inr (16, [.int mc, .ref h.2, .int (nI n)])) ∧ h'.1 h.2 = some (.inl (.object "java/lang/Object", cap', .inr (.inr (.inr (.inr (va_cpy f (fun _ => none) 0 0 cap)))))) ∧ (∀ q, q < h.2 → q ≠ L → h'.1 q = h.1 q) ∧ h'.2 = h.2 + 1 ∧ ax_wf h')) := by
  refine ax_metP q1251 q122 (by decide +kernel) (by decide) hA (Nat.le_of_ble_eq_true rfl) (fun Γ G E => ?_)
  have hlL := wf.lt hL
  have hle := wf.lt hE
  have hLe : L ≠ e := fun z => by rw [z, hE] at hL; cases hL
  show ax_W Ω Γ 1 200 h 0 [some (.ref L)] []
  refine ax_aload_n (pc := 0) G dJ2_grow_0 rfl rfl ?_
  refine ax_aload_n (pc := 1) G dJ2_grow_1 rfl rfl ?_
  refine ax_getf (pc := 2) (v := .int (nI n)) G flJ2_48_16 dJ2_grow_2 (hL) rfl ?_
  refine ax_iconst (pc := 5) (v := nI 1) G dJ2_grow_5 ic_1 ?_
  refine ax_iaddN (pc := 6) G dJ2_grow_6 ?_
  refine ax_nV (pc := 7) (kb := 0) (nb := 0) G (ct_grow2 hA wf (by omega) (hE) hbe hc (hL) hbL hel hc0 (by omega)) lVJ2_69_16 dJ2_grow_7 (hL) rfl (by decide) (Nat.le_of_ble_eq_true rfl) rfl (fun v10 h10 q9 => ?_)
  obtain ⟨rfl, K, hK1, hK2, hK3, g10, k10, f10, z10, w10⟩ := q9
  show ax_W Ω Γ _ _ (h10) _ _ (.ref h.2 :: _)
  exact ax_aretP (pc := 10) G E rfl (Or.inr ⟨_, rfl⟩) (Or.inr ⟨_, rfl⟩) dJ2_grow_10 (⟨_, rfl, rfl, K, hK1, hK2, hK3, g10, k10, fun q a1 a2 => (f10 _ (by omega) (by omega)), by omega, w10⟩)

/-- a list took a thing -/
def cAdd (h h' : ax_H) (L e cap n x : Nat) (f : Nat → Option Nat) (mc' : Int32) : Prop :=
  ∃ (e' cap' : Nat) (f' : Nat → Option Nat), h'.1 L = some (.inr (16, [.int mc', .ref e', .int (nI (n + 1))])) ∧ h'.1 e' = some (.inl (.object "java/lang/Object", cap', .inr (.inr (.inr (.inr f'))))) ∧ n < cap' ∧
    (cap' = cap ∨ cap' ≤ n + n / 2 + 1) ∧ (∀ k, k < n → f' k = f k) ∧ f' n = some x ∧ (∀ i, i < cap' → ∀ q, f' i = some q → q = x ∨ ∃ k, k < cap ∧ f k = some q) ∧
    ((e' = e ∧ h'.2 = h.2) ∨ (e' = h.2 ∧ h'.2 = h.2 + 1)) ∧ (∀ q, q < h.2 → q ≠ L → q ≠ e → h'.1 q = h.1 q) ∧ ax_wf h'
theorem cAdd_up {f : Nat → Option Nat} {n x : Nat} : (∀ k, k < n → va_up f n (some x) k = f k) ∧ va_up f n (some x) n = some x ∧ (∀ cap i, i < cap → ∀ q, va_up f n (some x) i = some q → q = x ∨ ∃ k, k < cap ∧ f k = some q) := by
  refine ⟨fun k hk => ?_, ?_, fun cap i hi q hq => ?_⟩
  · unfold va_up; rw [if_neg (by omega)]
  · unfold va_up; rw [if_pos rfl]
  · unfold va_up at hq
    by_cases c : i = n
    · rw [if_pos c] at hq; exact Or.inl (Option.some.inj hq).symm
    · rw [if_neg c] at hq; exact Or.inr ⟨i, hi, hq⟩
theorem cAdd_g {f : Nat → Option Nat} {n x K : Nat} (hK : n < K) : (∀ k, k < n → va_up (va_cpy f (fun _ => none) 0 0 n) n (some x) k = f k) ∧ va_up (va_cpy f (fun _ => none) 0 0 n) n (some x) n = some x ∧ (∀ i, i < K → ∀ q, va_up (va_cpy f (fun _ => none) 0 0 n) n (some x) i = some q → q = x ∨ ∃ k, k < n ∧ f k = some q) := by
  refine ⟨fun k hk => ?_, ?_, fun i hi q hq => ?_⟩
  · unfold va_up va_cpy; rw [if_neg (by omega), if_pos ⟨by omega, by omega⟩]; congr 1; omega
  · unfold va_up; rw [if_pos rfl]
  · unfold va_up at hq
    by_cases c : i = n
    · rw [if_pos c] at hq; exact Or.inl (Option.some.inj hq).symm
    · rw [if_neg c] at hq
      unfold va_cpy at hq
      by_cases c2 : 0 ≤ i ∧ i < 0 + n
      · rw [if_pos c2] at hq; exact Or.inr ⟨i - 0 + 0, by omega, by simpa using hq⟩
      · rw [if_neg c2] at hq; cases hq
theorem ct_ladd2 {Ω : ax_O} (hA : ax_Amb Ω) {h : ax_H} (wf : ax_wf h) (hz : Ω.2.1.heap.size ≤ h.2) {L n : Nat} {mc : Int32} {e cap : Nat} {f : Nat → Option Nat} (hE : h.1 e = some (.inl (.object "java/lang/Object", cap, .inr (.inr (.inr (.inr f)))))) (hbe : Ω.2.1.heap.size ≤ e) (hc : cap < 100) (hL : h.1 L = some (.inr (16, [.int mc, .ref e, .int (nI n)]))) (hbL : Ω.2.1.heap.size ≤ L) (hel : ∀ i, i < cap → ∀ q, f i = some q → ∃ ci fs, h.1 q = some (.inr (ci, fs)) ∧ ax_may ci "java/lang/Object") (hc0 : 0 < cap) (hn : n ≤ cap) {x cx : Nat} {xf : List Value} (hx : h.1 x = some (.inr (cx, xf))) (hmx : ax_may cx "java/lang/Object") (hxL : x ≠ L)  : ax_MetP Ω yJ2_add_2 6 1 200 [.ref L, .ref x, .ref e, .int (nI n)] h (ax_Nm (fun v h' => v = none ∧ cAdd h h' L e cap n x f mc)) := by
  refine ax_metP q1247 q122 (by decide +kernel) (by decide) hA (Nat.le_of_ble_eq_true rfl) (fun Γ G E => ?_)
  have hlL := wf.lt hL
  have hle := wf.lt hE
  have hLe : L ≠ e := fun z => by rw [z, hE] at hL; cases hL
  have hlx := wf.lt hx
  have hxe : x ≠ e := fun z => by rw [z, hE] at hx; cases hx
  show ax_W Ω Γ 1 200 h 0 [some (.ref L), some (.ref x), some (.ref e), some (.int (nI n))] []
  refine ax_iload_n (pc := 0) G dJ2_add_2_0 rfl rfl ?_
  refine ax_aload_n (pc := 1) G dJ2_add_2_1 rfl rfl ?_
  refine ax_alen (pc := 2) (v := nI cap) G dJ2_add_2_2 (hE) rfl ?_
  refine ax_icmp_neN (pc := 3) (tgt := 11) G dJ2_add_2_3 rfl (by omega) (by omega) (fun c3 => ?_) (fun c3 => ?_)
  · refine ax_aload_n (pc := 11) G dJ2_add_2_11 rfl rfl ?_
    refine ax_iload_n (pc := 12) G dJ2_add_2_12 rfl rfl ?_
    refine ax_aload_n (pc := 13) G dJ2_add_2_13 rfl rfl ?_
    refine ax_aastore (pc := 14) G n dJ2_add_2_14 (hE) (by omega) (hx) hmx rfl (by omega) (by omega) ?_
    refine ax_hvS wf (by omega) (fun h11 g11 f11 z11 w11 => ?_)
    refine ax_aload_n (pc := 15) G dJ2_add_2_15 rfl rfl ?_
    refine ax_iload_n (pc := 16) G dJ2_add_2_16 rfl rfl ?_
    refine ax_iconst (pc := 17) (v := nI 1) G dJ2_add_2_17 ic_1 ?_
    refine ax_iaddN (pc := 18) G dJ2_add_2_18 ?_
    refine ax_putf (pc := 19) G flJ2_48_16 dJ2_add_2_19 ((f11 _ (by omega)).trans (hL)) (by omega) (Nat.le_of_ble_eq_true rfl) rfl rfl ?_
    refine ax_hvS w11 (by omega) (fun h12 g12 f12 z12 w12 => ?_)
    replace g12 : h12.1 L = some (.inr (16, [.int mc, .ref e, .int (nI (n + 1))])) := g12
    exact ax_vretP (pc := 22) G E rfl dJ2_add_2_22 (⟨_, rfl, rfl, _, _, _, g12, (f12 _ (by omega)).trans (g11), by omega, Or.inl rfl, cAdd_up.1, cAdd_up.2.1, cAdd_up.2.2 _, Or.inl ⟨rfl, by omega⟩, fun q a1 a2 a3 => (f12 _ (by omega)).trans ((f11 _ (by omega))), w12⟩)
  · refine ax_aload_n (pc := 6) G dJ2_add_2_6 rfl rfl ?_
    refine ax_nV (pc := 7) (kb := 0) (nb := 0) G (ct_grow hA wf (by omega) (hE) hbe hc (hL) hbL hel hc0 (by omega)) lVJ2_129_16 dJ2_add_2_7 (hL) rfl (by decide) (Nat.le_of_ble_eq_true rfl) rfl (fun v13 h13 q9 => ?_)
    obtain ⟨rfl, K, hK1, hK2, hK3, g13, k13, f13, z13, w13⟩ := q9
    show ax_W Ω Γ _ _ (h13) _ _ (.ref h.2 :: _)
    refine ax_astore_n (pc := 10) G dJ2_add_2_10 rfl (Nat.le_of_ble_eq_true rfl) rfl ?_
    refine ax_aload_n (pc := 11) G dJ2_add_2_11 rfl rfl ?_
    refine ax_iload_n (pc := 12) G dJ2_add_2_12 rfl rfl ?_
    refine ax_aload_n (pc := 13) G dJ2_add_2_13 rfl rfl ?_
    refine ax_aastore (pc := 14) G n dJ2_add_2_14 (k13) (by omega) ((f13 _ (by omega) (by omega)).trans (hx)) hmx rfl (by omega) (by omega) ?_
    refine ax_hvS w13 (by omega) (fun h14 g14 f14 z14 w14 => ?_)
    refine ax_aload_n (pc := 15) G dJ2_add_2_15 rfl rfl ?_
    refine ax_iload_n (pc := 16) G dJ2_add_2_16 rfl rfl ?_
    refine ax_iconst (pc := 17) (v := nI 1) G dJ2_add_2_17 ic_1 ?_
    refine ax_iaddN (pc := 18) G dJ2_add_2_18 ?_
    refine ax_putf (pc := 19) G flJ2_48_16 dJ2_add_2_19 ((f14 _ (by omega)).trans (g13)) (by omega) (Nat.le_of_ble_eq_true rfl) rfl rfl ?_
    refine ax_hvS w14 (by omega) (fun h15 g15 f15 z15 w15 => ?_)
    replace g15 : h15.1 L = some (.inr (16, [.int mc, .ref h.2, .int (nI (n + 1))])) := g15
    exact ax_vretP (pc := 22) G E rfl dJ2_add_2_22 (⟨_, rfl, rfl, _, _, _, g15, (f15 _ (by omega)).trans (g14), by omega, Or.inr (by omega), by rw [← c3] ; exact (cAdd_g (show n < K by omega)).1, by rw [← c3]; exact (cAdd_g (show n < K by omega)).2.1, by rw [← c3]; exact (cAdd_g (show n < K by omega)).2.2, Or.inr ⟨rfl, by omega⟩, fun q a1 a2 a3 => (f15 _ (by omega)).trans ((f14 _ (by omega)).trans ((f13 _ (by omega) (by omega)))), w15⟩)

theorem ct_ladd {Ω : ax_O} (hA : ax_Amb Ω) {h : ax_H} (wf : ax_wf h) (hz : Ω.2.1.heap.size ≤ h.2) {L n : Nat} {mc : Int32} {e cap : Nat} {f : Nat → Option Nat} (hE : h.1 e = some (.inl (.object "java/lang/Object", cap, .inr (.inr (.inr (.inr f)))))) (hbe : Ω.2.1.heap.size ≤ e) (hc : cap < 100) (hL : h.1 L = some (.inr (16, [.int mc, .ref e, .int (nI n)]))) (hbL : Ω.2.1.heap.size ≤ L) (hel : ∀ i, i < cap → ∀ q, f i = some q → ∃ ci fs, h.1 q = some (.inr (ci, fs)) ∧ ax_may ci "java/lang/Object") (hc0 : 0 < cap) (hn : n ≤ cap) {x cx : Nat} {xf : List Value} (hx : h.1 x = some (.inr (cx, xf))) (hmx : ax_may cx "java/lang/Object") (hxL : x ≠ L)  : ax_MetP Ω yJ2_add 7 1 200 [.ref L, .ref x] h (ax_Nm (fun v h' => v = some (.int (nI 1)) ∧ cAdd h h' L e cap n x f (mc + nI 1))) := by
  refine ax_metP q1243 q122 (by decide +kernel) (by decide) hA (Nat.le_of_ble_eq_true rfl) (fun Γ G E => ?_)
  have hlL := wf.lt hL
  have hle := wf.lt hE
  have hLe : L ≠ e := fun z => by rw [z, hE] at hL; cases hL
  have hlx := wf.lt hx
  have hxe : x ≠ e := fun z => by rw [z, hE] at hx; cases hx
  show ax_W Ω Γ 1 200 h 0 [some (.ref L), some (.ref x)] []
  refine ax_aload_n (pc := 0) G dJ2_add_0 rfl rfl ?_
  refine ax_dup (pc := 1) G dJ2_add_1 rfl ?_
  refine ax_getf (pc := 2) (v := .int mc) G flJ2_63_16 dJ2_add_2 (hL) rfl ?_
  refine ax_iconst (pc := 5) (v := nI 1) G dJ2_add_5 ic_1 ?_
  refine ax_iadd (pc := 6) G dJ2_add_6 ?_
  refine ax_putf (pc := 7) G flJ2_63_16 dJ2_add_7 (hL) (by omega) (Nat.le_of_ble_eq_true rfl) rfl rfl ?_
  refine ax_hvS wf (by omega) (fun h16 g16 f16 z16 w16 => ?_)
  replace g16 : h16.1 L = some (.inr (16, [.int (mc + (nI 1)), .ref e, .int (nI n)])) := g16
  refine ax_aload_n (pc := 10) G dJ2_add_10 rfl rfl ?_
  refine ax_aload_n (pc := 11) G dJ2_add_11 rfl rfl ?_
  refine ax_aload_n (pc := 12) G dJ2_add_12 rfl rfl ?_
  refine ax_getf (pc := 13) (v := .ref e) G flJ2_9_16 dJ2_add_13 (g16) rfl ?_
  refine ax_aload_n (pc := 16) G dJ2_add_16 rfl rfl ?_
  refine ax_getf (pc := 17) (v := .int (nI n)) G flJ2_48_16 dJ2_add_17 (g16) rfl ?_
  have hel9 : ∀ i, i < cap → ∀ q, f i = some q → ∃ ci fs, h16.1 q = some (.inr (ci, fs)) ∧ ax_may ci "java/lang/Object" := fun i hi q hq => by
    obtain ⟨ci, fs, a1, a2⟩ := hel i hi q hq
    by_cases cq : q = L
    · exact ⟨16, _, by rw [cq]; exact g16, ⟨_, rfl, Or.inr q3270⟩⟩
    · exact ⟨ci, fs, ((f16 _ cq)).trans a1, a2⟩
  refine ax_nV (pc := 20) (kb := 0) (nb := 0) G (ct_ladd2 hA w16 (by omega) ((f16 _ (by omega)).trans (hE)) hbe hc (g16) hbL hel9 hc0 hn ((f16 _ (by omega)).trans (hx)) hmx hxL) lVJ2_131_16 dJ2_add_20 (g16) rfl (by decide) (Nat.le_of_ble_eq_true rfl) rfl (fun v17 h17 q9 => ?_)
  obtain ⟨rfl, e9, cap9, f9, g17, k17, A1, A2, A3, A4, A5, A6, f17, w17⟩ := q9
  show ax_W Ω Γ _ _ (h17) _ _ (_)
  refine ax_iconst (pc := 23) (v := nI 1) G dJ2_add_23 ic_1 ?_
  exact ax_iretP (pc := 24) G E rfl (rfl) dJ2_add_24 (⟨_, rfl, rfl, e9, cap9, f9, g17, k17, A1, A2, A3, A4, A5, (A6.elim (fun u => Or.inl ⟨u.1, u.2.trans (by omega)⟩) (fun u => Or.inr ⟨u.1.trans (by omega), u.2.trans (by omega)⟩)), fun q a1 a2 a3 => (f17 _ (by omega) (by omega) (by omega)).trans ((f16 _ (by omega))), w17⟩)

theorem va_up_none {f : Nat → Option Nat} {j cap : Nat} {g : Nat → Option Nat} (hg : ∀ i, i < cap → ∀ q, g i = some q → f i = some q) : ∀ i, i < cap → ∀ q, va_up g j none i = some q → f i = some q := by
  intro i hi q hq
  unfold va_up at hq
  by_cases c : i = j
  · rw [if_pos c] at hq; cases hq
  · rw [if_neg c] at hq; exact hg i hi q hq
theorem ct_lclear {Ω : ax_O} (hA : ax_Amb Ω) {h : ax_H} (wf : ax_wf h) (hz : Ω.2.1.heap.size ≤ h.2) {L n : Nat} {mc : Int32} {e cap : Nat} {f : Nat → Option Nat} (hE : h.1 e = some (.inl (.object "java/lang/Object", cap, .inr (.inr (.inr (.inr f)))))) (hbe : Ω.2.1.heap.size ≤ e) (hc : cap < 100) (hL : h.1 L = some (.inr (16, [.int mc, .ref e, .int (nI n)]))) (hbL : Ω.2.1.heap.size ≤ L) (hn : n ≤ cap)  : ax_MetP Ω yJ2_clear 2 0 0 [.ref L] h (ax_Nm (fun v h' => v = none ∧ ∃ f', h'.1 L = some (.inr (16, [.int (mc + nI 1), .ref e, .int (nI 0)])) ∧ h'.1 e = some (.inl (.object "java/lang/Object", cap, .inr (.inr (.inr (.inr f'))))) ∧ (∀ i, i < cap → ∀ q, f' i = some q → f i = some q) ∧ (∀ q, q ≠ L → q ≠ e → h'.1 q = h.1 q) ∧ h'.2 = h.2 ∧ ax_wf h')) := by
  refine ax_metP q2094 q122 (by decide +kernel) (by decide) hA (Nat.le_of_ble_eq_true rfl) (fun Γ G E => ?_)
  have hlL := wf.lt hL
  have hle := wf.lt hE
  have hLe : L ≠ e := fun z => by rw [z, hE] at hL; cases hL
  show ax_W Ω Γ 0 0 h 0 [some (.ref L), none, none, none] []
  refine ax_aload_n (pc := 0) G dJ2_clear_0 rfl rfl ?_
  refine ax_dup (pc := 1) G dJ2_clear_1 rfl ?_
  refine ax_getf (pc := 2) (v := .int mc) G flJ2_63_16 dJ2_clear_2 (hL) rfl ?_
  refine ax_iconst (pc := 5) (v := nI 1) G dJ2_clear_5 ic_1 ?_
  refine ax_iadd (pc := 6) G dJ2_clear_6 ?_
  refine ax_putf (pc := 7) G flJ2_63_16 dJ2_clear_7 (hL) (by omega) (Nat.le_of_ble_eq_true rfl) rfl rfl ?_
  refine ax_hvS wf (by omega) (fun h18 g18 f18 z18 w18 => ?_)
  replace g18 : h18.1 L = some (.inr (16, [.int (mc + (nI 1)), .ref e, .int (nI n)])) := g18
  refine ax_aload_n (pc := 10) G dJ2_clear_10 rfl rfl ?_
  refine ax_getf (pc := 11) (v := .ref e) G flJ2_9_16 dJ2_clear_11 (g18) rfl ?_
  refine ax_astore_n (pc := 14) G dJ2_clear_14 rfl (Nat.le_of_ble_eq_true rfl) rfl ?_
  refine ax_aload_n (pc := 15) G dJ2_clear_15 rfl rfl ?_
  refine ax_getf (pc := 16) (v := .int (nI n)) G flJ2_48_16 dJ2_clear_16 (g18) rfl ?_
  refine ax_istore_n (pc := 19) G dJ2_clear_19 rfl (Nat.le_of_ble_eq_true rfl) rfl ?_
  refine ax_aload_n (pc := 20) G dJ2_clear_20 rfl rfl ?_
  refine ax_iconst (pc := 21) (v := nI 0) G dJ2_clear_21 ic_0 ?_
  refine ax_dup_x1 (pc := 22) G dJ2_clear_22 rfl rfl ?_
  refine ax_putf (pc := 23) G flJ2_48_16 dJ2_clear_23 (g18) (by omega) (Nat.le_of_ble_eq_true rfl) rfl rfl ?_
  refine ax_hvS w18 (by omega) (fun h19 g19 f19 z19 w19 => ?_)
  replace g19 : h19.1 L = some (.inr (16, [.int (mc + (nI 1)), .ref e, .int (nI 0)])) := g19
  refine ax_istore_n (pc := 26) G dJ2_clear_26 rfl (Nat.le_of_ble_eq_true rfl) rfl ?_
  have L1 : ∀ (k i : Nat) (hh1 : ax_H) (f9 : Nat → Option Nat), i + k = n → hh1.1 e = some (.inl ((.object "java/lang/Object"), cap, .inr (.inr (.inr (.inr f9))))) → (∀ i, i < cap → ∀ q, f9 i = some q → f i = some q) → (∀ q, q ≠ e → hh1.1 q = h19.1 q) → hh1.2 = h19.2 → ax_wf hh1 → ax_W Ω Γ 0 0 hh1 27 [some (.ref L), some (.ref e), some (.int (nI n)), some (.int (nI i))] [] := by
    intro k
    induction k with
    | zero =>
      intro i hh1 f9 hi gk1_0 iv1_0 fr1 zr1 wr1
      have hi9 : i = n := by omega
      subst hi9
      refine ax_iload_n (pc := 27) G dJ2_clear_27 rfl rfl ?_
      refine ax_iload_n (pc := 28) G dJ2_clear_28 rfl rfl ?_
      refine ax_icmp_geN (pc := 29) (tgt := 42) G dJ2_clear_29 rfl (by omega) (by omega) (fun c29 => ?_) (fun c29 => ?_)
      · exact ax_vretP (pc := 42) G E rfl dJ2_clear_42 (⟨_, rfl, rfl, f9, (fr1 _ (by omega)).trans (g19), gk1_0, iv1_0, fun q a1 a2 => (fr1 _ (by omega)).trans ((f19 _ (by omega)).trans ((f18 _ (by omega)))), by omega, wr1⟩)
      · omega
    | succ k ih =>
      intro i hh1 f9 hi gk1_0 iv1_0 fr1 zr1 wr1
      refine ax_iload_n (pc := 27) G dJ2_clear_27 rfl rfl ?_
      refine ax_iload_n (pc := 28) G dJ2_clear_28 rfl rfl ?_
      refine ax_icmp_geN (pc := 29) (tgt := 42) G dJ2_clear_29 rfl (by omega) (by omega) (fun c29 => ?_) (fun c29 => ?_)
      · omega
      · refine ax_aload_n (pc := 32) G dJ2_clear_32 rfl rfl ?_
        refine ax_iload_n (pc := 33) G dJ2_clear_33 rfl rfl ?_
        refine ax_null (pc := 34) G dJ2_clear_34 ?_
        refine ax_aastoreN (pc := 35) G i dJ2_clear_35 (gk1_0) (by omega) rfl (by omega) (by omega) ?_
        refine ax_hvS wr1 (by omega) (fun h20 g20 f20 z20 w20 => ?_)
        refine ax_iincN (pc := 36) (n := 1) G dJ2_clear_36 rfl rfl ic_1 ?_
        refine ax_goto (pc := 39) (tgt := 27) G dJ2_clear_39 rfl ?_
        exact ih (i + 1) h20 _ (by omega) (g20) (va_up_none iv1_0) (fun q a0 => (f20 _ (by omega)).trans ((fr1 _ (by omega)))) (by omega) w20
  exact L1 n 0 h19 f (by omega) ((f19 _ (by omega)).trans ((f18 _ (by omega)).trans (hE))) (fun _ _ _ z => z) (fun q a0 => rfl) rfl w19

theorem nI_sub17 : ∀ a, a < 17 → ∀ b, b < 17 → a < b → nI a - nI b < 0 ∧ (nI a - nI b) + nI 17 = nI (a + 17 - b) := by decide +kernel
theorem ct_qsubA {Ω : ax_O} (hA : ax_Amb Ω) {h : ax_H} (a b : Nat) (hab : b ≤ a) (ha : a < 17) : ax_Met Ω yJ17_sub 0 0 0 [.int (nI a), .int (nI b), .int (nI 17)] h (.inl (some (.int (nI (a - b))))) h := by
  refine ax_met q824 q141 (by decide +kernel) (by decide) hA (Nat.le_of_ble_eq_true rfl) (fun Γ G E => ?_)
  show ax_W Ω Γ 0 0 h 0 [some (.int (nI a)), some (.int (nI b)), some (.int (nI 17))] []
  refine ax_iload_n (pc := 0) G dJ17_sub_0 rfl rfl ?_
  refine ax_iload_n (pc := 1) G dJ17_sub_1 rfl rfl ?_
  refine ax_isubN (pc := 2) G dJ17_sub_2 (by omega) ?_
  refine ax_dup (pc := 3) G dJ17_sub_3 rfl ?_
  refine ax_istore_n (pc := 4) G dJ17_sub_4 rfl (Nat.le_of_ble_eq_true rfl) rfl ?_
  refine ax_if_ge (pc := 5) (tgt := 12) G dJ17_sub_5 rfl (fun _ => ?_) (fun c9 => absurd (nI_le (a := 0) (Nat.zero_le _) (by omega)) c9)
  refine ax_iload_n (pc := 12) G dJ17_sub_12 rfl rfl ?_
  exact ax_iretE (pc := 13) G E rfl (rfl) dJ17_sub_13 (rfl) (rfl)

theorem ct_qsubB {Ω : ax_O} (hA : ax_Amb Ω) {h : ax_H} (a b : Nat) (hab : a < b) (hb : b < 17) : ax_Met Ω yJ17_sub 0 0 0 [.int (nI a), .int (nI b), .int (nI 17)] h (.inl (some (.int (nI (a + 17 - b))))) h := by
  refine ax_met q824 q141 (by decide +kernel) (by decide) hA (Nat.le_of_ble_eq_true rfl) (fun Γ G E => ?_)
  show ax_W Ω Γ 0 0 h 0 [some (.int (nI a)), some (.int (nI b)), some (.int (nI 17))] []
  refine ax_iload_n (pc := 0) G dJ17_sub_0 rfl rfl ?_
  refine ax_iload_n (pc := 1) G dJ17_sub_1 rfl rfl ?_
  refine ax_isub (pc := 2) G dJ17_sub_2 ?_
  refine ax_dup (pc := 3) G dJ17_sub_3 rfl ?_
  refine ax_istore_n (pc := 4) G dJ17_sub_4 rfl (Nat.le_of_ble_eq_true rfl) rfl ?_
  refine ax_if_ge (pc := 5) (tgt := 12) G dJ17_sub_5 rfl (fun c9 => absurd c9 (Int32.not_le.mpr (nI_sub17 a (by omega) b hb hab).1)) (fun _ => ?_)
  refine ax_iload_n (pc := 8) G dJ17_sub_8 rfl rfl ?_
  refine ax_iload_n (pc := 9) G dJ17_sub_9 rfl rfl ?_
  refine ax_iadd (pc := 10) G dJ17_sub_10 ?_
  refine ax_istore_n (pc := 11) G dJ17_sub_11 rfl (Nat.le_of_ble_eq_true rfl) rfl ?_
  refine ax_iload_n (pc := 12) G dJ17_sub_12 rfl rfl ?_
  exact ax_iretE (pc := 13) G E rfl (rfl) dJ17_sub_13 ((nI_sub17 a (by omega) b hb hab).2) (rfl)

theorem ct_qinc {Ω : ax_O} (hA : ax_Amb Ω) {h : ax_H} (a : Nat) (ha : a < 17) : ax_Met Ω yJ17_inc 0 0 0 [.int (nI a), .int (nI 17)] h (.inl (some (.int (nI ((a + 1) % 17))))) h := by
  refine ax_met q2402 q141 (by decide +kernel) (by decide) hA (Nat.le_of_ble_eq_true rfl) (fun Γ G E => ?_)
  show ax_W Ω Γ 0 0 h 0 [some (.int (nI a)), some (.int (nI 17))] []
  refine ax_iincN (pc := 0) (n := 1) G dJ17_inc_0 rfl rfl ic_1 ?_
  refine ax_iload_n (pc := 3) G dJ17_inc_3 rfl rfl ?_
  refine ax_iload_n (pc := 4) G dJ17_inc_4 rfl rfl ?_
  refine ax_icmp_ltN (pc := 5) (tgt := 10) G dJ17_inc_5 rfl (by omega) (by omega) (fun c5 => ?_) (fun c5 => ?_)
  · refine ax_iload_n (pc := 10) G dJ17_inc_10 rfl rfl ?_
    exact ax_iretE (pc := 11) G E rfl (rfl) dJ17_inc_11 (congrArg nI (by omega)) (rfl)
  · refine ax_iconst (pc := 8) (v := nI 0) G dJ17_inc_8 ic_0 ?_
    refine ax_istore_n (pc := 9) G dJ17_inc_9 rfl (Nat.le_of_ble_eq_true rfl) rfl ?_
    refine ax_iload_n (pc := 10) G dJ17_inc_10 rfl rfl ?_
    exact ax_iretE (pc := 11) G E rfl (rfl) dJ17_inc_11 (congrArg nI (by omega)) (rfl)

theorem nI_dec1 : ∀ a, a < 17 → 0 < a → nI a + Int32.ofInt (-1) = nI (a - 1) := by decide +kernel
theorem ct_qdec0 {Ω : ax_O} (hA : ax_Amb Ω) {h : ax_H}  : ax_Met Ω yJ17_dec 0 0 0 [.int (nI 0), .int (nI 17)] h (.inl (some (.int (nI 16)))) h := by
  refine ax_met q2533 q141 (by decide +kernel) (by decide) hA (Nat.le_of_ble_eq_true rfl) (fun Γ G E => ?_)
  show ax_W Ω Γ 0 0 h 0 [some (.int (nI 0)), some (.int (nI 17))] []
  refine ax_iinc (pc := 0) (v := (-1)) G dJ17_dec_0 rfl (by decide) rfl ?_
  refine ax_iload_n (pc := 3) G dJ17_dec_3 rfl rfl ?_
  refine ax_if_ge (pc := 4) (tgt := 11) G dJ17_dec_4 rfl (fun c9 => absurd c9 (by decide)) (fun _ => ?_)
  refine ax_iload_n (pc := 7) G dJ17_dec_7 rfl rfl ?_
  refine ax_iconst (pc := 8) (v := nI 1) G dJ17_dec_8 ic_1 ?_
  refine ax_isubN (pc := 9) G dJ17_dec_9 (by omega) ?_
  refine ax_istore_n (pc := 10) G dJ17_dec_10 rfl (Nat.le_of_ble_eq_true rfl) rfl ?_
  refine ax_iload_n (pc := 11) G dJ17_dec_11 rfl rfl ?_
  exact ax_iretE (pc := 12) G E rfl (rfl) dJ17_dec_12 (rfl) (rfl)

theorem ct_qdec1 {Ω : ax_O} (hA : ax_Amb Ω) {h : ax_H} (a : Nat) (ha : a < 17) (ha0 : 0 < a) : ax_Met Ω yJ17_dec 0 0 0 [.int (nI a), .int (nI 17)] h (.inl (some (.int (nI (a - 1))))) h := by
  refine ax_met q2533 q141 (by decide +kernel) (by decide) hA (Nat.le_of_ble_eq_true rfl) (fun Γ G E => ?_)
  show ax_W Ω Γ 0 0 h 0 [some (.int (nI a)), some (.int (nI 17))] []
  refine ax_iinc (pc := 0) (v := nI (a - 1)) G dJ17_dec_0 rfl (nI_dec1 a ha ha0) rfl ?_
  refine ax_iload_n (pc := 3) G dJ17_dec_3 rfl rfl ?_
  refine ax_if_ge (pc := 4) (tgt := 11) G dJ17_dec_4 rfl (fun _ => ?_) (fun c9 => absurd (nI_le (a := 0) (Nat.zero_le _) (by omega)) c9)
  refine ax_iload_n (pc := 11) G dJ17_dec_11 rfl rfl ?_
  exact ax_iretE (pc := 12) G E rfl (rfl) dJ17_dec_12 (rfl) (rfl)

theorem ct_qat {Ω : ax_O} (hA : ax_Amb Ω) {h : ax_H} {e : Nat} {f : Nat → Option Nat} (hE : h.1 e = some (.inl (.object "java/lang/Object", 17, .inr (.inr (.inr (.inr f)))))) (i : Nat) (hi : i < 17) {q : Nat} (hf : f i = some q) : ax_Met Ω yJ17_elementAt 0 0 0 [.ref e, .int (nI i)] h (.inl (some (.ref q))) h := by
  refine ax_met q2399 q141 (by decide +kernel) (by decide) hA (Nat.le_of_ble_eq_true rfl) (fun Γ G E => ?_)
  show ax_W Ω Γ 0 0 h 0 [some (.ref e), some (.int (nI i))] []
  refine ax_aload_n (pc := 0) G dJ17_elementAt_0 rfl rfl ?_
  refine ax_iload_n (pc := 1) G dJ17_elementAt_1 rfl rfl ?_
  refine ax_aaload (pc := 2) G i dJ17_elementAt_2 (hE) rfl (by omega) (by omega) ?_
  refine ax_top (show va_rf _ = .ref q from by rw [hf]; rfl) ?_
  exact ax_aretE (pc := 3) G E rfl (Or.inl ⟨_, rfl⟩) (Or.inr ⟨_, rfl⟩) dJ17_elementAt_3 (rfl) (rfl)

theorem ct_qsub {Ω : ax_O} (hA : ax_Amb Ω) {h : ax_H} (a b : Nat) (ha : a < 17) (hb : b < 17) : ax_Met Ω yJ17_sub 0 0 0 [.int (nI a), .int (nI b), .int (nI 17)] h (.inl (some (.int (nI ((a + 17 - b) % 17))))) h := by
  by_cases c : b ≤ a
  · rw [show (a + 17 - b) % 17 = a - b from by omega]; exact ct_qsubA hA a b c ha
  · rw [show (a + 17 - b) % 17 = a + 17 - b from by omega]; exact ct_qsubB hA a b (by omega) hb
theorem ct_qdec {Ω : ax_O} (hA : ax_Amb Ω) {h : ax_H} (a : Nat) (ha : a < 17) : ax_Met Ω yJ17_dec 0 0 0 [.int (nI a), .int (nI 17)] h (.inl (some (.int (nI ((a + 16) % 17))))) h := by
  by_cases c : a = 0
  · subst c; exact ct_qdec0 hA
  · rw [show (a + 16) % 17 = a - 1 from by omega]; exact ct_qdec1 hA a ha (by omega)
theorem ct_qsize {Ω : ax_O} (hA : ax_Amb Ω) {h : ax_H} (wf : ax_wf h) {Q e hd tl : Nat} {f : Nat → Option Nat} (hQ : h.1 Q = some (.inr (17, [.ref e, .int (nI hd), .int (nI tl)]))) (hE : h.1 e = some (.inl (.object "java/lang/Object", 17, .inr (.inr (.inr (.inr f)))))) (hhd : hd < 17) (htl : tl < 17) (n : Nat) (hn : n < 17) (ht : tl = (hd + n) % 17) : ax_Met Ω yJ17_size 1 0 0 [.ref Q] h (.inl (some (.int (nI n)))) h := by
  refine ax_met q821 q141 (by decide +kernel) (by decide) hA (Nat.le_of_ble_eq_true rfl) (fun Γ G E => ?_)
  show ax_W Ω Γ 0 0 h 0 [some (.ref Q)] []
  refine ax_aload_n (pc := 0) G dJ17_size_0 rfl rfl ?_
  refine ax_getf (pc := 1) (v := .int (nI tl)) G flJ17_20_17 dJ17_size_1 (hQ) rfl ?_
  refine ax_aload_n (pc := 4) G dJ17_size_4 rfl rfl ?_
  refine ax_getf (pc := 5) (v := .int (nI hd)) G flJ17_24_17 dJ17_size_5 (hQ) rfl ?_
  refine ax_aload_n (pc := 8) G dJ17_size_8 rfl rfl ?_
  refine ax_getf (pc := 9) (v := .ref e) G flJ17_3_17 dJ17_size_9 (hQ) rfl ?_
  refine ax_alen (pc := 12) (v := nI 17) G dJ17_size_12 (hE) rfl ?_
  refine ax_cS1 (pc := 13) (kb := 0) (nb := 0) G (ct_qsub hA tl hd (by omega) (by omega)) lSJ17_127 dJ17_size_13 rfl (by decide) (Nat.le_of_ble_eq_true rfl) rfl ?_
  exact ax_iretE (pc := 16) G E rfl (rfl) dJ17_size_16 (congrArg nI (by omega)) (rfl)

theorem ct_qaddLast {Ω : ax_O} (hA : ax_Amb Ω) {h : ax_H} (wf : ax_wf h) (hz : Ω.2.1.heap.size ≤ h.2) {Q e hd tl : Nat} {f : Nat → Option Nat} (hQ : h.1 Q = some (.inr (17, [.ref e, .int (nI hd), .int (nI tl)]))) (hbQ : Ω.2.1.heap.size ≤ Q) (hE : h.1 e = some (.inl (.object "java/lang/Object", 17, .inr (.inr (.inr (.inr f)))))) (hbe : Ω.2.1.heap.size ≤ e) (hhd : hd < 17) (htl : tl < 17) (hfull : (tl + 1) % 17 ≠ hd) {x cx : Nat} {xf : List Value} (hx : h.1 x = some (.inr (cx, xf))) (hmx : ax_may cx "java/lang/Object")  : ax_MetP Ω yJ17_addLast 2 0 0 [.ref Q, .ref x] h (ax_Nm (fun v h' => v = none ∧ h'.1 Q = some (.inr (17, [.ref e, .int (nI hd), .int (nI ((tl + 1) % 17))])) ∧ h'.1 e = some (.inl (.object "java/lang/Object", 17, .inr (.inr (.inr (.inr (va_up f tl (some x))))))) ∧ (∀ q, q ≠ Q → q ≠ e → h'.1 q = h.1 q) ∧ h'.2 = h.2 ∧ ax_wf h')) := by
  refine ax_metP q2424 q141 (by decide +kernel) (by decide) hA (Nat.le_of_ble_eq_true rfl) (fun Γ G E => ?_)
  have hlQ := wf.lt hQ
  have hle := wf.lt hE
  have hQe : Q ≠ e := fun z => by rw [z, hE] at hQ; cases hQ
  have hlx := wf.lt hx
  have hxe : x ≠ e := fun z => by rw [z, hE] at hx; cases hx
  show ax_W Ω Γ 0 0 h 0 [some (.ref Q), some (.ref x), none] []
  refine ax_aload_n (pc := 0) G dJ17_addLast_0 rfl rfl ?_
  refine ax_ifnonnull (pc := 1) (tgt := 12) G dJ17_addLast_1 rfl ?_
  refine ax_aload_n (pc := 12) G dJ17_addLast_12 rfl rfl ?_
  refine ax_getf (pc := 13) (v := .ref e) G flJ17_3_17 dJ17_addLast_13 (hQ) rfl ?_
  refine ax_astore_n (pc := 16) G dJ17_addLast_16 rfl (Nat.le_of_ble_eq_true rfl) rfl ?_
  refine ax_aload_n (pc := 17) G dJ17_addLast_17 rfl rfl ?_
  refine ax_aload_n (pc := 18) G dJ17_addLast_18 rfl rfl ?_
  refine ax_getf (pc := 19) (v := .int (nI tl)) G flJ17_20_17 dJ17_addLast_19 (hQ) rfl ?_
  refine ax_aload_n (pc := 22) G dJ17_addLast_22 rfl rfl ?_
  refine ax_aastore (pc := 23) G tl dJ17_addLast_23 (hE) (by omega) (hx) hmx rfl (by omega) (by decide) ?_
  refine ax_hvS wf (by omega) (fun h21 g21 f21 z21 w21 => ?_)
  refine ax_aload_n (pc := 24) G dJ17_addLast_24 rfl rfl ?_
  refine ax_getf (pc := 25) (v := .int (nI hd)) G flJ17_24_17 dJ17_addLast_25 ((f21 _ (by omega)).trans (hQ)) rfl ?_
  refine ax_aload_n (pc := 28) G dJ17_addLast_28 rfl rfl ?_
  refine ax_aload_n (pc := 29) G dJ17_addLast_29 rfl rfl ?_
  refine ax_getf (pc := 30) (v := .int (nI tl)) G flJ17_20_17 dJ17_addLast_30 ((f21 _ (by omega)).trans (hQ)) rfl ?_
  refine ax_aload_n (pc := 33) G dJ17_addLast_33 rfl rfl ?_
  refine ax_alen (pc := 34) (v := nI 17) G dJ17_addLast_34 (g21) rfl ?_
  refine ax_cS1 (pc := 35) (kb := 0) (nb := 0) G (ct_qinc hA tl (by omega)) lSJ17_74 dJ17_addLast_35 rfl (by decide) (Nat.le_of_ble_eq_true rfl) rfl ?_
  refine ax_dup_x1 (pc := 38) G dJ17_addLast_38 rfl rfl ?_
  refine ax_putf (pc := 39) G flJ17_20_17 dJ17_addLast_39 ((f21 _ (by omega)).trans (hQ)) (by omega) (Nat.le_of_ble_eq_true rfl) rfl rfl ?_
  refine ax_hvS w21 (by omega) (fun h22 g22 f22 z22 w22 => ?_)
  replace g22 : h22.1 Q = some (.inr (17, [.ref e, .int (nI hd), .int (nI ((tl + 1) % 17))])) := g22
  refine ax_icmp_neN (pc := 42) (tgt := 50) G dJ17_addLast_42 rfl (by omega) (by omega) (fun c42 => ?_) (fun c42 => ?_)
  · exact ax_vretP (pc := 50) G E rfl dJ17_addLast_50 (⟨_, rfl, rfl, g22, (f22 _ (by omega)).trans (g21), fun q a1 a2 => (f22 _ (by omega)).trans ((f21 _ (by omega))), by omega, w22⟩)
  · omega

theorem ct_qpollFirst {Ω : ax_O} (hA : ax_Amb Ω) {h : ax_H} (wf : ax_wf h) (hz : Ω.2.1.heap.size ≤ h.2) {Q e hd tl : Nat} {f : Nat → Option Nat} (hQ : h.1 Q = some (.inr (17, [.ref e, .int (nI hd), .int (nI tl)]))) (hbQ : Ω.2.1.heap.size ≤ Q) (hE : h.1 e = some (.inl (.object "java/lang/Object", 17, .inr (.inr (.inr (.inr f)))))) (hbe : Ω.2.1.heap.size ≤ e) (hhd : hd < 17) (htl : tl < 17) {q0 : Nat} (hf : f hd = some q0) : ax_MetP Ω yJ17_pollFirst 2 0 0 [.ref Q] h (ax_Nm (fun v h' => v = some (.ref q0) ∧ h'.1 Q = some (.inr (17, [.ref e, .int (nI ((hd + 1) % 17)), .int (nI tl)])) ∧ h'.1 e = some (.inl (.object "java/lang/Object", 17, .inr (.inr (.inr (.inr (va_up f hd none)))))) ∧ (∀ q, q ≠ Q → q ≠ e → h'.1 q = h.1 q) ∧ h'.2 = h.2 ∧ ax_wf h')) := by
  refine ax_metP q2396 q141 (by decide +kernel) (by decide) hA (Nat.le_of_ble_eq_true rfl) (fun Γ G E => ?_)
  have hlQ := wf.lt hQ
  have hle := wf.lt hE
  have hQe : Q ≠ e := fun z => by rw [z, hE] at hQ; cases hQ
  show ax_W Ω Γ 0 0 h 0 [some (.ref Q), none, none, none] []
  refine ax_aload_n (pc := 0) G dJ17_pollFirst_0 rfl rfl ?_
  refine ax_getf (pc := 1) (v := .ref e) G flJ17_3_17 dJ17_pollFirst_1 (hQ) rfl ?_
  refine ax_dup (pc := 4) G dJ17_pollFirst_4 rfl ?_
  refine ax_astore_n (pc := 5) G dJ17_pollFirst_5 rfl (Nat.le_of_ble_eq_true rfl) rfl ?_
  refine ax_aload_n (pc := 6) G dJ17_pollFirst_6 rfl rfl ?_
  refine ax_getf (pc := 7) (v := .int (nI hd)) G flJ17_24_17 dJ17_pollFirst_7 (hQ) rfl ?_
  refine ax_dup (pc := 10) G dJ17_pollFirst_10 rfl ?_
  refine ax_istore_n (pc := 11) G dJ17_pollFirst_11 rfl (Nat.le_of_ble_eq_true rfl) rfl ?_
  refine ax_cS1 (pc := 12) (kb := 0) (nb := 0) G (ct_qat hA (hE) hd (by omega) hf) lSJ17_103 dJ17_pollFirst_12 rfl (by decide) (Nat.le_of_ble_eq_true rfl) rfl ?_
  refine ax_astore_n (pc := 15) G dJ17_pollFirst_15 rfl (Nat.le_of_ble_eq_true rfl) rfl ?_
  refine ax_aload_n (pc := 16) G dJ17_pollFirst_16 rfl rfl ?_
  refine ax_ifnull (pc := 17) G dJ17_pollFirst_17 ?_
  refine ax_aload_n (pc := 20) G dJ17_pollFirst_20 rfl rfl ?_
  refine ax_iload_n (pc := 21) G dJ17_pollFirst_21 rfl rfl ?_
  refine ax_null (pc := 22) G dJ17_pollFirst_22 ?_
  refine ax_aastoreN (pc := 23) G hd dJ17_pollFirst_23 (hE) (by omega) rfl (by omega) (by decide) ?_
  refine ax_hvS wf (by omega) (fun h23 g23 f23 z23 w23 => ?_)
  refine ax_aload_n (pc := 24) G dJ17_pollFirst_24 rfl rfl ?_
  refine ax_iload_n (pc := 25) G dJ17_pollFirst_25 rfl rfl ?_
  refine ax_aload_n (pc := 26) G dJ17_pollFirst_26 rfl rfl ?_
  refine ax_alen (pc := 27) (v := nI 17) G dJ17_pollFirst_27 (g23) rfl ?_
  refine ax_cS1 (pc := 28) (kb := 0) (nb := 0) G (ct_qinc hA hd (by omega)) lSJ17_74 dJ17_pollFirst_28 rfl (by decide) (Nat.le_of_ble_eq_true rfl) rfl ?_
  refine ax_putf (pc := 31) G flJ17_24_17 dJ17_pollFirst_31 ((f23 _ (by omega)).trans (hQ)) (by omega) (Nat.le_of_ble_eq_true rfl) rfl rfl ?_
  refine ax_hvS w23 (by omega) (fun h24 g24 f24 z24 w24 => ?_)
  replace g24 : h24.1 Q = some (.inr (17, [.ref e, .int (nI ((hd + 1) % 17)), .int (nI tl)])) := g24
  refine ax_aload_n (pc := 34) G dJ17_pollFirst_34 rfl rfl ?_
  exact ax_aretP (pc := 35) G E rfl (Or.inl ⟨_, rfl⟩) (Or.inr ⟨_, rfl⟩) dJ17_pollFirst_35 (⟨_, rfl, rfl, g24, (f24 _ (by omega)).trans (g23), fun q a1 a2 => (f24 _ (by omega)).trans ((f23 _ (by omega))), by omega, w24⟩)

theorem ct_qpollLast {Ω : ax_O} (hA : ax_Amb Ω) {h : ax_H} (wf : ax_wf h) (hz : Ω.2.1.heap.size ≤ h.2) {Q e hd tl : Nat} {f : Nat → Option Nat} (hQ : h.1 Q = some (.inr (17, [.ref e, .int (nI hd), .int (nI tl)]))) (hbQ : Ω.2.1.heap.size ≤ Q) (hE : h.1 e = some (.inl (.object "java/lang/Object", 17, .inr (.inr (.inr (.inr f)))))) (hbe : Ω.2.1.heap.size ≤ e) (hhd : hd < 17) (htl : tl < 17) {q0 : Nat} (hf : f ((tl + 16) % 17) = some q0) : ax_MetP Ω yJ17_pollLast 2 0 0 [.ref Q] h (ax_Nm (fun v h' => v = some (.ref q0) ∧ h'.1 Q = some (.inr (17, [.ref e, .int (nI hd), .int (nI ((tl + 16) % 17))])) ∧ h'.1 e = some (.inl (.object "java/lang/Object", 17, .inr (.inr (.inr (.inr (va_up f ((tl + 16) % 17) none)))))) ∧ (∀ q, q ≠ Q → q ≠ e → h'.1 q = h.1 q) ∧ h'.2 = h.2 ∧ ax_wf h')) := by
  refine ax_metP q2530 q141 (by decide +kernel) (by decide) hA (Nat.le_of_ble_eq_true rfl) (fun Γ G E => ?_)
  have hlQ := wf.lt hQ
  have hle := wf.lt hE
  have hQe : Q ≠ e := fun z => by rw [z, hE] at hQ; cases hQ
  show ax_W Ω Γ 0 0 h 0 [some (.ref Q), none, none, none] []
  refine ax_aload_n (pc := 0) G dJ17_pollLast_0 rfl rfl ?_
  refine ax_getf (pc := 1) (v := .ref e) G flJ17_3_17 dJ17_pollLast_1 (hQ) rfl ?_
  refine ax_dup (pc := 4) G dJ17_pollLast_4 rfl ?_
  refine ax_astore_n (pc := 5) G dJ17_pollLast_5 rfl (Nat.le_of_ble_eq_true rfl) rfl ?_
  refine ax_aload_n (pc := 6) G dJ17_pollLast_6 rfl rfl ?_
  refine ax_getf (pc := 7) (v := .int (nI tl)) G flJ17_20_17 dJ17_pollLast_7 (hQ) rfl ?_
  refine ax_aload_n (pc := 10) G dJ17_pollLast_10 rfl rfl ?_
  refine ax_alen (pc := 11) (v := nI 17) G dJ17_pollLast_11 (hE) rfl ?_
  refine ax_cS1 (pc := 12) (kb := 0) (nb := 0) G (ct_qdec hA tl (by omega)) lSJ17_68 dJ17_pollLast_12 rfl (by decide) (Nat.le_of_ble_eq_true rfl) rfl ?_
  refine ax_dup (pc := 15) G dJ17_pollLast_15 rfl ?_
  refine ax_istore_n (pc := 16) G dJ17_pollLast_16 rfl (Nat.le_of_ble_eq_true rfl) rfl ?_
  refine ax_cS1 (pc := 17) (kb := 0) (nb := 0) G (ct_qat hA (hE) ((tl + 16) % 17) (by omega) hf) lSJ17_103 dJ17_pollLast_17 rfl (by decide) (Nat.le_of_ble_eq_true rfl) rfl ?_
  refine ax_astore_n (pc := 20) G dJ17_pollLast_20 rfl (Nat.le_of_ble_eq_true rfl) rfl ?_
  refine ax_aload_n (pc := 21) G dJ17_pollLast_21 rfl rfl ?_
  refine ax_ifnull (pc := 22) G dJ17_pollLast_22 ?_
  refine ax_aload_n (pc := 25) G dJ17_pollLast_25 rfl rfl ?_
  refine ax_aload_n (pc := 26) G dJ17_pollLast_26 rfl rfl ?_
  refine ax_iload_n (pc := 27) G dJ17_pollLast_27 rfl rfl ?_
  refine ax_dup_x1 (pc := 28) G dJ17_pollLast_28 rfl rfl ?_
  refine ax_putf (pc := 29) G flJ17_20_17 dJ17_pollLast_29 (hQ) (by omega) (Nat.le_of_ble_eq_true rfl) rfl rfl ?_
  refine ax_hvS wf (by omega) (fun h25 g25 f25 z25 w25 => ?_)
  replace g25 : h25.1 Q = some (.inr (17, [.ref e, .int (nI hd), .int (nI ((tl + 16) % 17))])) := g25
  refine ax_null (pc := 32) G dJ17_pollLast_32 ?_
  refine ax_aastoreN (pc := 33) G ((tl + 16) % 17) dJ17_pollLast_33 ((f25 _ (by omega)).trans (hE)) (by omega) rfl (by omega) (by decide) ?_
  refine ax_hvS w25 (by omega) (fun h26 g26 f26 z26 w26 => ?_)
  refine ax_aload_n (pc := 34) G dJ17_pollLast_34 rfl rfl ?_
  exact ax_aretP (pc := 35) G E rfl (Or.inl ⟨_, rfl⟩) (Or.inr ⟨_, rfl⟩) dJ17_pollLast_35 (⟨_, rfl, rfl, (f26 _ (by omega)).trans (g25), g26, fun q a1 a2 => (f26 _ (by omega)).trans ((f25 _ (by omega))), by omega, w26⟩)

theorem ct_qremoveFirst {Ω : ax_O} (hA : ax_Amb Ω) {h : ax_H} (wf : ax_wf h) (hz : Ω.2.1.heap.size ≤ h.2) {Q e hd tl : Nat} {f : Nat → Option Nat} (hQ : h.1 Q = some (.inr (17, [.ref e, .int (nI hd), .int (nI tl)]))) (hbQ : Ω.2.1.heap.size ≤ Q) (hE : h.1 e = some (.inl (.object "java/lang/Object", 17, .inr (.inr (.inr (.inr f)))))) (hbe : Ω.2.1.heap.size ≤ e) (hhd : hd < 17) (htl : tl < 17) {q0 : Nat} (hf : f hd = some q0) : ax_MetP Ω yJ17_removeFirst 3 0 0 [.ref Q] h (ax_Nm (fun v h' => v = some (.ref q0) ∧ h'.1 Q = some (.inr (17, [.ref e, .int (nI ((hd + 1) % 17)), .int (nI tl)])) ∧ h'.1 e = some (.inl (.object "java/lang/Object", 17, .inr (.inr (.inr (.inr (va_up f hd none)))))) ∧ (∀ q, q ≠ Q → q ≠ e → h'.1 q = h.1 q) ∧ h'.2 = h.2 ∧ ax_wf h')) := by
  refine ax_metP q2392 q141 (by decide +kernel) (by decide) hA (Nat.le_of_ble_eq_true rfl) (fun Γ G E => ?_)
  have hlQ := wf.lt hQ
  have hle := wf.lt hE
  have hQe : Q ≠ e := fun z => by rw [z, hE] at hQ; cases hQ
  show ax_W Ω Γ 0 0 h 0 [some (.ref Q), none] []
  refine ax_aload_n (pc := 0) G dJ17_removeFirst_0 rfl rfl ?_
  refine ax_nV (pc := 1) (kb := 0) (nb := 0) G (ct_qpollFirst hA wf (by omega) (hQ) hbQ (hE) hbe hhd htl hf) lVJ17_93_17 dJ17_removeFirst_1 (hQ) rfl (by decide) (Nat.le_of_ble_eq_true rfl) rfl (fun v27 h27 q9 => ?_)
  obtain ⟨rfl, g27, k27, f27, z27, w27⟩ := q9
  show ax_W Ω Γ _ _ (h27) _ _ (.ref q0 :: _)
  refine ax_astore_n (pc := 4) G dJ17_removeFirst_4 rfl (Nat.le_of_ble_eq_true rfl) rfl ?_
  refine ax_aload_n (pc := 5) G dJ17_removeFirst_5 rfl rfl ?_
  refine ax_ifnonnull (pc := 6) (tgt := 17) G dJ17_removeFirst_6 rfl ?_
  refine ax_aload_n (pc := 17) G dJ17_removeFirst_17 rfl rfl ?_
  exact ax_aretP (pc := 18) G E rfl (Or.inl ⟨_, rfl⟩) (Or.inr ⟨_, rfl⟩) dJ17_removeFirst_18 (⟨_, rfl, rfl, g27, k27, fun q a1 a2 => (f27 _ (by omega) (by omega)), by omega, w27⟩)

theorem ct_qremoveLast {Ω : ax_O} (hA : ax_Amb Ω) {h : ax_H} (wf : ax_wf h) (hz : Ω.2.1.heap.size ≤ h.2) {Q e hd tl : Nat} {f : Nat → Option Nat} (hQ : h.1 Q = some (.inr (17, [.ref e, .int (nI hd), .int (nI tl)]))) (hbQ : Ω.2.1.heap.size ≤ Q) (hE : h.1 e = some (.inl (.object "java/lang/Object", 17, .inr (.inr (.inr (.inr f)))))) (hbe : Ω.2.1.heap.size ≤ e) (hhd : hd < 17) (htl : tl < 17) {q0 : Nat} (hf : f ((tl + 16) % 17) = some q0) : ax_MetP Ω yJ17_removeLast 3 0 0 [.ref Q] h (ax_Nm (fun v h' => v = some (.ref q0) ∧ h'.1 Q = some (.inr (17, [.ref e, .int (nI hd), .int (nI ((tl + 16) % 17))])) ∧ h'.1 e = some (.inl (.object "java/lang/Object", 17, .inr (.inr (.inr (.inr (va_up f ((tl + 16) % 17) none)))))) ∧ (∀ q, q ≠ Q → q ≠ e → h'.1 q = h.1 q) ∧ h'.2 = h.2 ∧ ax_wf h')) := by
  refine ax_metP q2526 q141 (by decide +kernel) (by decide) hA (Nat.le_of_ble_eq_true rfl) (fun Γ G E => ?_)
  have hlQ := wf.lt hQ
  have hle := wf.lt hE
  have hQe : Q ≠ e := fun z => by rw [z, hE] at hQ; cases hQ
  show ax_W Ω Γ 0 0 h 0 [some (.ref Q), none] []
  refine ax_aload_n (pc := 0) G dJ17_removeLast_0 rfl rfl ?_
  refine ax_nV (pc := 1) (kb := 0) (nb := 0) G (ct_qpollLast hA wf (by omega) (hQ) hbQ (hE) hbe hhd htl hf) lVJ17_100_17 dJ17_removeLast_1 (hQ) rfl (by decide) (Nat.le_of_ble_eq_true rfl) rfl (fun v28 h28 q9 => ?_)
  obtain ⟨rfl, g28, k28, f28, z28, w28⟩ := q9
  show ax_W Ω Γ _ _ (h28) _ _ (.ref q0 :: _)
  refine ax_astore_n (pc := 4) G dJ17_removeLast_4 rfl (Nat.le_of_ble_eq_true rfl) rfl ?_
  refine ax_aload_n (pc := 5) G dJ17_removeLast_5 rfl rfl ?_
  refine ax_ifnonnull (pc := 6) (tgt := 17) G dJ17_removeLast_6 rfl ?_
  refine ax_aload_n (pc := 17) G dJ17_removeLast_17 rfl rfl ?_
  exact ax_aretP (pc := 18) G E rfl (Or.inl ⟨_, rfl⟩) (Or.inr ⟨_, rfl⟩) dJ17_removeLast_18 (⟨_, rfl, rfl, g28, k28, fun q a1 a2 => (f28 _ (by omega) (by omega)), by omega, w28⟩)

theorem ct_qcirc {Ω : ax_O} (hA : ax_Amb Ω) {h : ax_H} (wf : ax_wf h) (hz : Ω.2.1.heap.size ≤ h.2) {e hd tl : Nat} {f : Nat → Option Nat} (hE : h.1 e = some (.inl (.object "java/lang/Object", 17, .inr (.inr (.inr (.inr f)))))) (hbe : Ω.2.1.heap.size ≤ e) (hhd : hd < 17) (htl : tl < 17)  : ax_MetP Ω yJ17_circularClear 0 0 0 [.ref e, .int (nI hd), .int (nI tl)] h (ax_Nm (fun v h' => v = none ∧ ∃ f', h'.1 e = some (.inl (.object "java/lang/Object", 17, .inr (.inr (.inr (.inr f'))))) ∧ (∀ q, q ≠ e → h'.1 q = h.1 q) ∧ h'.2 = h.2 ∧ ax_wf h')) := by
  refine ax_metP q1412 q141 (by decide +kernel) (by decide) hA (Nat.le_of_ble_eq_true rfl) (fun Γ G E => ?_)
  have hle := wf.lt hE
  show ax_W Ω Γ 0 0 h 0 [some (.ref e), some (.int (nI hd)), some (.int (nI tl)), none] []
  refine ax_iload_n (pc := 0) G dJ17_circularClear_0 rfl rfl ?_
  refine ax_iload_n (pc := 1) G dJ17_circularClear_1 rfl rfl ?_
  refine ax_icmp_gtN (pc := 2) (tgt := 9) G dJ17_circularClear_2 rfl (by omega) (by omega) (fun c2 => ?_) (fun c2 => ?_)
  · refine ax_aload_n (pc := 9) G dJ17_circularClear_9 rfl rfl ?_
    refine ax_alen (pc := 10) (v := nI 17) G dJ17_circularClear_10 (hE) rfl ?_
    refine ax_istore_n (pc := 11) G dJ17_circularClear_11 rfl (Nat.le_of_ble_eq_true rfl) rfl ?_
    have L2 : ∀ (k i : Nat) (hh2 : ax_H) (f9 : Nat → Option Nat), i + k = 17 → hh2.1 e = some (.inl ((.object "java/lang/Object"), 17, .inr (.inr (.inr (.inr f9))))) → (∀ q, q ≠ e → hh2.1 q = h.1 q) → hh2.2 = h.2 → ax_wf hh2 → ax_W Ω Γ 0 0 hh2 12 [some (.ref e), some (.int (nI i)), some (.int (nI tl)), some (.int (nI 17))] [] := by
      intro k
      induction k with
      | zero =>
        intro i hh2 f9 hi gk2_0 fr2 zr2 wr2
        have hi9 : i = 17 := by omega
        subst hi9
        refine ax_iload_n (pc := 12) G dJ17_circularClear_12 rfl rfl ?_
        refine ax_iload_n (pc := 13) G dJ17_circularClear_13 rfl rfl ?_
        refine ax_icmp_ge (pc := 14) (tgt := 27) G dJ17_circularClear_14 rfl (fun _ => ?_) (fun c9 => absurd (by decide) c9)
        refine ax_iload_n (pc := 27) G dJ17_circularClear_27 rfl rfl ?_
        refine ax_iload_n (pc := 28) G dJ17_circularClear_28 rfl rfl ?_
        refine ax_icmp_neN (pc := 29) (tgt := 35) G dJ17_circularClear_29 rfl (by omega) (by omega) (fun c29 => ?_) (fun c29 => ?_)
        · refine ax_iconst (pc := 35) (v := nI 0) G dJ17_circularClear_35 ic_0 ?_
          refine ax_istore_n (pc := 36) G dJ17_circularClear_36 rfl (Nat.le_of_ble_eq_true rfl) rfl ?_
          refine ax_iload_n (pc := 37) G dJ17_circularClear_37 rfl rfl ?_
          refine ax_istore_n (pc := 38) G dJ17_circularClear_38 rfl (Nat.le_of_ble_eq_true rfl) rfl ?_
          refine ax_goto (pc := 39) (tgt := 12) G dJ17_circularClear_39 rfl ?_
          have L3 : ∀ (k i : Nat) (hh3 : ax_H) (f9 : Nat → Option Nat), i + k = tl → hh3.1 e = some (.inl ((.object "java/lang/Object"), 17, .inr (.inr (.inr (.inr f9))))) → (∀ q, q ≠ e → hh3.1 q = hh2.1 q) → hh3.2 = hh2.2 → ax_wf hh3 → ax_W Ω Γ 0 0 hh3 12 [some (.ref e), some (.int (nI i)), some (.int (nI tl)), some (.int (nI tl))] [] := by
            intro k
            induction k with
            | zero =>
              intro i hh3 f9 hi gk3_0 fr3 zr3 wr3
              have hi9 : i = tl := by omega
              subst hi9
              refine ax_iload_n (pc := 12) G dJ17_circularClear_12 rfl rfl ?_
              refine ax_iload_n (pc := 13) G dJ17_circularClear_13 rfl rfl ?_
              refine ax_icmp_geN (pc := 14) (tgt := 27) G dJ17_circularClear_14 rfl (by omega) (by omega) (fun c14 => ?_) (fun c14 => ?_)
              · refine ax_iload_n (pc := 27) G dJ17_circularClear_27 rfl rfl ?_
                refine ax_iload_n (pc := 28) G dJ17_circularClear_28 rfl rfl ?_
                refine ax_icmp_neN (pc := 29) (tgt := 35) G dJ17_circularClear_29 rfl (by omega) (by omega) (fun c29x => ?_) (fun c29x => ?_)
                · omega
                · refine ax_goto (pc := 32) (tgt := 42) G dJ17_circularClear_32 rfl ?_
                  exact ax_vretP (pc := 42) G E rfl dJ17_circularClear_42 (⟨_, rfl, rfl, _, gk3_0, fun q a1 => (fr3 _ (by omega)).trans ((fr2 _ (by omega))), by omega, wr3⟩)
              · omega
            | succ k ih =>
              intro i hh3 f9 hi gk3_0 fr3 zr3 wr3
              refine ax_iload_n (pc := 12) G dJ17_circularClear_12 rfl rfl ?_
              refine ax_iload_n (pc := 13) G dJ17_circularClear_13 rfl rfl ?_
              refine ax_icmp_geN (pc := 14) (tgt := 27) G dJ17_circularClear_14 rfl (by omega) (by omega) (fun c14 => ?_) (fun c14 => ?_)
              · omega
              · refine ax_aload_n (pc := 17) G dJ17_circularClear_17 rfl rfl ?_
                refine ax_iload_n (pc := 18) G dJ17_circularClear_18 rfl rfl ?_
                refine ax_null (pc := 19) G dJ17_circularClear_19 ?_
                refine ax_aastoreN (pc := 20) G i dJ17_circularClear_20 (gk3_0) (by omega) rfl (by omega) (by decide) ?_
                refine ax_hvS wr3 (by omega) (fun h29 g29 f29 z29 w29 => ?_)
                refine ax_iincN (pc := 21) (n := 1) G dJ17_circularClear_21 rfl rfl ic_1 ?_
                refine ax_goto (pc := 24) (tgt := 12) G dJ17_circularClear_24 rfl ?_
                exact ih (i + 1) h29 _ (by omega) (g29) (fun q a0 => (f29 _ (by omega)).trans ((fr3 _ (by omega)))) (by omega) w29
          exact L3 tl 0 hh2 f9 (by omega) (gk2_0) (fun q a0 => rfl) rfl wr2
        · omega
      | succ k ih =>
        intro i hh2 f9 hi gk2_0 fr2 zr2 wr2
        refine ax_iload_n (pc := 12) G dJ17_circularClear_12 rfl rfl ?_
        refine ax_iload_n (pc := 13) G dJ17_circularClear_13 rfl rfl ?_
        refine ax_icmp_geN (pc := 14) (tgt := 27) G dJ17_circularClear_14 rfl (by omega) (by omega) (fun c14 => ?_) (fun c14 => ?_)
        · omega
        · refine ax_aload_n (pc := 17) G dJ17_circularClear_17 rfl rfl ?_
          refine ax_iload_n (pc := 18) G dJ17_circularClear_18 rfl rfl ?_
          refine ax_null (pc := 19) G dJ17_circularClear_19 ?_
          refine ax_aastoreN (pc := 20) G i dJ17_circularClear_20 (gk2_0) (by omega) rfl (by omega) (by decide) ?_
          refine ax_hvS wr2 (by omega) (fun h30 g30 f30 z30 w30 => ?_)
          refine ax_iincN (pc := 21) (n := 1) G dJ17_circularClear_21 rfl rfl ic_1 ?_
          refine ax_goto (pc := 24) (tgt := 12) G dJ17_circularClear_24 rfl ?_
          exact ih (i + 1) h30 _ (by omega) (g30) (fun q a0 => (f30 _ (by omega)).trans ((fr2 _ (by omega)))) (by omega) w30
    exact L2 (17 - hd) hd h f (by omega) (hE) (fun q a0 => rfl) rfl wf
  · refine ax_iload_n (pc := 5) G dJ17_circularClear_5 rfl rfl ?_
    refine ax_goto (pc := 6) (tgt := 11) G dJ17_circularClear_6 rfl ?_
    refine ax_istore_n (pc := 11) G dJ17_circularClear_11 rfl (Nat.le_of_ble_eq_true rfl) rfl ?_
    have L4 : ∀ (k i : Nat) (hh4 : ax_H) (f9 : Nat → Option Nat), i + k = tl → hh4.1 e = some (.inl ((.object "java/lang/Object"), 17, .inr (.inr (.inr (.inr f9))))) → (∀ q, q ≠ e → hh4.1 q = h.1 q) → hh4.2 = h.2 → ax_wf hh4 → ax_W Ω Γ 0 0 hh4 12 [some (.ref e), some (.int (nI i)), some (.int (nI tl)), some (.int (nI tl))] [] := by
      intro k
      induction k with
      | zero =>
        intro i hh4 f9 hi gk4_0 fr4 zr4 wr4
        have hi9 : i = tl := by omega
        subst hi9
        refine ax_iload_n (pc := 12) G dJ17_circularClear_12 rfl rfl ?_
        refine ax_iload_n (pc := 13) G dJ17_circularClear_13 rfl rfl ?_
        refine ax_icmp_geN (pc := 14) (tgt := 27) G dJ17_circularClear_14 rfl (by omega) (by omega) (fun c14 => ?_) (fun c14 => ?_)
        · refine ax_iload_n (pc := 27) G dJ17_circularClear_27 rfl rfl ?_
          refine ax_iload_n (pc := 28) G dJ17_circularClear_28 rfl rfl ?_
          refine ax_icmp_neN (pc := 29) (tgt := 35) G dJ17_circularClear_29 rfl (by omega) (by omega) (fun c29 => ?_) (fun c29 => ?_)
          · omega
          · refine ax_goto (pc := 32) (tgt := 42) G dJ17_circularClear_32 rfl ?_
            exact ax_vretP (pc := 42) G E rfl dJ17_circularClear_42 (⟨_, rfl, rfl, _, gk4_0, fun q a1 => (fr4 _ (by omega)), by omega, wr4⟩)
        · omega
      | succ k ih =>
        intro i hh4 f9 hi gk4_0 fr4 zr4 wr4
        refine ax_iload_n (pc := 12) G dJ17_circularClear_12 rfl rfl ?_
        refine ax_iload_n (pc := 13) G dJ17_circularClear_13 rfl rfl ?_
        refine ax_icmp_geN (pc := 14) (tgt := 27) G dJ17_circularClear_14 rfl (by omega) (by omega) (fun c14 => ?_) (fun c14 => ?_)
        · omega
        · refine ax_aload_n (pc := 17) G dJ17_circularClear_17 rfl rfl ?_
          refine ax_iload_n (pc := 18) G dJ17_circularClear_18 rfl rfl ?_
          refine ax_null (pc := 19) G dJ17_circularClear_19 ?_
          refine ax_aastoreN (pc := 20) G i dJ17_circularClear_20 (gk4_0) (by omega) rfl (by omega) (by decide) ?_
          refine ax_hvS wr4 (by omega) (fun h31 g31 f31 z31 w31 => ?_)
          refine ax_iincN (pc := 21) (n := 1) G dJ17_circularClear_21 rfl rfl ic_1 ?_
          refine ax_goto (pc := 24) (tgt := 12) G dJ17_circularClear_24 rfl ?_
          exact ih (i + 1) h31 _ (by omega) (g31) (fun q a0 => (f31 _ (by omega)).trans ((fr4 _ (by omega)))) (by omega) w31
    exact L4 (tl - hd) hd h f (by omega) (hE) (fun q a0 => rfl) rfl wf

