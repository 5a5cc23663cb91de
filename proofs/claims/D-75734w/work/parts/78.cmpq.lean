/-! THE COMPONENT: a state is copied -/
/-- a list of alerts al in the block at a -/
def sAl (h : ax_H) (a A e : Nat) (al : Nat → Nat) : Prop := ∃ (m9 : Int32) (cap9 : Nat) (f9 : Nat → Option Nat), h.1 (a + 2) = some (.inr (16, [.int m9, .ref e, .int (nI A)])) ∧ h.1 e = some (.inl (.object "java/lang/Object", cap9, .inr (.inr (.inr (.inr f9))))) ∧ (0 < cap9 ∧ cap9 < 100) ∧ A ≤ cap9 ∧ (∀ k, k < A → f9 k = some (al k)) ∧ (∀ i', i' < cap9 → ∀ q, f9 i' = some q → ∃ fs, h.1 q = some (.inr (14, fs)) ∧ (q < a ∨ a + 18 < q) ∧ ∃ k, k < A ∧ q = al k)
theorem ct_scopy3 {Ω : ax_O} (hA : ax_Amb Ω) {h : ax_H} (wf : ax_wf h) (hz : Ω.2.1.heap.size ≤ h.2) {b : Nat} {s2 : pR} {π2 : Nat → cP} {sc2 rl2 : Nat} (hSb : sIs h b (s2, π2, .ref sc2, rl2)) (hbh : b + 18 < h.2) {e2 cap2 A : Nat} {mc2 : Int32} {f2 : Nat → Option Nat} {al : Nat → Nat} {alf : Nat → List Value} (hL2 : h.1 (b + 2) = some (.inr (16, [.int mc2, .ref e2, .int (nI A)]))) (hE2 : h.1 e2 = some (.inl (.object "java/lang/Object", cap2, .inr (.inr (.inr (.inr f2)))))) (hA2 : A ≤ cap2) (hA10 : A ≤ 10) (hcap2 : cap2 < 1000) (hf2 : ∀ k, k < A → f2 k = some (al k)) (hal : ∀ k, k < A → h.1 (al k) = some (.inr (14, alf k)))  : ax_MetP Ω yX2_copy_3 13 29 2726 [.ref b] h (ax_Nm (fun v h' => v = some (.ref h.2) ∧ (∃ π, sIs h' h.2 (s2, π, .ref sc2, rl2)) ∧ (∃ e9, sAl h' h.2 A e9 al ∧ h.2 ≤ e9 ∧ e9 < h'.2 ∧ (e9 = h.2 + 3 ∨ h.2 + 18 < e9)) ∧ (∀ q, q < h.2 → h'.1 q = h.1 q) ∧ h.2 + 19 ≤ h'.2 ∧ h'.2 ≤ h.2 + 19 + A ∧ ax_wf h')) := by
  refine ax_metP q2416 q114 (by decide +kernel) (by decide) hA (Nat.le_of_ble_eq_true rfl) (fun Γ G E => ?_)
  have hle2 := wf.lt hE2
  have hlL2 := wf.lt hL2
  show ax_W Ω Γ 29 2726 h 0 [some (.ref b)] []
  refine ax_new (pc := 0) (ci := 1) (kb := 28) (nb := 2700) G [.null, .null, .null, .null, .null, .null, .null, .null, .null, .null, .null, .null, .null, .null, .null, .int (nI 0), .int (nI 0), .int (nI 0), .int (nI 0), .int (nI 0), .int (nI 0), .int (nI 0), .int (nI 0), .null, .null, .null] dX2_copy_3_0 rfl cok_X2 rfl q2417 q169 q114 (fun j hj => by have hj9 : j < 26 := hj; rcases (show j = 0 ∨ j = 1 ∨ j = 2 ∨ j = 3 ∨ j = 4 ∨ j = 5 ∨ j = 6 ∨ j = 7 ∨ j = 8 ∨ j = 9 ∨ j = 10 ∨ j = 11 ∨ j = 12 ∨ j = 13 ∨ j = 14 ∨ j = 15 ∨ j = 16 ∨ j = 17 ∨ j = 18 ∨ j = 19 ∨ j = 20 ∨ j = 21 ∨ j = 22 ∨ j = 23 ∨ j = 24 ∨ j = 25 by omega) with rfl | rfl | rfl | rfl | rfl | rfl | rfl | rfl | rfl | rfl | rfl | rfl | rfl | rfl | rfl | rfl | rfl | rfl | rfl | rfl | rfl | rfl | rfl | rfl | rfl | rfl <;> rfl) ?_
  refine ax_hvA wf (fun h190 g190 f190 z190 w190 => ?_)
  refine ax_dup (pc := 3) G dX2_copy_3_3 rfl ?_
  refine ax_aload_n (pc := 4) G dX2_copy_3_4 rfl rfl ?_
  refine ax_getf (pc := 5) (v := .ref sc2) G flX2_80_1 dX2_copy_3_5 ((f190 _ (by omega)).trans (hSb.obj)) rfl ?_
  refine ax_nI (pc := 8) (kb := 10) (nb := 2000) G (ct_stinitR hA w190 (by omega) (sc := sc2) (g190) (by omega) (by omega)) lIX2_154 dX2_copy_3_8 rfl (by decide) (Nat.le_of_ble_eq_true rfl) rfl (fun v191 h191 q9 => ?_)
  obtain ⟨rfl, I1, I2, I3, I4, f191, z191, w191⟩ := q9
  show ax_W Ω Γ _ _ (h191) _ _ (_)
  have FR : ∀ q, q < h.2 → h191.1 q = h.1 q := fun q hq => (f191 _ (by omega)).trans ((f190 _ (by omega)))
  refine ax_aload_n (pc := 11) G dX2_copy_3_11 rfl rfl ?_
  refine ax_nV (pc := 12) (kb := 0) (nb := 0) G (ct_sbecome hA w191 (by omega) I1 (hSb.keep fun q hq => FR q (by omega)) (by omega) (by omega) (by omega) (by omega) I3 I4 (by omega) (by decide) (by decide) (by decide) (by omega) (by omega) (fun i hi q hq => by cases hq) ((FR _ (by omega)).trans hL2) ((FR _ (by omega)).trans hE2) hA2 hA10 hcap2 (by omega) (by omega) hf2 (fun k hk => (FR _ (wf.lt (hal k hk))).trans (hal k hk)) (fun k hk => Or.inl (wf.lt (hal k hk)))) lVX2_157_1 dX2_copy_3_12 (I1.obj) rfl (by decide) (Nat.le_of_ble_eq_true rfl) rfl (fun v192 h192 q9 => ?_)
  obtain ⟨rfl, J1, m9, e9, cap9, f9, K1, K2, K3, K4, K5, K6, K7, f192, z192, y9, w192⟩ := q9
  show ax_W Ω Γ _ _ (h192) _ _ (.ref h.2 :: _)
  have FR2 : ∀ q, q < h.2 → h192.1 q = h.1 q := fun q a1 => (f192 q (by omega) (by omega) (by omega)).trans (FR q a1)
  exact ax_aretP (pc := 15) G E rfl (Or.inl ⟨_, rfl⟩) (Or.inr ⟨_, rfl⟩) dX2_copy_3_15 ⟨_, rfl, rfl, ⟨_, J1⟩, ⟨e9, ⟨m9, cap9, f9, K1, K2, ⟨by omega, by omega⟩, K5, K6, fun i' hi' q hq => by
    rcases K7 i' hi' q hq with ⟨k, hk, e3⟩ | ⟨j, hj, e3⟩
    · subst e3
      exact ⟨_, (FR2 _ (wf.lt (hal k hk))).trans (hal k hk), Or.inl (wf.lt (hal k hk)), k, hk, rfl⟩
    · cases e3⟩, by omega, by omega, by omega⟩, FR2, by omega, by omega, w192⟩

theorem ct_scopy2 {Ω : ax_O} (hA : ax_Amb Ω) {h : ax_H} (wf : ax_wf h) (hz : Ω.2.1.heap.size ≤ h.2) {b : Nat} {s2 : pR} {π2 : Nat → cP} {sc2 rl2 : Nat} (hSb : sIs h b (s2, π2, .ref sc2, rl2)) (hbh : b + 18 < h.2) {e2 cap2 A : Nat} {mc2 : Int32} {f2 : Nat → Option Nat} {al : Nat → Nat} {alf : Nat → List Value} (hL2 : h.1 (b + 2) = some (.inr (16, [.int mc2, .ref e2, .int (nI A)]))) (hE2 : h.1 e2 = some (.inl (.object "java/lang/Object", cap2, .inr (.inr (.inr (.inr f2)))))) (hA2 : A ≤ cap2) (hA10 : A ≤ 10) (hcap2 : cap2 < 1000) (hf2 : ∀ k, k < A → f2 k = some (al k)) (hal : ∀ k, k < A → h.1 (al k) = some (.inr (14, alf k)))  : ax_MetP Ω yX2_copy_2 14 29 2726 [.ref b] h (ax_Nm (fun v h' => v = some (.ref h.2) ∧ (∃ π, sIs h' h.2 (s2, π, .ref sc2, rl2)) ∧ (∃ e9, sAl h' h.2 A e9 al ∧ h.2 ≤ e9 ∧ e9 < h'.2 ∧ (e9 = h.2 + 3 ∨ h.2 + 18 < e9)) ∧ (∀ q, q < h.2 → h'.1 q = h.1 q) ∧ h.2 + 19 ≤ h'.2 ∧ h'.2 ≤ h.2 + 19 + A ∧ ax_wf h')) := by
  refine ax_metP q2412 q114 (by decide +kernel) (by decide) hA (Nat.le_of_ble_eq_true rfl) (fun Γ G E => ?_)
  show ax_W Ω Γ 29 2726 h 0 [some (.ref b)] []
  refine ax_aload_n (pc := 0) G dX2_copy_2_0 rfl rfl ?_
  refine ax_nV (pc := 1) (kb := 0) (nb := 0) G (ct_scopy3 hA wf (by omega) hSb hbh hL2 hE2 hA2 hA10 hcap2 hf2 hal) lVX2_295_1 dX2_copy_2_1 (hSb.obj) rfl (by decide) (Nat.le_of_ble_eq_true rfl) rfl (fun v193 h193 q9 => ?_)
  obtain ⟨rfl, p193⟩ := q9
  show ax_W Ω Γ _ _ (h193) _ _ (.ref h.2 :: _)
  exact ax_aretP (pc := 4) G E rfl (Or.inl ⟨_, rfl⟩) (Or.inr ⟨_, rfl⟩) dX2_copy_2_4 (⟨_, rfl, rfl, p193⟩)

theorem sIs.rule {h h' : ax_H} {a r : Nat} {s : pR} {π : Nat → cP} {sc : Value} {rl : Nat} (x : sIs h a (s, π, sc, rl)) (g : h'.1 a = some (.inr (1, sF a (s, π, sc, r)))) (f : ∀ q, (a + 4 ≤ q ∧ q ≤ a + 18) → h'.1 q = h.1 q) : sIs h' a (s, π, sc, r) := by
  refine sH_self g ((f _ ⟨by omega, by omega⟩).trans (x.arr (by decide) (by decide))) ((f _ ⟨by omega, by omega⟩).trans (x.arr (by decide) (by decide))) ((f _ ⟨by omega, by omega⟩).trans (x.arr (by decide) (by decide))) ((f _ ⟨by omega, by omega⟩).trans (x.arr (by decide) (by decide))) ((f _ ⟨by omega, by omega⟩).trans (x.arr (by decide) (by decide))) ((f _ ⟨by omega, by omega⟩).trans (x.arr (by decide) (by decide))) ((f _ ⟨by omega, by omega⟩).trans (x.arr (by decide) (by decide))) ((f _ ⟨by omega, by omega⟩).trans (x.arr (by decide) (by decide))) ((f _ ⟨by omega, by omega⟩).trans (x.arr (by decide) (by decide))) ((f _ ⟨by omega, by omega⟩).trans (x.arr (by decide) (by decide))) ((f _ ⟨by omega, by omega⟩).trans (x.arr (by decide) (by decide))) ((f _ ⟨by omega, by omega⟩).trans (x.arr (by decide) (by decide))) ((f _ ⟨by omega, by omega⟩).trans (x.pl (k := 16) (by decide) (by decide))) ((f _ ⟨by omega, by omega⟩).trans (x.pl (k := 17) (by decide) (by decide))) ((f _ ⟨by omega, by omega⟩).trans (x.pl (k := 18) (by decide) (by decide)))
/-- of a state's own place -/
theorem z1_id (h : ax_H) : h.2 = h.2 := rfl
theorem ct_ssetPolicy {Ω : ax_O} (hA : ax_Amb Ω) {h : ax_H} (wf : ax_wf h) (hz : Ω.2.1.heap.size ≤ h.2) {a : Nat} {s : pR} {π : Nat → cP} {sc : Value} {rl : Nat} (hS : sIs h a (s, π, sc, rl)) (ha : Ω.2.1.heap.size ≤ a) (hah : a + 18 < h.2) (p : Nat) (hp : p < 4) : ax_MetP Ω yX2_setPolicy 3 1 0 [.ref a, .int (nI p)] h (ax_Nm (fun v h' => v = none ∧ sIs h' a (upd s 5 (nI p), π, sc, h.2) ∧ h'.1 h.2 = some (.inr (2 + p, [])) ∧ (∀ q, q < h.2 → (q < a ∨ a + 18 < q ∨ (a < q ∧ q < a + 4)) → h'.1 q = h.1 q) ∧ h'.2 = h.2 + 1 ∧ ax_wf h')) := by
  refine ax_metP q2162 q114 (by decide +kernel) (by decide) hA (Nat.le_of_ble_eq_true rfl) (fun Γ G E => ?_)
  show ax_W Ω Γ 1 0 h 0 [some (.ref a), some (.int (nI p))] []
  refine ax_hp hS.symm ?_
  refine ax_aload_n (pc := 0) G dX2_setPolicy_0 rfl rfl ?_
  refine ax_iload_n (pc := 1) G dX2_setPolicy_1 rfl rfl ?_
  refine sr_put (pc := 2) (k := 21) (r := 5) G flX2_148_1 dX2_setPolicy_2 ha (by decide) (by decide) rfl rfl rfl ?_
  show ax_W Ω Γ _ _ (sH h a (upd s 5 (nI p), π, sc, rl)) _ _ _
  obtain ⟨h1, eh1⟩ : ∃ h1, h1 = sH h a (upd s 5 (nI p), π, sc, rl) := ⟨_, rfl⟩
  refine ax_hp eh1.symm ?_
  have wf1 : ax_wf h1 := by rw [eh1]; exact sH_wf wf (by omega)
  have z1 : h1.2 = h.2 := by rw [eh1]; rfl
  have f1 : ∀ q, (q < a ∨ a + 18 < q ∨ (a < q ∧ q < a + 4)) → h1.1 q = h.1 q := fun q hq => by rw [eh1]; exact sH_out hq
  have S1 : sIs h1 a (upd s 5 (nI p), π, sc, rl) := by rw [eh1]; exact sIs.of
  refine ax_aload_n (pc := 5) G dX2_setPolicy_5 rfl rfl ?_
  refine ax_iload_n (pc := 6) G dX2_setPolicy_6 rfl rfl ?_
  refine ax_nS (pc := 7) (kb := 0) (nb := 0) G (ct_rof hA wf1 (by omega) p (by omega)) lSX2_9 dX2_setPolicy_7 rfl (by decide) (Nat.le_of_ble_eq_true rfl) rfl (fun v194 h194 q9 => ?_)
  obtain ⟨rfl, g194, f194, z194, w194⟩ := q9
  show ax_W Ω Γ _ _ (h194) _ _ (.ref h1.2 :: _)
  refine ax_putf (pc := 10) G flX2_15_1 dX2_setPolicy_10 ((f194 _ (by omega) ).trans (S1.obj)) (by omega) (Nat.le_of_ble_eq_true rfl) rfl rfl ?_
  refine ax_hvS w194 (by omega) (fun h195 g195 f195 z195 w195 => ?_)
  replace g195 : h195.1 a = some (.inr (1, [sc, .ref h1.2, .ref (a + 2), .ref (a + 4), .ref (a + 5), .ref (a + 6), .ref (a + 7), .ref (a + 8), .ref (a + 9), .ref (a + 10), .ref (a + 11), .ref (a + 12), .ref (a + 13), .ref (a + 14), .ref (a + 15), .int ((upd s 5 (nI p)) 0), .int ((upd s 5 (nI p)) 1), .int ((upd s 5 (nI p)) 2), .int ((upd s 5 (nI p)) 3), .int ((upd s 5 (nI p)) 4), .int ((upd s 5 (nI p)) 15), .int ((upd s 5 (nI p)) 5), .int ((upd s 5 (nI p)) 16), .ref (a + 16), .ref (a + 17), .ref (a + 18)])) := g195
  exact ax_vretP (pc := 13) G E rfl dX2_setPolicy_13 (⟨_, rfl, rfl, S1.rule (r := h.2) (by rw [show h.2 = h1.2 from z1.symm]; exact g195) (fun q hq => (f195 _ (by omega)).trans ((f194 _ (by omega) ))), (by rw [show h.2 = h1.2 from z1.symm]; exact (f195 _ (by omega)).trans (g194)), fun q a1 a2 => ((f195 _ (by omega)).trans ((f194 _ (by omega) ))).trans (f1 _ (by omega)), by omega, w195⟩)

