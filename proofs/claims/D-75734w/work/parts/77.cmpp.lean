/-! THE COMPONENT: a state becomes as another one -/
/-- the rows up to K are as in s2 -/
def pMb (K z : Nat) : Bool := (List.range 16).any fun k => decide (4 ≤ k ∧ k ≤ K) && (List.range (sLen k)).any fun j => decide (z = sIx k j)
def pMx (K : Nat) (s s2 : pR) : pR := fun z => if pMb K z = true then s2 z else s z
theorem pMb_iff {K z : Nat} : pMb K z = true ↔ ∃ k j, 4 ≤ k ∧ k ≤ K ∧ k ≤ 15 ∧ j < sLen k ∧ z = sIx k j := by
  unfold pMb
  rw [List.any_eq_true]
  constructor
  · rintro ⟨k, hk, h⟩
    rw [Bool.and_eq_true, decide_eq_true_eq, List.any_eq_true] at h
    obtain ⟨h1, j, hj, h2⟩ := h
    exact ⟨k, j, h1.1, h1.2, by have := List.mem_range.mp hk; omega, List.mem_range.mp hj, of_decide_eq_true h2⟩
  · rintro ⟨k, j, h1, h2, h3, h4, h5⟩
    refine ⟨k, List.mem_range.mpr (by omega), ?_⟩
    rw [Bool.and_eq_true, decide_eq_true_eq, List.any_eq_true]
    exact ⟨⟨h1, h2⟩, j, List.mem_range.mpr h4, decide_eq_true h5⟩
theorem pMx_in {K k j : Nat} {s s2 : pR} (h1 : 4 ≤ k) (h2 : k ≤ K) (h3 : k ≤ 15) (hj : j < sLen k) : pMx K s s2 (sIx k j) = s2 (sIx k j) := if_pos (pMb_iff.mpr ⟨k, j, h1, h2, h3, hj, rfl⟩)
theorem pMx_out {K k j : Nat} {s s2 : pR} (h1 : 4 ≤ k) (h2 : K < k) (h3 : k ≤ 15) (hj : j < sLen k) : pMx K s s2 (sIx k j) = s (sIx k j) := if_neg fun z => by
  obtain ⟨k', j', g1, g2, g3, g4, g5⟩ := pMb_iff.mp z
  have := (sIx_inj h1 h3 g1 g3 hj g4 g5).1
  omega
theorem pMx_sc {K r : Nat} {s s2 : pR} (hr : r < 6 ∨ r = 15 ∨ r = 16 ∨ r = 14) : pMx K s s2 r = s r := if_neg fun z => by
  obtain ⟨k', j', g1, g2, g3, g4, g5⟩ := pMb_iff.mp z
  exact sIx_sc g1 g3 g4 hr g5.symm
theorem pMx_F {h : ax_H} {a K : Nat} {s s2 : pR} {p : (Nat → cP) × Value × Nat} : sF a (pMx K s s2, p) = sF a (s, p) := by
  unfold sF
  simp only [pMx_sc (K := K) (s := s) (s2 := s2) (r := 0) (by decide), pMx_sc (K := K) (s := s) (s2 := s2) (r := 1) (by decide), pMx_sc (K := K) (s := s) (s2 := s2) (r := 2) (by decide), pMx_sc (K := K) (s := s) (s2 := s2) (r := 3) (by decide), pMx_sc (K := K) (s := s) (s2 := s2) (r := 4) (by decide), pMx_sc (K := K) (s := s) (s2 := s2) (r := 15) (by decide), pMx_sc (K := K) (s := s) (s2 := s2) (r := 5) (by decide), pMx_sc (K := K) (s := s) (s2 := s2) (r := 16) (by decide)]
/-- a row of the block is written whole -/
theorem sH_row {h : ax_H} {a k : Nat} {s s' : pR} {p : (Nat → cP) × Value × Nat} {g : Nat → Int32} (h1 : 4 ≤ k) (h2 : k ≤ 15) (hF : sF a (s', p) = sF a (s, p)) (hg : ∀ j, j < sLen k → g j = s' (sIx k j)) (ho : ∀ k', 4 ≤ k' → k' ≤ 15 → k' ≠ k → ∀ j, j < sLen k' → s (sIx k' j) = s' (sIx k' j)) : ax_le (ax_set (sH h a (s, p)) (a + k) (.inl (.int, sLen k, .inl g))) (sH h a (s', p)) := by
  refine ⟨rfl, fun q e' he => ?_⟩
  unfold ax_set sH at *
  dsimp only at he ⊢
  by_cases e : q = a
  · rw [if_pos e, hF] at he; rw [if_neg (by omega), if_pos e]; exact ⟨_, he, Or.inl rfl⟩
  · rw [if_neg e] at he
    by_cases f1 : a + 4 ≤ q ∧ q ≤ a + 15
    · rw [if_pos f1] at he
      have he := Option.some.inj he
      subst he
      by_cases c : q = a + k
      · subst c
        rw [if_pos rfl, Nat.add_sub_cancel_left]
        exact ⟨_, rfl, Or.inr ⟨_, _, _, _, rfl, rfl, fun j hj => hg j hj⟩⟩
      · rw [if_neg c, if_neg e, if_pos f1]
        exact ⟨_, rfl, Or.inr ⟨_, _, _, _, rfl, rfl, fun j hj => ho _ (by omega) (by omega) (by omega) j hj⟩⟩
    · rw [if_neg f1] at he
      rw [if_neg (by omega), if_neg e, if_neg f1]
      exact ⟨_, he, Or.inl rfl⟩
theorem sLen_le (k : Nat) : sLen k ≤ 400 := by unfold sLen; split <;> decide
theorem ct_scopy {Ω : ax_O} (hA : ax_Amb Ω) {h : ax_H} {a k q : Nat} {s s' : pR} {p : (Nat → cP) × Value × Nat} {f : Nat → Int32} (ha : Ω.2.1.heap.size ≤ a) (h1 : 4 ≤ k) (h2 : k ≤ 15) (hq : (sH h a (s, p)).1 q = some (.inl (.int, sLen k, .inl f))) (hF : sF a (s', p) = sF a (s, p)) (hg : ∀ j, j < sLen k → va_cpy f (fun j => s (sIx k j)) 0 0 (sLen k) j = s' (sIx k j)) (ho : ∀ k', 4 ≤ k' → k' ≤ 15 → k' ≠ k → ∀ j, j < sLen k' → s (sIx k' j) = s' (sIx k' j)) : ax_Met Ω yX2_copy 1 0 0 [.ref q, .ref (a + k)] (sH h a (s, p)) (.inl none) (sH h a (s', p)) := by
  refine ax_met q2099 q114 (by decide +kernel) (by decide) hA (Nat.le_of_ble_eq_true rfl) (fun Γ G E => ?_)
  have hl9 := sLen_le k
  show ax_W Ω Γ 0 0 (sH h a (s, p)) 0 [some (.ref q), some (.ref (a + k))] []
  refine ax_aload_n (pc := 0) G dX2_copy_0 rfl rfl ?_
  refine ax_iconst (pc := 1) (v := nI 0) G dX2_copy_1 ic_0 ?_
  refine ax_aload_n (pc := 2) G dX2_copy_2 rfl rfl ?_
  refine ax_iconst (pc := 3) (v := nI 0) G dX2_copy_3 ic_0 ?_
  refine ax_aload_n (pc := 4) G dX2_copy_4 rfl rfl ?_
  refine ax_alen (pc := 5) (v := nI (sLen k)) G dX2_copy_5 (hq) rfl ?_
  refine ax_copyi (pc := 6) (sp := 0) (dp := 0) (n := sLen k) G q2100 q344 q343 q134 (hq) (sH_arr h1 h2) (by omega) rfl (by omega) (by omega) ⟨by omega, by omega⟩ (fun i hi => rfl) (by decide) (Nat.le_of_ble_eq_true rfl) dX2_copy_6 ?_
  refine ax_W_le (sH_row h1 h2 hF hg ho) ?_
  exact ax_vretE (pc := 9) G E rfl dX2_copy_9 (rfl)

theorem pMx_3 {s s2 : pR} : pMx 3 s s2 = s := funext fun z => if_neg fun h => by
  obtain ⟨k, j, g1, g2, -⟩ := pMb_iff.mp h
  omega
theorem pMx_g {k j : Nat} {s s2 : pR} {g : Nat → Int32} (h1 : 4 ≤ k) (h3 : k ≤ 15) (hj : j < sLen k) : va_cpy (fun j => s2 (sIx k j)) g 0 0 (sLen k) j = pMx k s s2 (sIx k j) := (sb_cpy0 hj).trans (pMx_in h1 (Nat.le_refl _) h3 hj).symm
theorem pMx_o {k k' j : Nat} {s s2 : pR} (h1 : 4 ≤ k') (h2 : k' ≤ 15) (hne : k' ≠ k + 1) (hj : j < sLen k') : pMx k s s2 (sIx k' j) = pMx (k + 1) s s2 (sIx k' j) := by
  by_cases c : k' ≤ k
  · rw [pMx_in h1 c h2 hj, pMx_in h1 (by omega) h2 hj]
  · rw [pMx_out h1 (by omega) h2 hj, pMx_out h1 (by omega) h2 hj]
theorem upd_n {f : pR} {r z : Nat} {v : Int32} (h : z ≠ r) : upd f r v z = f z := if_neg h
theorem upd_e {f : pR} {r : Nat} {v : Int32} : upd f r v r = v := if_pos rfl
theorem pMx_end {h : ax_H} {a : Nat} {s s2 : pR} {p : (Nat → cP) × Value × Nat} : ax_le (sH h a (upd (upd (upd (upd (upd (upd (upd (upd (pMx 15 s s2) 0 (s2 0)) 1 (s2 1)) 2 (s2 2)) 3 (s2 3)) 4 (s2 4)) 15 (s2 15)) 5 (s2 5)) 16 (s2 16), p)) (sH h a (s2, p)) := by
  refine sH_le ?_ (fun k h1 h2 j hj => ?_) (fun _ _ => rfl)
  · unfold sF
    simp [upd]
  · have q : ∀ r, (r < 6 ∨ r = 15 ∨ r = 16 ∨ r = 14) → sIx k j ≠ r := fun r hr => sIx_sc h1 h2 hj hr
    show upd _ _ _ (sIx k j) = s2 (sIx k j)
    rw [upd_n (q 16 (by decide)), upd_n (q 5 (by decide)), upd_n (q 15 (by decide)), upd_n (q 4 (by decide)), upd_n (q 3 (by decide)), upd_n (q 2 (by decide)), upd_n (q 1 (by decide)), upd_n (q 0 (by decide))]
    exact pMx_in h1 h2 h2 hj
theorem sIs.obj {h : ax_H} {a : Nat} {σ : cS} (x : sIs h a σ) : h.1 a = some (.inr (1, sF a σ)) := by rw [← x]; exact sH_obj
theorem sIs.arr {h : ax_H} {a k : Nat} {σ : cS} (x : sIs h a σ) (h1 : 4 ≤ k) (h2 : k ≤ 15) : h.1 (a + k) = some (.inl (.int, sLen k, .inl (fun j => σ.1 (sIx k j)))) := by rw [← x]; exact sH_arr h1 h2
theorem sIs.pl {h : ax_H} {a k : Nat} {σ : cS} (x : sIs h a σ) (h1 : 16 ≤ k) (h2 : k ≤ 18) : h.1 (a + k) = some (.inr (6, cPF (σ.2.1 (k - 16)))) := by rw [← x]; exact sH_pl h1 h2
theorem sIs.keep {h h' : ax_H} {a : Nat} {σ : cS} (x : sIs h a σ) (f : ∀ q, (q = a ∨ (a + 4 ≤ q ∧ q ≤ a + 18)) → h'.1 q = h.1 q) : sIs h' a σ := by
  refine sH_self ((f a (Or.inl rfl)).trans x.obj) ((f _ (Or.inr ⟨by omega, by omega⟩)).trans (x.arr (by decide) (by decide))) ((f _ (Or.inr ⟨by omega, by omega⟩)).trans (x.arr (by decide) (by decide))) ((f _ (Or.inr ⟨by omega, by omega⟩)).trans (x.arr (by decide) (by decide))) ((f _ (Or.inr ⟨by omega, by omega⟩)).trans (x.arr (by decide) (by decide))) ((f _ (Or.inr ⟨by omega, by omega⟩)).trans (x.arr (by decide) (by decide))) ((f _ (Or.inr ⟨by omega, by omega⟩)).trans (x.arr (by decide) (by decide))) ((f _ (Or.inr ⟨by omega, by omega⟩)).trans (x.arr (by decide) (by decide))) ((f _ (Or.inr ⟨by omega, by omega⟩)).trans (x.arr (by decide) (by decide))) ((f _ (Or.inr ⟨by omega, by omega⟩)).trans (x.arr (by decide) (by decide))) ((f _ (Or.inr ⟨by omega, by omega⟩)).trans (x.arr (by decide) (by decide))) ((f _ (Or.inr ⟨by omega, by omega⟩)).trans (x.arr (by decide) (by decide))) ((f _ (Or.inr ⟨by omega, by omega⟩)).trans (x.arr (by decide) (by decide))) ((f _ (Or.inr ⟨by omega, by omega⟩)).trans (x.pl (k := 16) (by decide) (by decide))) ((f _ (Or.inr ⟨by omega, by omega⟩)).trans (x.pl (k := 17) (by decide) (by decide))) ((f _ (Or.inr ⟨by omega, by omega⟩)).trans (x.pl (k := 18) (by decide) (by decide)))
theorem sIs.of {h : ax_H} {a : Nat} {σ : cS} : sIs (sH h a σ) a σ := sH_sH
theorem sH_wf {h : ax_H} {a : Nat} {σ : cS} (w : ax_wf h) (ha : a + 18 < h.2) : ax_wf (sH h a σ) := fun q hq => (sH_out (Or.inr (Or.inl (Nat.lt_of_lt_of_le ha hq)))).trans (w q hq)
set_option maxHeartbeats 6000000 in
theorem ct_sbecome {Ω : ax_O} (hA : ax_Amb Ω) {h : ax_H} (wf : ax_wf h) (hz : Ω.2.1.heap.size ≤ h.2) {a b : Nat} {s s2 : pR} {π π2 : Nat → cP} {sc : Value} {sc2 rl rl2 : Nat} (hSa : sIs h a (s, π, sc, rl)) (hSb : sIs h b (s2, π2, .ref sc2, rl2)) (hab : a + 18 < b ∨ b + 18 < a) (ha : Ω.2.1.heap.size ≤ a) (hah : a + 18 < h.2) (hbh : b + 18 < h.2) {e e2 n cap cap2 A : Nat} {mc mc2 : Int32} {f f2 : Nat → Option Nat} {al : Nat → Nat} {alf : Nat → List Value} (hL : h.1 (a + 2) = some (.inr (16, [.int mc, .ref e, .int (nI n)]))) (hE : h.1 e = some (.inl (.object "java/lang/Object", cap, .inr (.inr (.inr (.inr f)))))) (hbe : Ω.2.1.heap.size ≤ e) (hc : cap < 100) (hc0 : 0 < cap) (hnc : n ≤ cap) (heo : e < a ∨ a + 18 < e ∨ e = a + 3) (heb : e < b ∨ b + 18 < e) (hel : ∀ i, i < cap → ∀ q, f i = some q → ∃ fs, h.1 q = some (.inr (14, fs)) ∧ (q < a ∨ a + 18 < q)) (hL2 : h.1 (b + 2) = some (.inr (16, [.int mc2, .ref e2, .int (nI A)]))) (hE2 : h.1 e2 = some (.inl (.object "java/lang/Object", cap2, .inr (.inr (.inr (.inr f2)))))) (hA2 : A ≤ cap2) (hA10 : A ≤ 10) (hcap2 : cap2 < 1000) (he2 : e2 < a ∨ a + 18 < e2) (hee : e2 ≠ e) (hf2 : ∀ k, k < A → f2 k = some (al k)) (hal : ∀ k, k < A → h.1 (al k) = some (.inr (14, alf k))) (hoal : ∀ k, k < A → al k < a ∨ a + 18 < al k)  : ax_MetP Ω yX2_become 12 10 2000 [.ref a, .ref b] h (ax_Nm (fun v h' => v = some (.ref a) ∧ sIs h' a (s2, π, .ref sc2, rl2) ∧ ∃ (m9 : Int32) (e9 cap9 : Nat) (f9 : Nat → Option Nat), h'.1 (a + 2) = some (.inr (16, [.int m9, .ref e9, .int (nI A)])) ∧ h'.1 e9 = some (.inl (.object "java/lang/Object", cap9, .inr (.inr (.inr (.inr f9))))) ∧ ((e9 = e ∨ h.2 ≤ e9) ∧ e9 < h'.2) ∧ (cap9 = cap ∨ (0 < cap9 ∧ cap9 ≤ 16)) ∧ A ≤ cap9 ∧ (∀ k, k < A → f9 k = some (al k)) ∧ (∀ i', i' < cap9 → ∀ q, f9 i' = some q → (∃ k, k < A ∧ q = al k) ∨ ∃ j, j < cap ∧ f j = some q) ∧ (∀ q, q < h.2 → (q < a ∨ a + 18 < q) → q ≠ e → h'.1 q = h.1 q) ∧ h.2 ≤ h'.2 ∧ h'.2 ≤ h.2 + A ∧ ax_wf h')) := by
  refine ax_metP q2085 q114 (by decide +kernel) (by decide) hA (Nat.le_of_ble_eq_true rfl) (fun Γ G E => ?_)
  have hle := wf.lt hE
  have hle2 := wf.lt hE2
  have hlL := wf.lt hL
  have hlL2 := wf.lt hL2
  show ax_W Ω Γ 10 2000 h 0 [some (.ref a), some (.ref b), none] []
  refine ax_hp hSa.symm ?_
  refine ax_aload_n (pc := 0) G dX2_become_0 rfl rfl ?_
  refine ax_aload_n (pc := 1) G dX2_become_1 rfl rfl ?_
  refine ax_getf (pc := 2) (v := .ref sc2) G flX2_80_1 dX2_become_2 ((sH_out (by omega)).trans ((rfl).trans hSb.obj)) rfl ?_
  refine ax_putf (pc := 5) G flX2_80_1 dX2_become_5 sH_obj ha (show 0 < 26 by decide) rfl rfl ?_
  refine ax_hp (sH_putO (σ' := (s, π, (.ref sc2), rl)) rfl rfl rfl) ?_
  refine ax_aload_n (pc := 8) G dX2_become_8 rfl rfl ?_
  refine ax_aload_n (pc := 9) G dX2_become_9 rfl rfl ?_
  refine ax_getf (pc := 10) (v := .ref rl2) G flX2_15_1 dX2_become_10 ((sH_out (by omega)).trans ((rfl).trans hSb.obj)) rfl ?_
  refine ax_putf (pc := 13) G flX2_15_1 dX2_become_13 sH_obj ha (show 1 < 26 by decide) rfl rfl ?_
  refine ax_hp (sH_putO (σ' := (s, π, (.ref sc2), rl2)) rfl rfl rfl) ?_
  obtain ⟨h1, eh1⟩ : ∃ h1, h1 = sH h a (s, π, (.ref sc2), rl2) := ⟨_, rfl⟩
  refine ax_hp eh1.symm ?_
  have wf1 : ax_wf h1 := by rw [eh1]; exact sH_wf wf (by omega)
  have z1 : h1.2 = h.2 := by rw [eh1]; rfl
  have f1 : ∀ q, (q < a ∨ a + 18 < q ∨ (a < q ∧ q < a + 4)) → h1.1 q = h.1 q := fun q hq => by rw [eh1]; exact sH_out hq
  have S1 : sIs h1 a (s, π, .ref sc2, rl2) := by rw [eh1]; exact sIs.of
  refine ax_aload_n (pc := 16) G dX2_become_16 rfl rfl ?_
  refine ax_getf (pc := 17) (v := .ref (a + 2)) G flX2_26_1 dX2_become_17 (S1.obj) rfl ?_
  refine ax_nJ (pc := 20) (kb := 10) (nb := 2000) G (ct_lclear hA wf1 (by omega) ((f1 _ (by omega)).trans hE) (by omega) hc ((f1 _ (by omega)).trans hL) (by omega) (by omega)) lJX2_117_16 dX2_become_20 ((f1 _ (by omega)).trans hL) rfl (by decide) (Nat.le_of_ble_eq_true rfl) rfl (fun v189 h189 q9 => ?_)
  obtain ⟨rfl, f7, g189, k189, sub7, f189, z189, w189⟩ := q9
  show ax_W Ω Γ _ _ (h189) _ _ (_)
  refine ax_iconst (pc := 25) (v := nI 0) G dX2_become_25 ic_0 ?_
  refine ax_istore_n (pc := 26) G dX2_become_26 rfl (Nat.le_of_ble_eq_true rfl) rfl ?_
  have hlal : ∀ k, k < A → al k < h.2 := fun k hk => wf.lt (hal k hk)
  have hnal : ∀ k, k < A → al k ≠ e := fun k hk z => by have q := hal k hk; rw [z, hE] at q; cases q
  have hal7 : ∀ k, k < A → h189.1 (al k) = some (.inr (14, alf k)) := fun k hk => (f189 _ (by have := hoal k hk; omega) (hnal k hk)).trans ((f1 _ (by have := hoal k hk; omega)).trans (hal k hk))
  have hel7 : ∀ i, i < cap → ∀ q, f i = some q → ∃ fs, h189.1 q = some (.inr (14, fs)) ∧ (q < a ∨ a + 18 < q) := fun i hi q hq => by
    obtain ⟨fs, g1, g2⟩ := hel i hi q hq
    exact ⟨fs, (f189 _ (by omega) (fun z => by rw [z, hE] at g1; cases g1)).trans ((f1 _ (by omega)).trans g1), g2⟩
  have LA : ∀ (k i : Nat) (hh : ax_H) (m9 : Int32) (e9 cap9 : Nat) (f9 : Nat → Option Nat), i + k = A → hh.1 (a + 2) = some (.inr (16, [.int m9, .ref e9, .int (nI i)])) → hh.1 e9 = some (.inl (.object "java/lang/Object", cap9, .inr (.inr (.inr (.inr f9))))) → ((e9 = e ∨ h189.2 ≤ e9) ∧ e9 < hh.2) → (cap9 = cap ∨ (0 < cap9 ∧ cap9 ≤ 16)) → i ≤ cap9 → (∀ k, k < i → f9 k = some (al k)) → (∀ i', i' < cap9 → ∀ q, f9 i' = some q → (∃ k, k < A ∧ q = al k) ∨ ∃ j, j < cap ∧ f j = some q) → (∀ q, q < h189.2 → q ≠ a + 2 → q ≠ e → hh.1 q = h189.1 q) → (h189.2 ≤ hh.2 ∧ hh.2 ≤ h189.2 + i) → ax_wf hh → ax_W Ω Γ (k * 1 + 0) (k * 200 + 0) hh 27 [some (.ref a), some (.ref b), some (.int (nI i))] [] := by
    intro k
    induction k with
    | zero =>
      intro i hh m9 e9 cap9 f9 hi gL9 gE9 he9 hc9 hi9 hp9 hs9 fr9 hz9 wr9
      have hi8 : i = A := by omega
      subst hi8
      refine ax_more (kb := 0) (nb := 0) (by omega) (by omega) ?_
      refine ax_iload_n (pc := 27) G dX2_become_27 rfl rfl ?_
      refine ax_aload_n (pc := 28) G dX2_become_28 rfl rfl ?_
      refine ax_getf (pc := 29) (v := .ref (b + 2)) G flX2_26_1 dX2_become_29 ((fr9 _ (by omega) (by omega) (by omega)).trans ((f189 _ (by omega) (by omega)).trans ((f1 _ (by omega)).trans hSb.obj))) rfl ?_
      refine ax_cJ1 (pc := 32) (kb := 0) (nb := 0) G (ct_lsize hA ((fr9 _ (by omega) (by omega) (by omega)).trans ((f189 _ (by omega) (by omega)).trans ((f1 _ (by omega)).trans hL2)))) lJX2_89_16 dX2_become_32 ((fr9 _ (by omega) (by omega) (by omega)).trans ((f189 _ (by omega) (by omega)).trans ((f1 _ (by omega)).trans hL2))) rfl (by decide) (Nat.le_of_ble_eq_true rfl) rfl ?_
      refine ax_icmp_geN (pc := 37) (tgt := 69) G dX2_become_37 rfl (by omega) (by omega) (fun c37 => ?_) (fun c37 => ?_)
      · have S9 : sIs hh a (pMx 3 s s2, π, .ref sc2, rl2) := by
          rw [pMx_3]
          exact S1.keep fun q hq => (fr9 _ (by omega) (by omega) (by omega)).trans ((f189 _ (by omega) (by omega)))
        refine ax_hp S9.symm ?_
        refine ax_aload_n (pc := 69) G dX2_become_69 rfl rfl ?_
        refine ax_getf (pc := 70) (v := .ref (b + 4)) G flX2_30_1 dX2_become_70 ((sH_out (by omega)).trans ((((fr9 _ (by omega) (by omega) (by omega)).trans ((f189 _ (by omega) (by omega)))).trans (f1 _ (by omega))).trans hSb.obj)) rfl ?_
        refine ax_aload_n (pc := 73) G dX2_become_73 rfl rfl ?_
        refine sr_get (pc := 74) (v := .ref (a + 4)) G flX2_30_1 dX2_become_74 rfl ?_
        refine ax_cS0 (pc := 77) (kb := 0) (nb := 0) G (ct_scopy hA (s := pMx 3 s s2) (s' := pMx 4 s s2) (p := (π, .ref sc2, rl2)) (k := 4) (f := fun j => s2 (sIx 4 j)) ha (by decide) (by decide) ((sH_out (by omega)).trans ((((fr9 _ (by omega) (by omega) (by omega)).trans ((f189 _ (by omega) (by omega)))).trans (f1 _ (by omega))).trans (hSb.arr (k := 4) (by decide) (by decide)))) ((pMx_F (h := h)).trans (pMx_F (h := h)).symm) (fun j hj => pMx_g (by decide) (by decide) hj) (fun k' g1 g2 g3 j hj => pMx_o g1 g2 g3 hj)) lSX2_126 dX2_become_77 rfl (by decide) (Nat.le_of_ble_eq_true rfl) rfl ?_
        show ax_W Ω Γ _ _ (sH hh a (pMx 4 s s2, π, (.ref sc2), rl2)) _ _ _
        refine ax_aload_n (pc := 80) G dX2_become_80 rfl rfl ?_
        refine ax_getf (pc := 81) (v := .ref (b + 5)) G flX2_34_1 dX2_become_81 ((sH_out (by omega)).trans ((((fr9 _ (by omega) (by omega) (by omega)).trans ((f189 _ (by omega) (by omega)))).trans (f1 _ (by omega))).trans hSb.obj)) rfl ?_
        refine ax_aload_n (pc := 84) G dX2_become_84 rfl rfl ?_
        refine sr_get (pc := 85) (v := .ref (a + 5)) G flX2_34_1 dX2_become_85 rfl ?_
        refine ax_cS0 (pc := 88) (kb := 0) (nb := 0) G (ct_scopy hA (s := pMx 4 s s2) (s' := pMx 5 s s2) (p := (π, .ref sc2, rl2)) (k := 5) (f := fun j => s2 (sIx 5 j)) ha (by decide) (by decide) ((sH_out (by omega)).trans ((((fr9 _ (by omega) (by omega) (by omega)).trans ((f189 _ (by omega) (by omega)))).trans (f1 _ (by omega))).trans (hSb.arr (k := 5) (by decide) (by decide)))) ((pMx_F (h := h)).trans (pMx_F (h := h)).symm) (fun j hj => pMx_g (by decide) (by decide) hj) (fun k' g1 g2 g3 j hj => pMx_o g1 g2 g3 hj)) lSX2_126 dX2_become_88 rfl (by decide) (Nat.le_of_ble_eq_true rfl) rfl ?_
        show ax_W Ω Γ _ _ (sH hh a (pMx 5 s s2, π, (.ref sc2), rl2)) _ _ _
        refine ax_aload_n (pc := 91) G dX2_become_91 rfl rfl ?_
        refine ax_getf (pc := 92) (v := .ref (b + 6)) G flX2_37_1 dX2_become_92 ((sH_out (by omega)).trans ((((fr9 _ (by omega) (by omega) (by omega)).trans ((f189 _ (by omega) (by omega)))).trans (f1 _ (by omega))).trans hSb.obj)) rfl ?_
        refine ax_aload_n (pc := 95) G dX2_become_95 rfl rfl ?_
        refine sr_get (pc := 96) (v := .ref (a + 6)) G flX2_37_1 dX2_become_96 rfl ?_
        refine ax_cS0 (pc := 99) (kb := 0) (nb := 0) G (ct_scopy hA (s := pMx 5 s s2) (s' := pMx 6 s s2) (p := (π, .ref sc2, rl2)) (k := 6) (f := fun j => s2 (sIx 6 j)) ha (by decide) (by decide) ((sH_out (by omega)).trans ((((fr9 _ (by omega) (by omega) (by omega)).trans ((f189 _ (by omega) (by omega)))).trans (f1 _ (by omega))).trans (hSb.arr (k := 6) (by decide) (by decide)))) ((pMx_F (h := h)).trans (pMx_F (h := h)).symm) (fun j hj => pMx_g (by decide) (by decide) hj) (fun k' g1 g2 g3 j hj => pMx_o g1 g2 g3 hj)) lSX2_126 dX2_become_99 rfl (by decide) (Nat.le_of_ble_eq_true rfl) rfl ?_
        show ax_W Ω Γ _ _ (sH hh a (pMx 6 s s2, π, (.ref sc2), rl2)) _ _ _
        refine ax_aload_n (pc := 102) G dX2_become_102 rfl rfl ?_
        refine ax_getf (pc := 103) (v := .ref (b + 7)) G flX2_40_1 dX2_become_103 ((sH_out (by omega)).trans ((((fr9 _ (by omega) (by omega) (by omega)).trans ((f189 _ (by omega) (by omega)))).trans (f1 _ (by omega))).trans hSb.obj)) rfl ?_
        refine ax_aload_n (pc := 106) G dX2_become_106 rfl rfl ?_
        refine sr_get (pc := 107) (v := .ref (a + 7)) G flX2_40_1 dX2_become_107 rfl ?_
        refine ax_cS0 (pc := 110) (kb := 0) (nb := 0) G (ct_scopy hA (s := pMx 6 s s2) (s' := pMx 7 s s2) (p := (π, .ref sc2, rl2)) (k := 7) (f := fun j => s2 (sIx 7 j)) ha (by decide) (by decide) ((sH_out (by omega)).trans ((((fr9 _ (by omega) (by omega) (by omega)).trans ((f189 _ (by omega) (by omega)))).trans (f1 _ (by omega))).trans (hSb.arr (k := 7) (by decide) (by decide)))) ((pMx_F (h := h)).trans (pMx_F (h := h)).symm) (fun j hj => pMx_g (by decide) (by decide) hj) (fun k' g1 g2 g3 j hj => pMx_o g1 g2 g3 hj)) lSX2_126 dX2_become_110 rfl (by decide) (Nat.le_of_ble_eq_true rfl) rfl ?_
        show ax_W Ω Γ _ _ (sH hh a (pMx 7 s s2, π, (.ref sc2), rl2)) _ _ _
        refine ax_aload_n (pc := 113) G dX2_become_113 rfl rfl ?_
        refine ax_getf (pc := 114) (v := .ref (b + 8)) G flX2_43_1 dX2_become_114 ((sH_out (by omega)).trans ((((fr9 _ (by omega) (by omega) (by omega)).trans ((f189 _ (by omega) (by omega)))).trans (f1 _ (by omega))).trans hSb.obj)) rfl ?_
        refine ax_aload_n (pc := 117) G dX2_become_117 rfl rfl ?_
        refine sr_get (pc := 118) (v := .ref (a + 8)) G flX2_43_1 dX2_become_118 rfl ?_
        refine ax_cS0 (pc := 121) (kb := 0) (nb := 0) G (ct_scopy hA (s := pMx 7 s s2) (s' := pMx 8 s s2) (p := (π, .ref sc2, rl2)) (k := 8) (f := fun j => s2 (sIx 8 j)) ha (by decide) (by decide) ((sH_out (by omega)).trans ((((fr9 _ (by omega) (by omega) (by omega)).trans ((f189 _ (by omega) (by omega)))).trans (f1 _ (by omega))).trans (hSb.arr (k := 8) (by decide) (by decide)))) ((pMx_F (h := h)).trans (pMx_F (h := h)).symm) (fun j hj => pMx_g (by decide) (by decide) hj) (fun k' g1 g2 g3 j hj => pMx_o g1 g2 g3 hj)) lSX2_126 dX2_become_121 rfl (by decide) (Nat.le_of_ble_eq_true rfl) rfl ?_
        show ax_W Ω Γ _ _ (sH hh a (pMx 8 s s2, π, (.ref sc2), rl2)) _ _ _
        refine ax_aload_n (pc := 124) G dX2_become_124 rfl rfl ?_
        refine ax_getf (pc := 125) (v := .ref (b + 9)) G flX2_46_1 dX2_become_125 ((sH_out (by omega)).trans ((((fr9 _ (by omega) (by omega) (by omega)).trans ((f189 _ (by omega) (by omega)))).trans (f1 _ (by omega))).trans hSb.obj)) rfl ?_
        refine ax_aload_n (pc := 128) G dX2_become_128 rfl rfl ?_
        refine sr_get (pc := 129) (v := .ref (a + 9)) G flX2_46_1 dX2_become_129 rfl ?_
        refine ax_cS0 (pc := 132) (kb := 0) (nb := 0) G (ct_scopy hA (s := pMx 8 s s2) (s' := pMx 9 s s2) (p := (π, .ref sc2, rl2)) (k := 9) (f := fun j => s2 (sIx 9 j)) ha (by decide) (by decide) ((sH_out (by omega)).trans ((((fr9 _ (by omega) (by omega) (by omega)).trans ((f189 _ (by omega) (by omega)))).trans (f1 _ (by omega))).trans (hSb.arr (k := 9) (by decide) (by decide)))) ((pMx_F (h := h)).trans (pMx_F (h := h)).symm) (fun j hj => pMx_g (by decide) (by decide) hj) (fun k' g1 g2 g3 j hj => pMx_o g1 g2 g3 hj)) lSX2_126 dX2_become_132 rfl (by decide) (Nat.le_of_ble_eq_true rfl) rfl ?_
        show ax_W Ω Γ _ _ (sH hh a (pMx 9 s s2, π, (.ref sc2), rl2)) _ _ _
        refine ax_aload_n (pc := 135) G dX2_become_135 rfl rfl ?_
        refine ax_getf (pc := 136) (v := .ref (b + 10)) G flX2_49_1 dX2_become_136 ((sH_out (by omega)).trans ((((fr9 _ (by omega) (by omega) (by omega)).trans ((f189 _ (by omega) (by omega)))).trans (f1 _ (by omega))).trans hSb.obj)) rfl ?_
        refine ax_aload_n (pc := 139) G dX2_become_139 rfl rfl ?_
        refine sr_get (pc := 140) (v := .ref (a + 10)) G flX2_49_1 dX2_become_140 rfl ?_
        refine ax_cS0 (pc := 143) (kb := 0) (nb := 0) G (ct_scopy hA (s := pMx 9 s s2) (s' := pMx 10 s s2) (p := (π, .ref sc2, rl2)) (k := 10) (f := fun j => s2 (sIx 10 j)) ha (by decide) (by decide) ((sH_out (by omega)).trans ((((fr9 _ (by omega) (by omega) (by omega)).trans ((f189 _ (by omega) (by omega)))).trans (f1 _ (by omega))).trans (hSb.arr (k := 10) (by decide) (by decide)))) ((pMx_F (h := h)).trans (pMx_F (h := h)).symm) (fun j hj => pMx_g (by decide) (by decide) hj) (fun k' g1 g2 g3 j hj => pMx_o g1 g2 g3 hj)) lSX2_126 dX2_become_143 rfl (by decide) (Nat.le_of_ble_eq_true rfl) rfl ?_
        show ax_W Ω Γ _ _ (sH hh a (pMx 10 s s2, π, (.ref sc2), rl2)) _ _ _
        refine ax_aload_n (pc := 146) G dX2_become_146 rfl rfl ?_
        refine ax_getf (pc := 147) (v := .ref (b + 11)) G flX2_52_1 dX2_become_147 ((sH_out (by omega)).trans ((((fr9 _ (by omega) (by omega) (by omega)).trans ((f189 _ (by omega) (by omega)))).trans (f1 _ (by omega))).trans hSb.obj)) rfl ?_
        refine ax_aload_n (pc := 150) G dX2_become_150 rfl rfl ?_
        refine sr_get (pc := 151) (v := .ref (a + 11)) G flX2_52_1 dX2_become_151 rfl ?_
        refine ax_cS0 (pc := 154) (kb := 0) (nb := 0) G (ct_scopy hA (s := pMx 10 s s2) (s' := pMx 11 s s2) (p := (π, .ref sc2, rl2)) (k := 11) (f := fun j => s2 (sIx 11 j)) ha (by decide) (by decide) ((sH_out (by omega)).trans ((((fr9 _ (by omega) (by omega) (by omega)).trans ((f189 _ (by omega) (by omega)))).trans (f1 _ (by omega))).trans (hSb.arr (k := 11) (by decide) (by decide)))) ((pMx_F (h := h)).trans (pMx_F (h := h)).symm) (fun j hj => pMx_g (by decide) (by decide) hj) (fun k' g1 g2 g3 j hj => pMx_o g1 g2 g3 hj)) lSX2_126 dX2_become_154 rfl (by decide) (Nat.le_of_ble_eq_true rfl) rfl ?_
        show ax_W Ω Γ _ _ (sH hh a (pMx 11 s s2, π, (.ref sc2), rl2)) _ _ _
        refine ax_aload_n (pc := 157) G dX2_become_157 rfl rfl ?_
        refine ax_getf (pc := 158) (v := .ref (b + 12)) G flX2_55_1 dX2_become_158 ((sH_out (by omega)).trans ((((fr9 _ (by omega) (by omega) (by omega)).trans ((f189 _ (by omega) (by omega)))).trans (f1 _ (by omega))).trans hSb.obj)) rfl ?_
        refine ax_aload_n (pc := 161) G dX2_become_161 rfl rfl ?_
        refine sr_get (pc := 162) (v := .ref (a + 12)) G flX2_55_1 dX2_become_162 rfl ?_
        refine ax_cS0 (pc := 165) (kb := 0) (nb := 0) G (ct_scopy hA (s := pMx 11 s s2) (s' := pMx 12 s s2) (p := (π, .ref sc2, rl2)) (k := 12) (f := fun j => s2 (sIx 12 j)) ha (by decide) (by decide) ((sH_out (by omega)).trans ((((fr9 _ (by omega) (by omega) (by omega)).trans ((f189 _ (by omega) (by omega)))).trans (f1 _ (by omega))).trans (hSb.arr (k := 12) (by decide) (by decide)))) ((pMx_F (h := h)).trans (pMx_F (h := h)).symm) (fun j hj => pMx_g (by decide) (by decide) hj) (fun k' g1 g2 g3 j hj => pMx_o g1 g2 g3 hj)) lSX2_126 dX2_become_165 rfl (by decide) (Nat.le_of_ble_eq_true rfl) rfl ?_
        show ax_W Ω Γ _ _ (sH hh a (pMx 12 s s2, π, (.ref sc2), rl2)) _ _ _
        refine ax_aload_n (pc := 168) G dX2_become_168 rfl rfl ?_
        refine ax_getf (pc := 169) (v := .ref (b + 13)) G flX2_58_1 dX2_become_169 ((sH_out (by omega)).trans ((((fr9 _ (by omega) (by omega) (by omega)).trans ((f189 _ (by omega) (by omega)))).trans (f1 _ (by omega))).trans hSb.obj)) rfl ?_
        refine ax_aload_n (pc := 172) G dX2_become_172 rfl rfl ?_
        refine sr_get (pc := 173) (v := .ref (a + 13)) G flX2_58_1 dX2_become_173 rfl ?_
        refine ax_cS0 (pc := 176) (kb := 0) (nb := 0) G (ct_scopy hA (s := pMx 12 s s2) (s' := pMx 13 s s2) (p := (π, .ref sc2, rl2)) (k := 13) (f := fun j => s2 (sIx 13 j)) ha (by decide) (by decide) ((sH_out (by omega)).trans ((((fr9 _ (by omega) (by omega) (by omega)).trans ((f189 _ (by omega) (by omega)))).trans (f1 _ (by omega))).trans (hSb.arr (k := 13) (by decide) (by decide)))) ((pMx_F (h := h)).trans (pMx_F (h := h)).symm) (fun j hj => pMx_g (by decide) (by decide) hj) (fun k' g1 g2 g3 j hj => pMx_o g1 g2 g3 hj)) lSX2_126 dX2_become_176 rfl (by decide) (Nat.le_of_ble_eq_true rfl) rfl ?_
        show ax_W Ω Γ _ _ (sH hh a (pMx 13 s s2, π, (.ref sc2), rl2)) _ _ _
        refine ax_aload_n (pc := 179) G dX2_become_179 rfl rfl ?_
        refine ax_getf (pc := 180) (v := .ref (b + 14)) G flX2_61_1 dX2_become_180 ((sH_out (by omega)).trans ((((fr9 _ (by omega) (by omega) (by omega)).trans ((f189 _ (by omega) (by omega)))).trans (f1 _ (by omega))).trans hSb.obj)) rfl ?_
        refine ax_aload_n (pc := 183) G dX2_become_183 rfl rfl ?_
        refine sr_get (pc := 184) (v := .ref (a + 14)) G flX2_61_1 dX2_become_184 rfl ?_
        refine ax_cS0 (pc := 187) (kb := 0) (nb := 0) G (ct_scopy hA (s := pMx 13 s s2) (s' := pMx 14 s s2) (p := (π, .ref sc2, rl2)) (k := 14) (f := fun j => s2 (sIx 14 j)) ha (by decide) (by decide) ((sH_out (by omega)).trans ((((fr9 _ (by omega) (by omega) (by omega)).trans ((f189 _ (by omega) (by omega)))).trans (f1 _ (by omega))).trans (hSb.arr (k := 14) (by decide) (by decide)))) ((pMx_F (h := h)).trans (pMx_F (h := h)).symm) (fun j hj => pMx_g (by decide) (by decide) hj) (fun k' g1 g2 g3 j hj => pMx_o g1 g2 g3 hj)) lSX2_126 dX2_become_187 rfl (by decide) (Nat.le_of_ble_eq_true rfl) rfl ?_
        show ax_W Ω Γ _ _ (sH hh a (pMx 14 s s2, π, (.ref sc2), rl2)) _ _ _
        refine ax_aload_n (pc := 190) G dX2_become_190 rfl rfl ?_
        refine ax_getf (pc := 191) (v := .ref (b + 15)) G flX2_64_1 dX2_become_191 ((sH_out (by omega)).trans ((((fr9 _ (by omega) (by omega) (by omega)).trans ((f189 _ (by omega) (by omega)))).trans (f1 _ (by omega))).trans hSb.obj)) rfl ?_
        refine ax_aload_n (pc := 194) G dX2_become_194 rfl rfl ?_
        refine sr_get (pc := 195) (v := .ref (a + 15)) G flX2_64_1 dX2_become_195 rfl ?_
        refine ax_cS0 (pc := 198) (kb := 0) (nb := 0) G (ct_scopy hA (s := pMx 14 s s2) (s' := pMx 15 s s2) (p := (π, .ref sc2, rl2)) (k := 15) (f := fun j => s2 (sIx 15 j)) ha (by decide) (by decide) ((sH_out (by omega)).trans ((((fr9 _ (by omega) (by omega) (by omega)).trans ((f189 _ (by omega) (by omega)))).trans (f1 _ (by omega))).trans (hSb.arr (k := 15) (by decide) (by decide)))) ((pMx_F (h := h)).trans (pMx_F (h := h)).symm) (fun j hj => pMx_g (by decide) (by decide) hj) (fun k' g1 g2 g3 j hj => pMx_o g1 g2 g3 hj)) lSX2_126 dX2_become_198 rfl (by decide) (Nat.le_of_ble_eq_true rfl) rfl ?_
        show ax_W Ω Γ _ _ (sH hh a (pMx 15 s s2, π, (.ref sc2), rl2)) _ _ _
        refine ax_aload_n (pc := 201) G dX2_become_201 rfl rfl ?_
        refine ax_aload_n (pc := 202) G dX2_become_202 rfl rfl ?_
        refine ax_getf (pc := 203) (v := .int (s2 0)) G flX2_130_1 dX2_become_203 ((sH_out (by omega)).trans ((((fr9 _ (by omega) (by omega) (by omega)).trans ((f189 _ (by omega) (by omega)))).trans (f1 _ (by omega))).trans hSb.obj)) rfl ?_
        refine sr_put (pc := 206) (k := 15) (r := 0) G flX2_130_1 dX2_become_206 ha (by decide) (by decide) rfl rfl rfl ?_
        show ax_W Ω Γ _ _ (sH hh a (upd (pMx 15 s s2) 0 (s2 0), π, (.ref sc2), rl2)) _ _ _
        refine ax_aload_n (pc := 209) G dX2_become_209 rfl rfl ?_
        refine ax_aload_n (pc := 210) G dX2_become_210 rfl rfl ?_
        refine ax_getf (pc := 211) (v := .int (s2 1)) G flX2_133_1 dX2_become_211 ((sH_out (by omega)).trans ((((fr9 _ (by omega) (by omega) (by omega)).trans ((f189 _ (by omega) (by omega)))).trans (f1 _ (by omega))).trans hSb.obj)) rfl ?_
        refine sr_put (pc := 214) (k := 16) (r := 1) G flX2_133_1 dX2_become_214 ha (by decide) (by decide) rfl rfl rfl ?_
        show ax_W Ω Γ _ _ (sH hh a (upd (upd (pMx 15 s s2) 0 (s2 0)) 1 (s2 1), π, (.ref sc2), rl2)) _ _ _
        refine ax_aload_n (pc := 217) G dX2_become_217 rfl rfl ?_
        refine ax_aload_n (pc := 218) G dX2_become_218 rfl rfl ?_
        refine ax_getf (pc := 219) (v := .int (s2 2)) G flX2_136_1 dX2_become_219 ((sH_out (by omega)).trans ((((fr9 _ (by omega) (by omega) (by omega)).trans ((f189 _ (by omega) (by omega)))).trans (f1 _ (by omega))).trans hSb.obj)) rfl ?_
        refine sr_put (pc := 222) (k := 17) (r := 2) G flX2_136_1 dX2_become_222 ha (by decide) (by decide) rfl rfl rfl ?_
        show ax_W Ω Γ _ _ (sH hh a (upd (upd (upd (pMx 15 s s2) 0 (s2 0)) 1 (s2 1)) 2 (s2 2), π, (.ref sc2), rl2)) _ _ _
        refine ax_aload_n (pc := 225) G dX2_become_225 rfl rfl ?_
        refine ax_aload_n (pc := 226) G dX2_become_226 rfl rfl ?_
        refine ax_getf (pc := 227) (v := .int (s2 3)) G flX2_139_1 dX2_become_227 ((sH_out (by omega)).trans ((((fr9 _ (by omega) (by omega) (by omega)).trans ((f189 _ (by omega) (by omega)))).trans (f1 _ (by omega))).trans hSb.obj)) rfl ?_
        refine sr_put (pc := 230) (k := 18) (r := 3) G flX2_139_1 dX2_become_230 ha (by decide) (by decide) rfl rfl rfl ?_
        show ax_W Ω Γ _ _ (sH hh a (upd (upd (upd (upd (pMx 15 s s2) 0 (s2 0)) 1 (s2 1)) 2 (s2 2)) 3 (s2 3), π, (.ref sc2), rl2)) _ _ _
        refine ax_aload_n (pc := 233) G dX2_become_233 rfl rfl ?_
        refine ax_aload_n (pc := 234) G dX2_become_234 rfl rfl ?_
        refine ax_getf (pc := 235) (v := .int (s2 4)) G flX2_142_1 dX2_become_235 ((sH_out (by omega)).trans ((((fr9 _ (by omega) (by omega) (by omega)).trans ((f189 _ (by omega) (by omega)))).trans (f1 _ (by omega))).trans hSb.obj)) rfl ?_
        refine sr_put (pc := 238) (k := 19) (r := 4) G flX2_142_1 dX2_become_238 ha (by decide) (by decide) rfl rfl rfl ?_
        show ax_W Ω Γ _ _ (sH hh a (upd (upd (upd (upd (upd (pMx 15 s s2) 0 (s2 0)) 1 (s2 1)) 2 (s2 2)) 3 (s2 3)) 4 (s2 4), π, (.ref sc2), rl2)) _ _ _
        refine ax_aload_n (pc := 241) G dX2_become_241 rfl rfl ?_
        refine ax_aload_n (pc := 242) G dX2_become_242 rfl rfl ?_
        refine ax_getf (pc := 243) (v := .int (s2 15)) G flX2_145_1 dX2_become_243 ((sH_out (by omega)).trans ((((fr9 _ (by omega) (by omega) (by omega)).trans ((f189 _ (by omega) (by omega)))).trans (f1 _ (by omega))).trans hSb.obj)) rfl ?_
        refine sr_put (pc := 246) (k := 20) (r := 15) G flX2_145_1 dX2_become_246 ha (by decide) (by decide) rfl rfl rfl ?_
        show ax_W Ω Γ _ _ (sH hh a (upd (upd (upd (upd (upd (upd (pMx 15 s s2) 0 (s2 0)) 1 (s2 1)) 2 (s2 2)) 3 (s2 3)) 4 (s2 4)) 15 (s2 15), π, (.ref sc2), rl2)) _ _ _
        refine ax_aload_n (pc := 249) G dX2_become_249 rfl rfl ?_
        refine ax_aload_n (pc := 250) G dX2_become_250 rfl rfl ?_
        refine ax_getf (pc := 251) (v := .int (s2 5)) G flX2_148_1 dX2_become_251 ((sH_out (by omega)).trans ((((fr9 _ (by omega) (by omega) (by omega)).trans ((f189 _ (by omega) (by omega)))).trans (f1 _ (by omega))).trans hSb.obj)) rfl ?_
        refine sr_put (pc := 254) (k := 21) (r := 5) G flX2_148_1 dX2_become_254 ha (by decide) (by decide) rfl rfl rfl ?_
        show ax_W Ω Γ _ _ (sH hh a (upd (upd (upd (upd (upd (upd (upd (pMx 15 s s2) 0 (s2 0)) 1 (s2 1)) 2 (s2 2)) 3 (s2 3)) 4 (s2 4)) 15 (s2 15)) 5 (s2 5), π, (.ref sc2), rl2)) _ _ _
        refine ax_aload_n (pc := 257) G dX2_become_257 rfl rfl ?_
        refine ax_aload_n (pc := 258) G dX2_become_258 rfl rfl ?_
        refine ax_getf (pc := 259) (v := .int (s2 16)) G flX2_151_1 dX2_become_259 ((sH_out (by omega)).trans ((((fr9 _ (by omega) (by omega) (by omega)).trans ((f189 _ (by omega) (by omega)))).trans (f1 _ (by omega))).trans hSb.obj)) rfl ?_
        refine sr_put (pc := 262) (k := 22) (r := 16) G flX2_151_1 dX2_become_262 ha (by decide) (by decide) rfl rfl rfl ?_
        show ax_W Ω Γ _ _ (sH hh a (upd (upd (upd (upd (upd (upd (upd (upd (pMx 15 s s2) 0 (s2 0)) 1 (s2 1)) 2 (s2 2)) 3 (s2 3)) 4 (s2 4)) 15 (s2 15)) 5 (s2 5)) 16 (s2 16), π, (.ref sc2), rl2)) _ _ _
        refine ax_W_le pMx_end ?_
        have z69 : (sH hh a (s2, π, Value.ref sc2, rl2)).2 = hh.2 := rfl
        refine ax_aload_n (pc := 265) G dX2_become_265 rfl rfl ?_
        exact ax_aretP (pc := 266) G E rfl (Or.inl ⟨_, rfl⟩) (Or.inr ⟨_, rfl⟩) dX2_become_266 (⟨_, rfl, rfl, sIs.of, m9, e9, cap9, f9, (sH_out (by omega)).trans gL9, (sH_out (by omega)).trans gE9, by omega, hc9, hi9, hp9, hs9, fun q a1 a2 a3 => (sH_out (by omega)).trans (((fr9 _ (by omega) (by omega) (by omega)).trans (f189 _ (by omega) (by omega))).trans (f1 _ (by omega))), by omega, by omega, sH_wf wr9 (by omega)⟩)
      · omega
    | succ k ih =>
      intro i hh m9 e9 cap9 f9 hi gL9 gE9 he9 hc9 hi9 hp9 hs9 fr9 hz9 wr9
      refine ax_more (kb := (k * 1 + 0) + 1) (nb := (k * 200 + 0) + 200) (by omega) (by omega) ?_
      have hal9 : hh.1 (al i) = some (.inr (14, alf i)) := (fr9 _ (by have := hlal i (by omega); omega) (by have := hoal i (by omega); omega) (hnal i (by omega))).trans (hal7 i (by omega))
      have hel9 : ∀ j, j < cap9 → ∀ q, f9 j = some q → ∃ ci fs, hh.1 q = some (.inr (ci, fs)) ∧ ax_may ci "java/lang/Object" := by
        intro j hj q hq
        have q2 : h189.1 q = hh.1 q → ∃ fs, h189.1 q = some (.inr (14, fs)) → True := fun _ => ⟨[], fun _ => trivial⟩
        rcases hs9 j hj q hq with ⟨k, hk, e3⟩ | ⟨j', hj', e3⟩
        · subst e3
          exact ⟨14, _, (fr9 _ (by have := hlal k hk; omega) (by have := hoal k hk; omega) (hnal k hk)).trans (hal7 k hk), ⟨_, rfl, Or.inr q3286⟩⟩
        · obtain ⟨fs, g1, g2⟩ := hel7 j' hj' q e3
          exact ⟨14, fs, (fr9 _ (by have := wf.lt (hel j' hj' q e3).choose_spec.1; omega) (by omega) (fun z => by rw [z] at g1; rw [(k189)] at g1; cases g1)).trans g1, ⟨_, rfl, Or.inr q3286⟩⟩
      refine ax_iload_n (pc := 27) G dX2_become_27 rfl rfl ?_
      refine ax_aload_n (pc := 28) G dX2_become_28 rfl rfl ?_
      refine ax_getf (pc := 29) (v := .ref (b + 2)) G flX2_26_1 dX2_become_29 ((fr9 _ (by omega) (by omega) (by omega)).trans ((f189 _ (by omega) (by omega)).trans ((f1 _ (by omega)).trans hSb.obj))) rfl ?_
      refine ax_cJ1 (pc := 32) (kb := ((k * 1 + 0) + 1)) (nb := ((k * 200 + 0) + 200)) G (ct_lsize hA ((fr9 _ (by omega) (by omega) (by omega)).trans ((f189 _ (by omega) (by omega)).trans ((f1 _ (by omega)).trans hL2)))) lJX2_89_16 dX2_become_32 ((fr9 _ (by omega) (by omega) (by omega)).trans ((f189 _ (by omega) (by omega)).trans ((f1 _ (by omega)).trans hL2))) rfl (by decide) (Nat.le_of_ble_eq_true rfl) rfl ?_
      refine ax_icmp_geN (pc := 37) (tgt := 69) G dX2_become_37 rfl (by omega) (by omega) (fun c37 => ?_) (fun c37 => ?_)
      · omega
      · refine ax_aload_n (pc := 40) G dX2_become_40 rfl rfl ?_
        refine ax_getf (pc := 41) (v := .ref (a + 2)) G flX2_26_1 dX2_become_41 ((fr9 _ (by omega) (by omega) (by omega)).trans ((f189 _ (by omega) (by omega)).trans (S1.obj))) rfl ?_
        refine ax_aload_n (pc := 44) G dX2_become_44 rfl rfl ?_
        refine ax_getf (pc := 45) (v := .ref (b + 2)) G flX2_26_1 dX2_become_45 ((fr9 _ (by omega) (by omega) (by omega)).trans ((f189 _ (by omega) (by omega)).trans ((f1 _ (by omega)).trans hSb.obj))) rfl ?_
        refine ax_iload_n (pc := 48) G dX2_become_48 rfl rfl ?_
        refine ax_cJ1 (pc := 49) (kb := ((k * 1 + 0) + 1)) (nb := ((k * 200 + 0) + 200)) G (ct_lget hA ((fr9 _ (by omega) (by omega) (by omega)).trans ((f189 _ (by omega) (by omega)).trans ((f1 _ (by omega)).trans hL2))) ((fr9 _ (by omega) (by omega) (by omega)).trans ((f189 _ (by omega) (by omega)).trans ((f1 _ (by omega)).trans hE2))) i (by omega) hA2 (by omega) (hf2 i (by omega))) lJX2_95_16 dX2_become_49 ((fr9 _ (by omega) (by omega) (by omega)).trans ((f189 _ (by omega) (by omega)).trans ((f1 _ (by omega)).trans hL2))) rfl (by decide) (Nat.le_of_ble_eq_true rfl) rfl ?_
        refine ax_checkcast (pc := 54) G q1961 ⟨_, rfl, Or.inl rfl⟩ dX2_become_54 (hal9) ?_
        refine ax_nJ (pc := 57) (kb := (k * 1 + 0)) (nb := (k * 200 + 0)) G (ct_ladd hA wr9 (by omega) (gE9) (by omega) (by omega) (gL9) (by omega) hel9 (by omega) (by omega) hal9 (⟨_, rfl, Or.inr q3286⟩) (by have := hoal i (by omega); omega)) lJX2_122_16 dX2_become_57 (gL9) rfl (by decide) (Nat.le_of_ble_eq_true rfl) rfl (fun vA hA9 q9 => ?_)
        obtain ⟨rfl, e8, cap8, f8, B1, B2, B3, B4, B5, B6, B7, B8, fA, wA⟩ := q9
        show ax_W Ω Γ _ _ (hA9) _ _ (.int (nI 1) :: _)
        refine ax_pop (pc := 62) G dX2_become_62 rfl ?_
        refine ax_iincN (pc := 63) (n := 1) G dX2_become_63 rfl rfl ic_1 ?_
        refine ax_goto (pc := 66) (tgt := 27) G dX2_become_66 rfl ?_
        refine ax_more (kb := (k * 1 + 0)) (nb := (k * 200 + 0)) (by omega) (by omega) ?_
        exact ih (i + 1) hA9 _ e8 cap8 f8 (by omega) B1 B2 (by omega) (by omega) (by omega) (fun k hk => by
          by_cases c : k = i
          · rw [c]; exact B6
          · rw [B5 k (by omega)]; exact hp9 k (by omega)) (fun i' hi' q hq => by
          rcases B7 i' hi' q hq with e3 | ⟨k, hk, e3⟩
          · exact Or.inl ⟨i, by omega, e3⟩
          · exact hs9 k hk q e3) (fun q a1 a2 a3 => (fA q (by omega) a2 (by omega)).trans (fr9 q a1 a2 a3)) (by omega) wA
  refine ax_more (kb := A * 1 + 0) (nb := A * 200 + 0) (by omega) (by omega) ?_
  exact LA A 0 h189 _ e cap f7 (by omega) (g189) (k189) (by omega) (by omega) (by omega) (fun k hk => absurd hk (Nat.not_lt_zero _)) (fun j hj q hq => Or.inr ⟨j, hj, sub7 j hj q hq⟩) (fun q a1 a2 a3 => rfl) (by omega) w189

