/-! THE COMPONENT: steps, said by the model's functions -/
theorem ax_MetP.leR {Ω : ax_O} {y : MethodName} {d mc ms : Nat} {As : List Value} {h : ax_H} {Q Q' : ax_PQ} (M : ax_MetP Ω y d mc ms As h Q) (hq : ∀ o h', Q o h' → ∃ h2, ax_le h' h2 ∧ Q' o h2) : ax_MetP Ω y d mc ms As h Q' := by
  obtain ⟨cc, nL, ret, a, b, c, M⟩ := M
  refine ⟨cc, nL, ret, a, b, c, fun p e a1 a2 a3 s m args below b1 b2 b3 b4 => ?_⟩
  obtain ⟨n, oc, c1, c2, c3, o, h', c4, c5⟩ := M p e a1 a2 a3 s m args below b1 b2 b3 b4
  obtain ⟨h2, hl, q2⟩ := hq o h' c4
  exact ⟨n, oc, c1, c2, c3, o, h2, q2, ax_R_le hl c5.1, c5.2⟩
theorem sH_pEq {h : ax_H} {a : Nat} {s t : pR} {p : (Nat → cP) × Value × Nat} (e : pEq s t) : ax_le (sH h a (s, p)) (sH h a (t, p)) := by
  have z : ∀ r, (r < 35 ∨ 41 ≤ r) → s r = t r := e
  refine sH_le ?_ (fun k h1 h2 j hj => ?_) (fun _ _ => rfl)
  · unfold sF
    dsimp only
    rw [z 0 (by omega), z 1 (by omega), z 2 (by omega), z 3 (by omega), z 4 (by omega), z 15 (by omega), z 5 (by omega), z 16 (by omega)]
  · refine z _ ?_
    have c1 : k = 4 ∨ k = 5 ∨ k = 6 ∨ k = 7 ∨ k = 8 ∨ k = 9 ∨ k = 10 ∨ k = 11 ∨ k = 12 ∨ k = 13 ∨ k = 14 ∨ k = 15 := by omega
    rcases c1 with rfl | rfl | rfl | rfl | rfl | rfl | rfl | rfl | rfl | rfl | rfl | rfl <;> (simp only [sx4, sl4, sx5, sl5, sx6, sl6, sx7, sl7, sx8, sl8, sx9, sl9, sx10, sl10, sx11, sl11, sx12, sl12, sx13, sl13, sx14, sl14, sx15, sl15] at hj ⊢; omega)
theorem pIm_stepP {pl s : pR} {P V O A pol : Nat} (hw : pWP pl P V O) (hW : pWS s A) (hp : pBP pl V) (hs : pBS pl s A) (h0 : (s 0).toInt < (pl 0).toInt) (hpol : pol < 4) (h5 : s 5 = nI pol) : pIm s (pStep pl s V A).1 :=
  fun k hk j hj => ((step_e hw hW hp hs h0 hpol h5).1 _ (Or.inr (by omega))).symm.trans ((pIm.st hw hW (pol := pol)) k hk j hj)
theorem ct_stepP {Ω : ax_O} (hA : ax_Amb Ω) {h : ax_H} {a : Nat} {pl s : pR} {π : Nat → cP} {N V O A : Nat} {D : cD} (ha : Ω.2.1.heap.size ≤ a) (hp : pWP pl N V O) (hs : pWS s A) (hE : cEn h a pl s N V O A D) (pol : Nat) (hpol : pol < 4) (hR : ∀ σ, (sH h a σ).1 (D.1 8) = some (.inr (2 + pol, []))) (hp9 : pBP pl V) (hb : pBS pl s A) (h5 : s 5 = nI pol) (h0 : (s 0).toInt < (pl 0).toInt) : ax_MetP Ω yX2_step 13 0 0 [.ref a] (sH h a (pF A s, π, (.ref (D.1 0)), (D.1 8))) (ax_Nm (fun x h' => x = none ∧ ∃ π', h' = sH h a (pF A (pStep pl s V A).1, π', .ref (D.1 0), D.1 8))) := by
  refine (ct_step hA ha hp hs.F (hE.im hs.lA pF_R.im) pol hpol hR).leR fun o h' q => ?_
  obtain ⟨v, rfl, rfl, π', rfl⟩ := q
  exact ⟨_, sH_pEq (stepF_e hp hs hp9 hb h0 hpol h5), none, rfl, rfl, π', rfl⟩
theorem ct_nextKindP {Ω : ax_O} (hA : ax_Amb Ω) {h : ax_H} {a : Nat} {pl s : pR} {π : Nat → cP} {N V O A : Nat} {D : cD} (ha : Ω.2.1.heap.size ≤ a) (hp : pWP pl N V O) (hs : pWS s A) (hE : cEn h a pl s N V O A D) (pol : Nat) (hpol : pol < 4) (hR : ∀ σ, (sH h a σ).1 (D.1 8) = some (.inr (2 + pol, []))) (hp9 : pBP pl V) (hb : pBS pl s A) (h5 : s 5 = nI pol) (h0 : ¬ s 0 = pl 0) : ax_MetP Ω yX2_nextKind 12 0 0 [.ref a] (sH h a (pF A s, π, (.ref (D.1 0)), (D.1 8))) (ax_Nm (fun x h' => x = some (.int (pStep pl s V A).2) ∧ ∃ π', h' = sH h a (pF A s, π', .ref (D.1 0), D.1 8))) := by
  rw [← nkF_e hp hs hp9 hb hpol h5 h0]
  exact ct_nextKind hA ha hp hs.F (hE.im hs.lA pF_R.im) pol hpol hR
theorem ct_stepsP {Ω : ax_O} (hA : ax_Amb Ω) {h : ax_H} {a : Nat} {pl s : pR} {π : Nat → cP} {N V O A : Nat} {D : cD} (ha : Ω.2.1.heap.size ≤ a) (hp : pWP pl N V O) (hs : pWS s A) (hE : cEn h a pl s N V O A D) (pol : Nat) (hpol : pol < 4) (hR : ∀ σ, (sH h a σ).1 (D.1 8) = some (.inr (2 + pol, []))) (hp9 : pBP pl V) (hb : pBS pl s A) (h5 : s 5 = nI pol) (M : Nat) (hM : M ≤ 4000) : ax_MetP Ω yX2_steps 14 0 0 [.ref a, .int (nI M)] (sH h a (pF A s, π, (.ref (D.1 0)), (D.1 8))) (ax_Nm (fun x h' => x = some (.int (nI (pMany pl V A M s).2)) ∧ ∃ π', h' = sH h a (pF A (pMany pl V A M s).1, π', .ref (D.1 0), D.1 8))) := by
  refine ax_metP q2104 q114 (by decide +kernel) (by decide) hA (Nat.le_of_ble_eq_true rfl) (fun Γ G E => ?_)
  have hV9 := hp.lV
  have hA9 := hs.lA
  have hO9 := hp.lO
  have L0 : ∀ (n e : Nat) (r : pR) (π : Nat → cP), e + n = M → pWS r A → cEn h a pl r N V O A D → pBS pl r A → r 5 = nI pol → e + (pMany pl V A n r).2 = (pMany pl V A M s).2 → (pMany pl V A n r).1 = (pMany pl V A M s).1 → ax_W Ω Γ 0 0 (sH h a (pF A r, π, (.ref (D.1 0)), (D.1 8))) 2 [some (.ref a), some (.int (nI M)), some (.int (nI e))] [] := by
    intro n
    induction n with
    | zero =>
      intro e r π hi hr hEr hbr h5r h1 h2
      have hi9 : M = e := by omega
      have h1b : e = (pMany pl V A M s).2 := h1
      have h2b : r = (pMany pl V A M s).1 := h2
      refine ax_iload_n (pc := 2) G dX2_steps_2 rfl rfl ?_
      refine ax_iload_n (pc := 3) G dX2_steps_3 rfl rfl ?_
      refine ax_icmp_geN (pc := 4) (tgt := 31) G dX2_steps_4 rfl (by omega) (by omega) (fun c4 => ?_) (fun c4 => ?_)
      · refine ax_iload_n (pc := 31) G dX2_steps_31 rfl rfl ?_
        exact ax_iretP (pc := 32) G E rfl (rfl) dX2_steps_32 (⟨_, rfl, by rw [← h1b], _, by rw [← h2b]⟩)
      · omega
    | succ n ih =>
      intro e r π hi hr hEr hbr h5r h1 h2
      rw [pMany_s] at h1 h2
      refine ax_iload_n (pc := 2) G dX2_steps_2 rfl rfl ?_
      refine ax_iload_n (pc := 3) G dX2_steps_3 rfl rfl ?_
      refine ax_icmp_geN (pc := 4) (tgt := 31) G dX2_steps_4 rfl (by omega) (by omega) (fun c4 => ?_) (fun c4 => ?_)
      · omega
      · refine ax_aload_n (pc := 7) G dX2_steps_7 rfl rfl ?_
        refine sr_get (pc := 8) (v := .int ((pF A r) 0)) G flX2_130_1 dX2_steps_8 rfl ?_
        refine ax_aload_n (pc := 11) G dX2_steps_11 rfl rfl ?_
        refine sr_get (pc := 12) (v := .ref (D.1 0)) G flX2_80_1 dX2_steps_12 rfl ?_
        refine ax_getf (pc := 15) (v := .int (pl 0)) G flX2_236_10 dX2_steps_15 (((hEr (pF A r, π, (.ref (D.1 0)), (D.1 8))).1).1) rfl ?_
        refine ax_icmp_ge (pc := 18) (tgt := 31) G dX2_steps_18 rfl (fun c18 => ?_) (fun c18 => ?_)
        · rw [pF_o (pX_lo (by omega))] at c18
          refine ax_iload_n (pc := 31) G dX2_steps_31 rfl rfl ?_
          exact ax_iretP (pc := 32) G E rfl (rfl) dX2_steps_32 (⟨_, rfl, by rw [if_pos c18] at h1; exact congrArg (fun z => some (Value.int (nI z))) h1, _, by rw [if_pos c18] at h2; rw [← h2]⟩)
        · rw [pF_o (pX_lo (by omega))] at c18
          refine ax_aload_n (pc := 21) G dX2_steps_21 rfl rfl ?_
          refine ax_nV (pc := 22) (kb := 0) (nb := 0) G (ct_stepP hA (π := π) ha hp hr hEr pol hpol hR hp9 hbr h5r (Int.not_le.mp (fun z => c18 (le_t.mpr z)))) lVX2_292_1 dX2_steps_22 sH_obj rfl (by decide) (Nat.le_of_ble_eq_true rfl) rfl (fun v9 h9 q9 => ?_)
          obtain ⟨rfl, π10, rfl⟩ := q9
          show ax_W Ω Γ _ _ (sH h a (pF A (pStep pl r V A).1, π10, (.ref (D.1 0)), (D.1 8))) _ _ (_)
          refine ax_iincN (pc := 25) (n := 1) G dX2_steps_25 rfl rfl ic_1 ?_
          refine ax_goto (pc := 28) (tgt := 2) G dX2_steps_28 rfl ?_
          exact ih (e + 1) _ _ (by omega) (hr.step hp) (hEr.im hA9 (pIm_stepP hp hr hp9 hbr (Int.not_le.mp (fun z => c18 (le_t.mpr z))) hpol h5r)) (step_e hp hr hp9 hbr (Int.not_le.mp (fun z => c18 (le_t.mpr z))) hpol h5r).2.1 ((step_5 hp hr).trans h5r) (by rw [if_neg (Int32.not_le.mpr (Int32.not_le.mp c18))] at h1; rw [← h1]; omega) (by rw [if_neg (Int32.not_le.mpr (Int32.not_le.mp c18))] at h2; exact h2)
  show ax_W Ω Γ 0 0 (sH h a (pF A s, π, (.ref (D.1 0)), (D.1 8))) 0 [some (.ref a), some (.int (nI M)), none] []
  refine ax_iconst (pc := 0) (v := nI 0) G dX2_steps_0 ic_0 ?_
  refine ax_istore_n (pc := 1) G dX2_steps_1 rfl (Nat.le_of_ble_eq_true rfl) rfl ?_
  exact L0 M 0 s π (by omega) hs hE hb h5 (by omega) rfl

theorem ct_finishP {Ω : ax_O} (hA : ax_Amb Ω) {h : ax_H} {a : Nat} {pl s : pR} {π : Nat → cP} {N V O A : Nat} {D : cD} (ha : Ω.2.1.heap.size ≤ a) (hp : pWP pl N V O) (hs : pWS s A) (hE : cEn h a pl s N V O A D) (pol : Nat) (hpol : pol < 4) (hR : ∀ σ, (sH h a σ).1 (D.1 8) = some (.inr (2 + pol, []))) (hp9 : pBP pl V) (hb : pBS pl s A) (h5 : s 5 = nI pol) (M : Nat) (hF : pl 0 ≤ (pMany pl V A M s).1 0) : ax_MetP Ω yX2_finish 14 0 0 [.ref a] (sH h a (pF A s, π, (.ref (D.1 0)), (D.1 8))) (ax_Nm (fun x h' => x = some (.ref a) ∧ ∃ π', h' = sH h a (pF A (pMany pl V A M s).1, π', .ref (D.1 0), D.1 8))) := by
  refine ax_metP q2166 q114 (by decide +kernel) (by decide) hA (Nat.le_of_ble_eq_true rfl) (fun Γ G E => ?_)
  have hV9 := hp.lV
  have hA9 := hs.lA
  have hO9 := hp.lO
  have L0 : ∀ (n : Nat) (r : pR) (π : Nat → cP), pWS r A → cEn h a pl r N V O A D → pBS pl r A → r 5 = nI pol → pl 0 ≤ (pMany pl V A n r).1 0 → (pMany pl V A n r).1 = (pMany pl V A M s).1 → ax_W Ω Γ 0 0 (sH h a (pF A r, π, (.ref (D.1 0)), (D.1 8))) 0 [some (.ref a)] [] := by
    intro n
    induction n with
    | zero =>
      intro r π hr hEr hbr h5r h1 h2
      have h1b : pl 0 ≤ r 0 := h1
      have h2b : r = (pMany pl V A M s).1 := h2
      refine ax_aload_n (pc := 0) G dX2_finish_0 rfl rfl ?_
      refine sr_get (pc := 1) (v := .int ((pF A r) 0)) G flX2_130_1 dX2_finish_1 rfl ?_
      refine ax_aload_n (pc := 4) G dX2_finish_4 rfl rfl ?_
      refine sr_get (pc := 5) (v := .ref (D.1 0)) G flX2_80_1 dX2_finish_5 rfl ?_
      refine ax_getf (pc := 8) (v := .int (pl 0)) G flX2_236_10 dX2_finish_8 (((hEr (pF A r, π, (.ref (D.1 0)), (D.1 8))).1).1) rfl ?_
      refine ax_icmp_ge (pc := 11) (tgt := 21) G dX2_finish_11 rfl (fun _ => ?_) (fun c9 => absurd (by rw [pF_o (pX_lo (by omega))]; exact h1b) c9)
      refine ax_aload_n (pc := 21) G dX2_finish_21 rfl rfl ?_
      exact ax_aretP (pc := 22) G E rfl (Or.inl ⟨_, rfl⟩) (Or.inr ⟨_, rfl⟩) dX2_finish_22 (⟨_, rfl, rfl, _, by rw [← h2b]⟩)
    | succ n ih =>
      intro r π hr hEr hbr h5r h1 h2
      rw [pMany_s] at h1 h2
      refine ax_aload_n (pc := 0) G dX2_finish_0 rfl rfl ?_
      refine sr_get (pc := 1) (v := .int ((pF A r) 0)) G flX2_130_1 dX2_finish_1 rfl ?_
      refine ax_aload_n (pc := 4) G dX2_finish_4 rfl rfl ?_
      refine sr_get (pc := 5) (v := .ref (D.1 0)) G flX2_80_1 dX2_finish_5 rfl ?_
      refine ax_getf (pc := 8) (v := .int (pl 0)) G flX2_236_10 dX2_finish_8 (((hEr (pF A r, π, (.ref (D.1 0)), (D.1 8))).1).1) rfl ?_
      refine ax_icmp_ge (pc := 11) (tgt := 21) G dX2_finish_11 rfl (fun c11 => ?_) (fun c11 => ?_)
      · rw [pF_o (pX_lo (by omega))] at c11
        refine ax_aload_n (pc := 21) G dX2_finish_21 rfl rfl ?_
        exact ax_aretP (pc := 22) G E rfl (Or.inl ⟨_, rfl⟩) (Or.inr ⟨_, rfl⟩) dX2_finish_22 (⟨_, rfl, rfl, _, by rw [if_pos c11] at h2; rw [← h2]⟩)
      · rw [pF_o (pX_lo (by omega))] at c11
        refine ax_aload_n (pc := 14) G dX2_finish_14 rfl rfl ?_
        refine ax_nV (pc := 15) (kb := 0) (nb := 0) G (ct_stepP hA (π := π) ha hp hr hEr pol hpol hR hp9 hbr h5r (Int.not_le.mp (fun z => c11 (le_t.mpr z)))) lVX2_292_1 dX2_finish_15 sH_obj rfl (by decide) (Nat.le_of_ble_eq_true rfl) rfl (fun v9 h9 q9 => ?_)
        obtain ⟨rfl, π11, rfl⟩ := q9
        show ax_W Ω Γ _ _ (sH h a (pF A (pStep pl r V A).1, π11, (.ref (D.1 0)), (D.1 8))) _ _ (_)
        refine ax_goto (pc := 18) (tgt := 0) G dX2_finish_18 rfl ?_
        exact ih _ _ (hr.step hp) (hEr.im hA9 (pIm_stepP hp hr hp9 hbr (Int.not_le.mp (fun z => c11 (le_t.mpr z))) hpol h5r)) (step_e hp hr hp9 hbr (Int.not_le.mp (fun z => c11 (le_t.mpr z))) hpol h5r).2.1 ((step_5 hp hr).trans h5r) (by rw [if_neg c11] at h1; exact h1) (by rw [if_neg c11] at h2; exact h2)
  show ax_W Ω Γ 0 0 (sH h a (pF A s, π, (.ref (D.1 0)), (D.1 8))) 0 [some (.ref a)] []
  exact L0 M s π hs hE hb h5 hF rfl

