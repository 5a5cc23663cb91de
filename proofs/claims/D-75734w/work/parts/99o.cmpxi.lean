/-! TelescopeQueue: ways out of undo, save, restore; the buffer -/
theorem cj_undo_N {Ω : ax_O} (hA : ax_Amb Ω) {h : ax_H} {w : Nat → Nat} {X bf tr hi sv lb a : Nat} {stv : Value} {pl : pR} {N V O : Nat} {μ : md_S} (J : xG Ω h w X bf tr hi sv lb stv a pl N V O μ 0)  : ax_MetP Ω yX1_undo 20 2 12 [.ref X] h (fun o h' => o = .inr h.2 ∧ h' = ax_add h (.inr (21, []))) := by
  refine ax_metP q2518 q113 (by decide +kernel) (by decide) hA (Nat.le_of_ble_eq_true rfl) (fun Γ G E => ?_)
  obtain ⟨⟨gx1, gx2, gx3⟩, gb, gl, ⟨Q, e, hd, f, Bk, fs, ⟨x1, x2, x3⟩, ⟨y1, y2, y3, y4, y5, y6⟩, ⟨z1, z2, z3⟩, z4, z5, ⟨v1, v2, v3⟩, v4⟩, gt, wf, hz⟩ := id J
  have hlX := wf.lt gx1
  have hlH := wf.lt x1
  have hlQ := wf.lt x2
  have hlE := wf.lt x3
  have hlS := wf.lt v1
  have nXQ : X ≠ Q := fun z => by rw [z, x2] at gx1; cases gx1
  have nXe : X ≠ e := fun z => by rw [z, x3] at gx1; cases gx1
  have nXH : X ≠ hi := fun z => by rw [z, x1] at gx1; cases gx1
  have nHQ : hi ≠ Q := fun z => by rw [z, x2] at x1; cases x1
  have nHe : hi ≠ e := fun z => by rw [z, x3] at x1; cases x1
  have nQe : Q ≠ e := fun z => by rw [z, x3] at x2; cases x2
  have nXS : X ≠ sv := fun z => by rw [z, v1] at gx1; cases gx1
  have nHS : hi ≠ sv := fun z => by rw [z, v1] at x1; cases x1
  have nQS : Q ≠ sv := fun z => by rw [z, v1] at x2; cases x2
  have neS : e ≠ sv := fun z => by rw [z, v1] at x3; simp at x3
  show ax_W Ω Γ 2 12 h 0 [some (.ref X)] []
  refine ax_aload_n (pc := 0) G dX1_undo_0 rfl rfl ?_
  refine ax_getf (pc := 1) (v := .ref hi) G flX1_44_0 dX1_undo_1 (gx1) rfl ?_
  refine ax_nV (pc := 4) (kb := 2) (nb := 12) G (ct_hsize hA wf (by omega) (x1) (x2) y5 (x3) y6 z1 (Nat.mod_lt _ (by decide)) 0 (by omega) (rfl)) lVX1_466_7 dX1_undo_4 (x1) rfl (by decide) (Nat.le_of_ble_eq_true rfl) rfl (fun v9 h9 q9 => ?_)
  obtain ⟨rfl, e9⟩ := q9
  rw [e9]
  show ax_W Ω Γ _ _ (h) _ _ (.int (nI 0) :: _)
  refine ax_if_le (pc := 7) (tgt := 14) G dX1_undo_7 rfl (fun _ => ?_) (fun c9 => absurd (by decide) c9)
  refine ax_iconst (pc := 14) (v := nI 0) G dX1_undo_14 ic_0 ?_
  refine ax_callS (pc := 15) (kb := 1) (nb := 6) G (ct_staN hA) lSX1_75 dX1_undo_15 rfl (by decide) (Nat.le_of_ble_eq_true rfl) rfl (fun _ e9 => by cases e9) (fun q9 e9 => ?_)
  cases e9
  exact ax_outP G E (fun x hx => by cases hx) ⟨rfl, rfl⟩

theorem cj_restore_B {Ω : ax_O} (hA : ax_Amb Ω) {h : ax_H} {w : Nat → Nat} {X bf tr hi sv lb a : Nat} {stv : Value} {pl : pR} {N V O u : Nat} {μ : md_S} (J : xG Ω h w X bf tr hi sv lb stv a pl N V O μ u) (k : Nat) (hk : k ≤ 1) (hst : μ.2 9 k = nI 0)  : ax_MetP Ω yX1_restore 20 40 4000 [.ref X, .int (nI k)] h (fun o h' => o = .inr h.2 ∧ h' = ax_add h (.inr (21, []))) := by
  refine ax_metP q2548 q113 (by decide +kernel) (by decide) hA (Nat.le_of_ble_eq_true rfl) (fun Γ G E => ?_)
  obtain ⟨⟨gx1, gx2, gx3⟩, gb, gl, ⟨Q, e, hd, f, Bk, fs, ⟨x1, x2, x3⟩, ⟨y1, y2, y3, y4, y5, y6⟩, ⟨z1, z2, z3⟩, z4, z5, ⟨v1, v2, v3⟩, v4⟩, gt, wf, hz⟩ := id J
  have hlX := wf.lt gx1
  have hlH := wf.lt x1
  have hlQ := wf.lt x2
  have hlE := wf.lt x3
  have hlS := wf.lt v1
  have nXQ : X ≠ Q := fun z => by rw [z, x2] at gx1; cases gx1
  have nXe : X ≠ e := fun z => by rw [z, x3] at gx1; cases gx1
  have nXH : X ≠ hi := fun z => by rw [z, x1] at gx1; cases gx1
  have nHQ : hi ≠ Q := fun z => by rw [z, x2] at x1; cases x1
  have nHe : hi ≠ e := fun z => by rw [z, x3] at x1; cases x1
  have nQe : Q ≠ e := fun z => by rw [z, x3] at x2; cases x2
  have nXS : X ≠ sv := fun z => by rw [z, v1] at gx1; cases gx1
  have nHS : hi ≠ sv := fun z => by rw [z, v1] at x1; cases x1
  have nQS : Q ≠ sv := fun z => by rw [z, v1] at x2; cases x2
  have neS : e ≠ sv := fun z => by rw [z, v1] at x3; simp at x3
  have c1 : fs k = none := by
    rcases v4 k (by omega) with c | ⟨b, d1, d2, d3⟩
    · exact c.1
    · exact absurd (d2.symm.trans hst) (by decide)
  show ax_W Ω Γ 40 4000 h 0 [some (.ref X), some (.int (nI k))] []
  refine ax_iload_n (pc := 0) G dX1_restore_0 rfl rfl ?_
  refine ax_iconst (pc := 1) (v := nI 2) G dX1_restore_1 ic_2 ?_
  refine ax_cS0 (pc := 2) (kb := 39) (nb := 3994) G (ct_idxY hA (nI k) (nI 2) (ix_y (show k < 2 by omega) (by omega))) lSX1_93 dX1_restore_2 rfl (by decide) (Nat.le_of_ble_eq_true rfl) rfl ?_
  refine ax_aload_n (pc := 5) G dX1_restore_5 rfl rfl ?_
  refine ax_getf (pc := 6) (v := .ref sv) G flX1_48_0 dX1_restore_6 (gx1) rfl ?_
  refine ax_iload_n (pc := 9) G dX1_restore_9 rfl rfl ?_
  refine ax_aaload (pc := 10) G k dX1_restore_10 (v1) rfl (by omega) (by omega) ?_
  refine ax_top (show va_rf _ = .null from by rw [c1]; rfl) ?_
  refine ax_ifnullN (pc := 11) (tgt := 18) G dX1_restore_11 rfl ?_
  refine ax_iconst (pc := 18) (v := nI 0) G dX1_restore_18 ic_0 ?_
  refine ax_callS (pc := 19) (kb := 38) (nb := 3988) G (ct_staN hA) lSX1_75 dX1_restore_19 rfl (by decide) (Nat.le_of_ble_eq_true rfl) rfl (fun _ e9 => by cases e9) (fun q9 e9 => ?_)
  cases e9
  exact ax_outP G E (fun x hx => by cases hx) ⟨rfl, rfl⟩

theorem cq_restore_N {Ω : ax_O} (hA : ax_Amb Ω) {h : ax_H} {X : Nat} (k : Int32) (hb : pIn k (nI 0) (nI 2 - nI 1) = false)  : ax_Met Ω yX1_restore 20 2 12 [.ref X, .int k] h (.inr h.2) (ax_add h (.inr (22, []))) := by
  refine ax_met q2548 q113 (by decide +kernel) (by decide) hA (Nat.le_of_ble_eq_true rfl) (fun Γ G E => ?_)
  show ax_W Ω Γ 2 12 h 0 [some (.ref X), some (.int k)] []
  refine ax_iload_n (pc := 0) G dX1_restore_0 rfl rfl ?_
  refine ax_iconst (pc := 1) (v := nI 2) G dX1_restore_1 ic_2 ?_
  refine ax_callS (pc := 2) (kb := 1) (nb := 6) G (ct_idxN hA k (nI 2) (hb)) lSX1_93 dX1_restore_2 rfl (by decide) (Nat.le_of_ble_eq_true rfl) rfl (fun _ e9 => by cases e9) (fun q9 e9 => ?_)
  cases e9
  exact ax_out G E (fun x hx => by cases hx)

theorem cq_save_N {Ω : ax_O} (hA : ax_Amb Ω) {h : ax_H} {X bf tr hi sv lb : Nat} {x1 x2 x3 : Int32} (hX : h.1 X = some (.inr (0, [.ref bf, .int x1, .int x2, .int x3, .null, .ref tr, .ref hi, .ref sv, .ref lb]))) (k : Int32)  : ax_Met Ω yX1_save 20 4 24 [.ref X, .int k] h (.inr h.2) (ax_add h (.inr (21, []))) := by
  refine ax_met q2540 q113 (by decide +kernel) (by decide) hA (Nat.le_of_ble_eq_true rfl) (fun Γ G E => ?_)
  show ax_W Ω Γ 4 24 h 0 [some (.ref X), some (.int k)] []
  refine ax_aload_n (pc := 0) G dX1_save_0 rfl rfl ?_
  refine ax_callV (pc := 1) (kb := 2) (nb := 12) G (cx_thereN hA hX) lVX1_79_0 dX1_save_1 (hX) rfl (by decide) (Nat.le_of_ble_eq_true rfl) rfl (fun _ e9 => by cases e9) (fun q9 e9 => ?_)
  cases e9
  exact ax_out G E (fun x hx => by cases hx)

theorem cq_save_B {Ω : ax_O} (hA : ax_Amb Ω) {h : ax_H} {a : Nat} {pl s : pR} {π : Nat → cP} {N V O A : Nat} {D : cD} (ha : Ω.2.1.heap.size ≤ a) (hp : pWP pl N V O) (hs : pWS s A) (hE : cEn h a pl s N V O A D) {X bf tr hi sv lb : Nat} {x1 x2 x3 : Int32} (hX : ∀ σ, (sH h a σ).1 X = some (.inr (0, [.ref bf, .int x1, .int x2, .int x3, .ref a, .ref tr, .ref hi, .ref sv, .ref lb]))) (k : Int32) (hb : pIn k (nI 0) (nI 2 - nI 1) = false)  : ax_Met Ω yX1_save 20 4 24 [.ref X, .int k] (sH h a (s, π, (.ref (D.1 0)), (D.1 8))) (.inr (sH h a (s, π, (.ref (D.1 0)), (D.1 8))).2) (ax_add (sH h a (s, π, (.ref (D.1 0)), (D.1 8))) (.inr (22, []))) := by
  refine ax_met q2540 q113 (by decide +kernel) (by decide) hA (Nat.le_of_ble_eq_true rfl) (fun Γ G E => ?_)
  have hV9 := hp.lV
  have hA9 := hs.lA
  have hO9 := hp.lO
  show ax_W Ω Γ 4 24 (sH h a (s, π, (.ref (D.1 0)), (D.1 8))) 0 [some (.ref X), some (.int k)] []
  refine ax_aload_n (pc := 0) G dX1_save_0 rfl rfl ?_
  refine ax_cV1 (pc := 1) (kb := 2) (nb := 12) G (cx_thereY hA (π := π) ha hp hs hE hX) lVX1_79_0 dX1_save_1 (hX _) rfl (by decide) (Nat.le_of_ble_eq_true rfl) rfl ?_
  refine ax_pop (pc := 4) G dX1_save_4 rfl ?_
  refine ax_iload_n (pc := 5) G dX1_save_5 rfl rfl ?_
  refine ax_iconst (pc := 6) (v := nI 2) G dX1_save_6 ic_2 ?_
  refine ax_callS (pc := 7) (kb := 1) (nb := 6) G (ct_idxN hA k (nI 2) (hb)) lSX1_93 dX1_save_7 rfl (by decide) (Nat.le_of_ble_eq_true rfl) rfl (fun _ e9 => by cases e9) (fun q9 e9 => ?_)
  cases e9
  exact ax_out G E (fun x hx => by cases hx)

theorem i8_255 (x : Int32) : x.toInt8.toInt32 &&& nI 255 = x &&& nI 255 := by
  apply Int32.toBitVec_inj.mp
  rw [Int32.toBitVec_and, Int32.toBitVec_and, Int8.toBitVec_toInt32, Int32.toBitVec_toInt8]
  apply BitVec.eq_of_getLsbD_eq
  intro i hi
  have e : ∀ i, i < 32 → 8 ≤ i → (nI 255).toBitVec.getLsbD i = false := by decide
  rw [BitVec.getLsbD_and, BitVec.getLsbD_and]
  by_cases c : i < 8
  · rw [BitVec.getLsbD_signExtend, BitVec.getLsbD_signExtend]; simp only [c, hi, if_true, decide_true, Bool.true_and]
  · rw [e i hi (by omega), Bool.and_false, Bool.and_false]
theorem i8_i8 (x : Int32) : vp_nar .byte x.toInt8.toInt32 = x.toInt8.toInt32 := by
  show x.toInt8.toInt32.toInt8.toInt32 = x.toInt8.toInt32
  rw [Int8.toInt8_toInt32]
/-- one byte more in the buffer -/
theorem xBuf {tb b : Nat → Int32} {n k : Nat} {v : Int32} (h : ∀ j, j < n → tb j &&& nI 255 = b j) : ∀ j, j < n + 1 → upd tb n (vp_nar .byte (v >>> (nI k &&& 31)).toInt8.toInt32) j &&& nI 255 = upd b n (pByte v k) j := fun j hj => by
  by_cases e : j = n
  · subst e; rw [pu_eq, pu_eq, i8_i8, i8_255]; rfl
  · rw [pu_ne e, pu_ne e]; exact h j (by omega)
