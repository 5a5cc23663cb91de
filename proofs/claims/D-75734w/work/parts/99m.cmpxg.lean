/-! TelescopeQueue: the history, saved States -/
theorem xGb.kd {Ω : ax_O} {h h' : ax_H} {w w' : Nat → Nat} {bf : Nat} {μ : md_S} (x : xGb Ω h w bf μ) (k : ∀ q m, h.1 q = some (.inl (.byte, m)) → h'.1 q = h.1 q ∧ w' q = w q) : xGb Ω h' w' bf μ := by
  obtain ⟨n, tb, x1, x2, x3, x4, x5⟩ := x
  obtain ⟨y1, y2⟩ := k _ _ x3
  exact ⟨n, tb, x1, x2, y1.trans x3, y2.trans x4, x5⟩
theorem xGl.kd {Ω : ax_O} {h h' : ax_H} {w w' : Nat → Nat} {lb : Nat} {μ : md_S} (x : xGl Ω h w lb μ) (k : ∀ q m, h.1 q = some (.inl (.byte, m)) → h'.1 q = h.1 q ∧ w' q = w q) (k2 : ∀ q fs, h.1 q = some (.inr (18, fs)) → h'.1 q = h.1 q ∧ w' q = w q) : xGl Ω h' w' lb μ := by
  obtain ⟨e, n, t, x1, x2, x3, x4⟩ := x
  obtain ⟨m, ml, a, z1, z2, z3⟩ := id x1
  obtain ⟨y1, y2⟩ := k2 _ _ z1
  obtain ⟨y3, y4⟩ := k _ _ z2
  exact ⟨e, n, t, x1.fr y1 y3, y2.trans x2, y4.trans x3, x4⟩
theorem xGo.na {Ω : ax_O} {h : ax_H} {w : Nat → Nat} {a a' tr : Nat} {pl : pR} {N V O : Nat} {f : pR} {k b : Nat} (x : xGo Ω h w a tr pl N V O f k b) (n : b ≠ a') : xGo Ω h w a' tr pl N V O f k b := by
  obtain ⟨r, A, x1, x2, x3, x4, x5⟩ := x
  exact ⟨r, A, x1, x2, x3, n, x5⟩
theorem cj_undoable {Ω : ax_O} (hA : ax_Amb Ω) {h : ax_H} {w : Nat → Nat} {X bf tr hi sv lb a : Nat} {stv : Value} {pl : pR} {N V O u : Nat} {μ : md_S} (J : xG Ω h w X bf tr hi sv lb stv a pl N V O μ u)  : ax_MetP Ω yX1_undoable 20 0 0 [.ref X] h (ax_Nm fun v h' => v = some (.int (nI u)) ∧ h' = h) := by
  refine ax_metP q813 q113 (by decide +kernel) (by decide) hA (Nat.le_of_ble_eq_true rfl) (fun Γ G E => ?_)
  obtain ⟨⟨gx1, gx2, gx3⟩, gb, gl, ⟨Q, e, hd, f, Bk, fs, ⟨x1, x2, x3⟩, ⟨y1, y2, y3, y4, y5, y6⟩, ⟨z1, z2, z3⟩, z4, z5, ⟨v1, v2, v3⟩, v4⟩, gt, wf, hz⟩ := id J
  have hlX := wf.lt gx1
  have hlH := wf.lt x1
  have hlQ := wf.lt x2
  have hlE := wf.lt x3
  have hlS := wf.lt v1
  have nXQ : X ≠ Q := fun z => by rw [z, x2] at gx1; cases gx1
  have nXe : X ≠ e := fun z => by rw [z, x3] at gx1; cases gx1
  have nXH : X ≠ hi := fun z => by rw [z, x1] at gx1; cases gx1
  have nHQ : hi ≠ Q := fun z => by rw [z, x2] at x1; cases x1
  have nHe : hi ≠ e := fun z => by rw [z, x3] at x1; cases x1
  have nQe : Q ≠ e := fun z => by rw [z, x3] at x2; cases x2
  have nXS : X ≠ sv := fun z => by rw [z, v1] at gx1; cases gx1
  have nHS : hi ≠ sv := fun z => by rw [z, v1] at x1; cases x1
  have nQS : Q ≠ sv := fun z => by rw [z, v1] at x2; cases x2
  have neS : e ≠ sv := fun z => by rw [z, v1] at x3; simp at x3
  show ax_W Ω Γ 0 0 h 0 [some (.ref X)] []
  refine ax_aload_n (pc := 0) G dX1_undoable_0 rfl rfl ?_
  refine ax_getf (pc := 1) (v := .ref hi) G flX1_44_0 dX1_undoable_1 (gx1) rfl ?_
  refine ax_nV (pc := 4) (kb := 0) (nb := 0) G (ct_hsize hA wf (by omega) (x1) (x2) y5 (x3) y6 z1 (Nat.mod_lt _ (by decide)) u (by omega) (rfl)) lVX1_466_7 dX1_undoable_4 (x1) rfl (by decide) (Nat.le_of_ble_eq_true rfl) rfl (fun v9 h9 q9 => ?_)
  obtain ⟨rfl, e9⟩ := q9
  rw [e9]
  show ax_W Ω Γ _ _ (h) _ _ (.int (nI u) :: _)
  exact ax_iretP (pc := 7) G E rfl (rfl) dX1_undoable_7 (⟨_, rfl, rfl, rfl⟩)

theorem cj_undo {Ω : ax_O} (hA : ax_Amb Ω) {h : ax_H} {w : Nat → Nat} {X bf tr hi sv lb a : Nat} {stv : Value} {pl : pR} {N V O u : Nat} {μ : md_S} (J : xG Ω h w X bf tr hi sv lb stv a pl N V O μ (u + 1))  : ax_MetP Ω yX1_undo 20 2 12 [.ref X] h (ax_Nm fun v h' => v = some (.int (nI u)) ∧ ∃ a' r A', xFr (fun o => o = 2) h h' w w ∧ xG Ω h' w X bf tr hi sv lb (.ref a') a' pl N V O (md_si μ 18 (nI u)) u ∧ xBe Ω h' w a' pl r N V O A' ∧ w (a' + 1) = 1 ∧ tr ≠ a' ∧ ∀ i, i < 627 → μ.2 7 (627 * u + i) = r i) := by
  refine ax_metP q2518 q113 (by decide +kernel) (by decide) hA (Nat.le_of_ble_eq_true rfl) (fun Γ G E => ?_)
  obtain ⟨⟨gx1, gx2, gx3⟩, gb, gl, ⟨Q, e, hd, f, Bk, fs, ⟨x1, x2, x3⟩, ⟨y1, y2, y3, y4, y5, y6⟩, ⟨z1, z2, z3⟩, z4, z5, ⟨v1, v2, v3⟩, v4⟩, gt, wf, hz⟩ := id J
  have hlX := wf.lt gx1
  have hlH := wf.lt x1
  have hlQ := wf.lt x2
  have hlE := wf.lt x3
  have hlS := wf.lt v1
  have nXQ : X ≠ Q := fun z => by rw [z, x2] at gx1; cases gx1
  have nXe : X ≠ e := fun z => by rw [z, x3] at gx1; cases gx1
  have nXH : X ≠ hi := fun z => by rw [z, x1] at gx1; cases gx1
  have nHQ : hi ≠ Q := fun z => by rw [z, x2] at x1; cases x1
  have nHe : hi ≠ e := fun z => by rw [z, x3] at x1; cases x1
  have nQe : Q ≠ e := fun z => by rw [z, x3] at x2; cases x2
  have nXS : X ≠ sv := fun z => by rw [z, v1] at gx1; cases gx1
  have nHS : hi ≠ sv := fun z => by rw [z, v1] at x1; cases x1
  have nQS : Q ≠ sv := fun z => by rw [z, v1] at x2; cases x2
  have neS : e ≠ sv := fun z => by rw [z, v1] at x3; simp at x3
  obtain ⟨f1, r, A9, Be, b1, b3, b4, b5⟩ := z4 u (by omega)
  obtain ⟨qf, Bo⟩ : ∃ qf, h.1 (Bk u) = some (.inr (1, qf)) := by obtain ⟨D, π, pol, B⟩ := Be; exact ⟨_, B.is.obj⟩
  have Bf : f (((hd + (u + 1)) % 17 + 16) % 17) = some (Bk u) := by rw [show ((hd + (u + 1)) % 17 + 16) % 17 = (hd + u) % 17 by omega]; exact f1
  have nBQ : Bk u ≠ Q := fun z => by rw [z, x2] at Bo; cases Bo
  have nBe : Bk u ≠ e := fun z => by rw [z, x3] at Bo; cases Bo
  have nBX : Bk u ≠ X := fun z => by rw [z, gx1] at Bo; cases Bo
  show ax_W Ω Γ 2 12 h 0 [some (.ref X)] []
  refine ax_aload_n (pc := 0) G dX1_undo_0 rfl rfl ?_
  refine ax_getf (pc := 1) (v := .ref hi) G flX1_44_0 dX1_undo_1 (gx1) rfl ?_
  refine ax_nV (pc := 4) (kb := 2) (nb := 12) G (ct_hsize hA wf (by omega) (x1) (x2) y5 (x3) y6 z1 (Nat.mod_lt _ (by decide)) (u + 1) (by omega) (rfl)) lVX1_466_7 dX1_undo_4 (x1) rfl (by decide) (Nat.le_of_ble_eq_true rfl) rfl (fun v9 h9 q9 => ?_)
  obtain ⟨rfl, e9⟩ := q9
  rw [e9]
  show ax_W Ω Γ _ _ (h) _ _ (.int (nI (u + 1)) :: _)
  refine ax_if_le (pc := 7) (tgt := 14) G dX1_undo_7 rfl (fun c9 => absurd c9 (nI_nle (by omega) (by omega))) (fun _ => ?_)
  refine ax_iconst (pc := 10) (v := nI 1) G dX1_undo_10 ic_1 ?_
  refine ax_goto (pc := 11) (tgt := 15) G dX1_undo_11 rfl ?_
  refine ax_cS0 (pc := 15) (kb := 1) (nb := 6) G (ct_staY hA) lSX1_75 dX1_undo_15 rfl (by decide) (Nat.le_of_ble_eq_true rfl) rfl ?_
  refine ax_aload_n (pc := 18) G dX1_undo_18 rfl rfl ?_
  refine ax_aload_n (pc := 19) G dX1_undo_19 rfl rfl ?_
  refine ax_getf (pc := 20) (v := .ref hi) G flX1_44_0 dX1_undo_20 (gx1) rfl ?_
  refine ax_nV (pc := 23) (kb := 1) (nb := 6) G (ct_hback hA wf (by omega) (x1) (x2) y5 (x3) y6 z1 (Nat.mod_lt _ (by decide)) Bo Bf) lVX1_467_7 dX1_undo_23 (x1) rfl (by decide) (Nat.le_of_ble_eq_true rfl) rfl (fun v10 h10 q9 => ?_)
  obtain ⟨rfl, g10, k10, f10, z10, w10⟩ := q9
  show ax_W Ω Γ _ _ (h10) _ _ (.ref (Bk u) :: _)
  refine ax_checkcast (pc := 26) G q168 ⟨_, rfl, Or.inl rfl⟩ dX1_undo_26 (((f10 _ (by omega) (by omega)).trans Bo)) ?_
  refine ax_putf (pc := 29) G flX1_72_0 dX1_undo_29 ((f10 _ (by omega) (by omega)).trans (gx1)) (gx3) (Nat.le_of_ble_eq_true rfl) rfl rfl ?_
  refine ax_hvS w10 (by omega) (fun h11 g11 f11 z11 w11 => ?_)
  replace g11 : h11.1 X = some (.inr (0, [.ref bf, .int (μ.1 2), .int (μ.1 5), .int (μ.1 6), .ref (Bk u), .ref tr, .ref hi, .ref sv, .ref lb])) := g11
  refine ax_aload_n (pc := 32) G dX1_undo_32 rfl rfl ?_
  refine ax_getf (pc := 33) (v := .ref hi) G flX1_44_0 dX1_undo_33 (g11) rfl ?_
  refine ax_nV (pc := 36) (kb := 1) (nb := 6) G (ct_hsize hA w11 (by omega) ((f11 _ (by omega)).trans ((f10 _ (by omega) (by omega)).trans (x1))) ((f11 _ (by omega)).trans (g10)) y5 ((f11 _ (by omega)).trans (k10)) y6 z1 (Nat.mod_lt _ (by decide)) u (by omega) (by omega)) lVX1_466_7 dX1_undo_36 ((f11 _ (by omega)).trans ((f10 _ (by omega) (by omega)).trans (x1))) rfl (by decide) (Nat.le_of_ble_eq_true rfl) rfl (fun v9 h9 q9 => ?_)
  obtain ⟨rfl, e9⟩ := q9
  rw [e9]
  show ax_W Ω Γ _ _ (h11) _ _ (.int (nI u) :: _)
  have kb : ∀ q m, h.1 q = some (.inl (.byte, m)) → h11.1 q = h.1 q ∧ w q = w q := fun q m hq => by
    have hl := wf.lt hq
    have a0 : q ≠ X := fun z => by rw [z, gx1] at hq; cases hq
    have a1 : q ≠ Q := fun z => by rw [z, x2] at hq; cases hq
    have a2 : q ≠ e := fun z => by rw [z, x3] at hq; cases hq
    exact ⟨(f11 _ (by omega)).trans ((f10 _ (by omega) (by omega))), rfl⟩
  have kl : ∀ q m, h.1 q = some (.inr (18, m)) → h11.1 q = h.1 q ∧ w q = w q := fun q m hq => by
    have hl := wf.lt hq
    have a0 : q ≠ X := fun z => by rw [z, gx1] at hq; cases hq
    have a1 : q ≠ Q := fun z => by rw [z, x2] at hq; cases hq
    have a2 : q ≠ e := fun z => by rw [z, x3] at hq; cases hq
    exact ⟨(f11 _ (by omega)).trans ((f10 _ (by omega) (by omega))), rfl⟩
  have F9 : xFr (fun o => o = 2) h h11 w w := ⟨fun q hl h2 => by
    have a0 : q ≠ X := fun z => h2 (by rw [z]; exact gx2)
    have a1 : q ≠ Q := fun z => h2 (by rw [z]; exact y2)
    have a2 : q ≠ e := fun z => h2 (by rw [z]; exact y3)
    exact (f11 _ (by omega)).trans ((f10 _ (by omega) (by omega))), fun q hl => rfl, by omega, w11⟩
  have hne : ∀ k, k < u → Bk k ≠ Bk u := fun k hk z => by have := z5 k u (by omega) (by omega) z; omega
  have svd : ∀ j, j < 2 → (fs j = none ∧ (md_si μ 18 (nI u)).2 9 j = nI 0) ∨ ∃ b, fs j = some b ∧ (md_si μ 18 (nI u)).2 9 j = nI 1 ∧ xGo Ω h11 w (Bk u) tr pl N V O ((md_si μ 18 (nI u)).2 8) j b ∧ ∀ k, k < u → Bk k ≠ b := fun j hj => by
    rcases v4 j hj with c | ⟨b, c1, c2, c3, c4⟩
    · exact Or.inl c
    · exact Or.inr ⟨b, c1, c2, (c3.na (fun z => c4 u (by omega) z.symm)).fr wf F9 (by omega) (by omega), fun k hk => c4 k (by omega)⟩
  exact ax_iretP (pc := 39) G E rfl rfl dX1_undo_39 ⟨_, rfl, rfl, Bk u, r, A9, F9, ⟨⟨g11, gx2, gx3⟩, gb.kd kb, gl.kd kb kl, ⟨Q, e, hd, _, Bk, fs, ⟨(f11 _ (by omega)).trans ((f10 _ (by omega) (by omega)).trans (x1)), by rw [show (hd + u) % 17 = ((hd + (u + 1)) % 17 + 16) % 17 by omega]; exact (f11 _ (by omega)).trans (g10), (f11 _ (by omega)).trans (k10)⟩, ⟨y1, y2, y3, y4, y5, y6⟩, ⟨z1, by omega, rfl⟩, fun k hk => ⟨(if_neg (by omega)).trans (z4 k (by omega)).1, ((z4 k (by omega)).2.na (hne k hk)).fr wf F9 (by omega) (by omega)⟩, fun j k hj hk => z5 j k (by omega) (by omega), ⟨(f11 _ (by omega)).trans ((f10 _ (by omega) (by omega)).trans (v1)), v2, v3⟩, fun j hj => svd j hj⟩, gt.fr wf F9 (by omega) (by omega), w11, by omega⟩, Be.fr wf F9 (by omega) (by omega), b1, Ne.symm b5, b3⟩

