/-! TelescopeQueue: States saved, restored -/
theorem cx_thereG {Ω : ax_O} (hA : ax_Amb Ω) {h : ax_H} {X bf tr hi sv lb a : Nat} {x1 x2 x3 : Int32} (hX : h.1 X = some (.inr (0, [.ref bf, .int x1, .int x2, .int x3, .ref a, .ref tr, .ref hi, .ref sv, .ref lb])))  : ax_Met Ω yX1_there 7 2 12 [.ref X] h (.inl (some (.ref a))) h := by
  refine ax_met q1433 q113 (by decide +kernel) (by decide) hA (Nat.le_of_ble_eq_true rfl) (fun Γ G E => ?_)
  show ax_W Ω Γ 2 12 h 0 [some (.ref X)] []
  refine ax_aload_n (pc := 0) G dX1_there_0 rfl rfl ?_
  refine ax_getf (pc := 1) (v := .ref a) G flX1_72_0 dX1_there_1 (hX) rfl ?_
  refine ax_ifnull (pc := 4) G dX1_there_4 ?_
  refine ax_iconst (pc := 7) (v := nI 1) G dX1_there_7 ic_1 ?_
  refine ax_goto (pc := 8) (tgt := 12) G dX1_there_8 rfl ?_
  refine ax_cS0 (pc := 12) (kb := 1) (nb := 6) G (ct_staY hA) lSX1_75 dX1_there_12 rfl (by decide) (Nat.le_of_ble_eq_true rfl) rfl ?_
  refine ax_aload_n (pc := 15) G dX1_there_15 rfl rfl ?_
  refine ax_getf (pc := 16) (v := .ref a) G flX1_72_0 dX1_there_16 (hX) rfl ?_
  exact ax_aretE (pc := 19) G E rfl (Or.inl ⟨_, rfl⟩) (Or.inr ⟨_, rfl⟩) dX1_there_19 (rfl) (rfl)

theorem sa_e {μ : md_S} {j : Nat} {f : Nat → Int32} : (md_sa μ j f).2 j = f := by simp [md_sa, va_up]
theorem sa_n {μ : md_S} {i j : Nat} {f : Nat → Int32} (h : i ≠ j) : (md_sa μ j f).2 i = μ.2 i := by simp [md_sa, va_up, h]
theorem cj_save {Ω : ax_O} (hA : ax_Amb Ω) {h : ax_H} {w : Nat → Nat} {X bf tr hi sv lb a : Nat} {pl : pR} {N V O A u : Nat} {μ : md_S} {D : cD} {π : Nat → cP} {pol : Nat} (J : xG Ω h w X bf tr hi sv lb (.ref a) a pl N V O μ u) (B : xBk Ω h w a pl (μ.2 4) N V O A D π pol) (o1 : w (a + 1) = 1) (ht : tr ≠ a) (k : Nat) (hk : k ≤ 1)  : ax_MetP Ω yX1_save 20 40 4000 [.ref X, .int (nI k)] h (ax_Nm fun v h' => v = some (.int (μ.2 4 0)) ∧ ∃ w' D' π' pol', xFr (fun o => 2 ≤ o) h h' w w' ∧ xG Ω h' w' X bf tr hi sv lb (.ref a) a pl N V O (md_sa (md_sa μ 8 (pPut (μ.2 8) (fun i => μ.2 4 (0 + i)) (627 * k) 627)) 9 (upd (μ.2 9) k (bI true))) u ∧ xBk Ω h' w' a pl (μ.2 4) N V O A D' π' pol' ∧ w' (a + 1) = 1) := by
  refine ax_metP q2540 q113 (by decide +kernel) (by decide) hA (Nat.le_of_ble_eq_true rfl) (fun Γ G E => ?_)
  obtain ⟨⟨gx1, gx2, gx3⟩, gb, gl, ⟨Q, e, hd, f, Bk, fs, ⟨x1, x2, x3⟩, ⟨y1, y2, y3, y4, y5, y6⟩, ⟨z1, z2, z3⟩, z4, z5, ⟨v1, v2, v3⟩, v4⟩, gt, wf, hz⟩ := id J
  have hlX := wf.lt gx1
  have hlH := wf.lt x1
  have hlQ := wf.lt x2
  have hlE := wf.lt x3
  have hlS := wf.lt v1
  have nXQ : X ≠ Q := fun z => by rw [z, x2] at gx1; cases gx1
  have nXe : X ≠ e := fun z => by rw [z, x3] at gx1; cases gx1
  have nXH : X ≠ hi := fun z => by rw [z, x1] at gx1; cases gx1
  have nHQ : hi ≠ Q := fun z => by rw [z, x2] at x1; cases x1
  have nHe : hi ≠ e := fun z => by rw [z, x3] at x1; cases x1
  have nQe : Q ≠ e := fun z => by rw [z, x3] at x2; cases x2
  have nXS : X ≠ sv := fun z => by rw [z, v1] at gx1; cases gx1
  have nHS : hi ≠ sv := fun z => by rw [z, v1] at x1; cases x1
  have nQS : Q ≠ sv := fun z => by rw [z, v1] at x2; cases x2
  have neS : e ≠ sv := fun z => by rw [z, v1] at x3; simp at x3
  obtain ⟨l1, l2, l3, l4, l5, l6⟩ := B.l
  have hbh := B.o.2.2.2.2.1
  have hal : ∀ k, k < A → h.1 (D.2.1 3 k) = some (.inr (14, [.int (μ.2 4 (127 + 10 * k + 0)), .int (μ.2 4 (127 + 10 * k + 2)), .int (μ.2 4 (127 + 10 * k + 3)), .int (μ.2 4 (127 + 10 * k + 4)), .int (μ.2 4 (127 + 10 * k + 5)), .int (μ.2 4 (127 + 10 * k + 1)), .int (μ.2 4 (127 + 10 * k + 6))])) := fun k hk => (xIo.d (l6 k hk)).1
  have gA := B.is.obj
  have nAS : a ≠ sv := fun z => by rw [z, v1] at gA; cases gA
  show ax_W Ω Γ 40 4000 h 0 [some (.ref X), some (.int (nI k))] []
  refine ax_aload_n (pc := 0) G dX1_save_0 rfl rfl ?_
  refine ax_cV1 (pc := 1) (kb := 38) (nb := 3988) G (cx_thereG hA (gx1)) lVX1_79_0 dX1_save_1 (gx1) rfl (by decide) (Nat.le_of_ble_eq_true rfl) rfl ?_
  refine ax_pop (pc := 4) G dX1_save_4 rfl ?_
  refine ax_iload_n (pc := 5) G dX1_save_5 rfl rfl ?_
  refine ax_iconst (pc := 6) (v := nI 2) G dX1_save_6 ic_2 ?_
  refine ax_cS0 (pc := 7) (kb := 37) (nb := 3982) G (ct_idxY hA (nI k) (nI 2) (ix_y (show k < 2 by omega) (by omega))) lSX1_93 dX1_save_7 rfl (by decide) (Nat.le_of_ble_eq_true rfl) rfl ?_
  refine ax_aload_n (pc := 10) G dX1_save_10 rfl rfl ?_
  refine ax_getf (pc := 11) (v := .ref sv) G flX1_48_0 dX1_save_11 (gx1) rfl ?_
  refine ax_iload_n (pc := 14) G dX1_save_14 rfl rfl ?_
  refine ax_aload_n (pc := 15) G dX1_save_15 rfl rfl ?_
  refine ax_getf (pc := 16) (v := .ref a) G flX1_72_0 dX1_save_16 (gx1) rfl ?_
  refine ax_nV (pc := 19) (kb := 8) (nb := 1256) G (ct_scopy3 hA wf (by omega) B.is hbh l1 l2 l3.2.2 B.ws.lA (by omega) l4 hal) lVX1_471_1 dX1_save_19 (B.is.obj) rfl (by decide) (Nat.le_of_ble_eq_true rfl) rfl (fun v12 h12 q9 => ?_)
  obtain ⟨rfl, ⟨π9, I9⟩, ⟨e9, L9, g9a, g9b, g9c⟩, f12, s9a, s9b, w12⟩ := q9
  show ax_W Ω Γ _ _ (h12) _ _ (.ref h.2 :: _)
  refine ax_aastore (pc := 22) G k dX1_save_22 ((f12 _ (by omega) ).trans (v1)) (v3) (I9.obj) ⟨_, rfl, Or.inl rfl⟩ rfl (by omega) (by omega) ?_
  refine ax_hvS w12 (by omega) (fun h13 g13 f13 z13 w13 => ?_)
  refine ax_aload_n (pc := 23) G dX1_save_23 rfl rfl ?_
  refine ax_getf (pc := 24) (v := .ref a) G flX1_72_0 dX1_save_24 ((f13 _ (by omega)).trans ((f12 _ (by omega) ).trans (gx1))) rfl ?_
  refine ax_getf (pc := 27) (v := .int ((pF A (μ.2 4)) 0)) G flX1_243_1 dX1_save_27 ((f13 _ (by omega)).trans ((f12 _ (by omega) ).trans (B.is.obj))) rfl ?_
  have kb : ∀ q m, h.1 q = some (.inl (.byte, m)) → h13.1 q = h.1 q ∧ (xNw h w) q = w q := fun q m hq => by
    have hl := wf.lt hq
    have a0 : q ≠ sv := fun z => by rw [z, v1] at hq; cases hq
    exact ⟨(f13 _ (by omega)).trans ((f12 _ (by omega) )), xNw.o hl⟩
  have kl : ∀ q m, h.1 q = some (.inr (18, m)) → h13.1 q = h.1 q ∧ (xNw h w) q = w q := fun q m hq => by
    have hl := wf.lt hq
    have a0 : q ≠ sv := fun z => by rw [z, v1] at hq; cases hq
    exact ⟨(f13 _ (by omega)).trans ((f12 _ (by omega) )), xNw.o hl⟩
  have F9 : xFr (fun o => o = 2) h h13 w (xNw h w) := ⟨fun q hl h2 => by
    have a0 : q ≠ sv := fun z => h2 (by rw [z]; exact v2)
    exact (f13 _ (by omega)).trans ((f12 _ (by omega) )), fun q hl => xNw.o hl, by omega, w13⟩
  have I9b : sIs h13 h.2 _ := I9.keep fun q hq => (f13 _ (by omega))
  obtain ⟨m9, cap9, f9, la, lb9, lc, ld, le, lf⟩ := id L9
  have L9b : sAl h13 h.2 A e9 (D.2.1 3) := ⟨m9, cap9, f9, (f13 _ (by omega)).trans la, (f13 _ (by omega)).trans lb9, lc, ld, le, fun i hi q hq => by
    obtain ⟨fs, x, y, k9, hk9, z⟩ := lf i hi q hq
    exact ⟨fs, (f13 _ (fun c => by subst c; have z2 := hal k9 hk9; rw [← z] at z2; rw [v1] at z2; cases z2)).trans x, y, k9, hk9, z⟩⟩
  have N9 := B.copy hz (by decide) wf F9 I9b L9b g9a g9c (by omega)
  have svd : ∀ j, j < 2 → ((va_up fs k (some h.2)) j = none ∧ (md_sa (md_sa μ 8 (pPut (μ.2 8) (fun i => μ.2 4 (0 + i)) (627 * k) 627)) 9 (upd (μ.2 9) k (bI true))).2 9 j = nI 0) ∨ ∃ b, (va_up fs k (some h.2)) j = some b ∧ (md_sa (md_sa μ 8 (pPut (μ.2 8) (fun i => μ.2 4 (0 + i)) (627 * k) 627)) 9 (upd (μ.2 9) k (bI true))).2 9 j = nI 1 ∧ xGo Ω h13 (xNw h w) a tr pl N V O ((md_sa (md_sa μ 8 (pPut (μ.2 8) (fun i => μ.2 4 (0 + i)) (627 * k) 627)) 9 (upd (μ.2 9) k (bI true))).2 8) j b ∧ ∀ k', k' < u → Bk k' ≠ b := fun j hj => by
    have e8 : (md_sa (md_sa μ 8 (pPut (μ.2 8) (fun i => μ.2 4 (0 + i)) (627 * k) 627)) 9 (upd (μ.2 9) k (bI true))).2 8 = pPut (μ.2 8) (fun i => μ.2 4 (0 + i)) (627 * k) 627 := (sa_n (by decide)).trans sa_e
    have e9' : (md_sa (md_sa μ 8 (pPut (μ.2 8) (fun i => μ.2 4 (0 + i)) (627 * k) 627)) 9 (upd (μ.2 9) k (bI true))).2 9 = upd (μ.2 9) k (bI true) := sa_e
    rw [e8, e9']
    have hB : ∀ i, i < u → Bk i + 18 < h.2 := fun i hi => by obtain ⟨r, A', q1, -⟩ := (z4 i hi).2; exact q1.b
    have htl : tr + 18 < h.2 := by obtain ⟨_, _, _, _, _, _, _, _, _, _, _, _, _, _, t6, _⟩ := id gt; exact t6.2.2.2.2.1
    by_cases c : j = k
    · subst c
      refine Or.inr ⟨h.2, if_pos rfl, (by rw [pu_eq]; rfl), ⟨_, A, N9, xNw.n1, fun i hi => (pPut_i hi).trans (by rw [Nat.zero_add]), by omega, by omega⟩, fun k' hk' z => by have := hB k' hk'; omega⟩
    · rw [pu_ne c]
      rcases v4 j hj with d | ⟨b, c1, c2, c3, c4⟩
      · exact Or.inl ⟨(if_neg c).trans d.1, d.2⟩
      · exact Or.inr ⟨b, (if_neg c).trans c1, c2, (c3.fr wf F9 (by decide) (by omega)).cg (fun i hi => pPut_o (by omega)), c4⟩
  exact ax_iretP (pc := 30) G E rfl rfl dX1_save_30 ⟨_, rfl, congrArg (fun x => some (Value.int x)) (pF_o (pX_lo (by omega))), _, D, π, pol, F9.mono (fun o c => by omega), ⟨⟨(f13 _ (by omega)).trans ((f12 _ (by omega) ).trans (gx1)), (xNw.o hlX).trans gx2, gx3⟩, (gb.kd kb), (gl.kd kb kl), ⟨Q, e, hd, f, Bk, _, ⟨(f13 _ (by omega)).trans ((f12 _ (by omega) ).trans (x1)), (f13 _ (by omega)).trans ((f12 _ (by omega) ).trans (x2)), (f13 _ (by omega)).trans ((f12 _ (by omega) ).trans (x3))⟩, ⟨(xNw.o hlH).trans y1, (xNw.o hlQ).trans y2, (xNw.o hlE).trans y3, y4, y5, y6⟩, ⟨z1, z2, z3⟩, fun k' hk' => ⟨(z4 k' hk').1, (z4 k' hk').2.fr wf F9 (by decide) (by omega)⟩, z5, ⟨g13, (xNw.o hlS).trans v2, v3⟩, svd⟩, gt.fr wf F9 (by decide) (by omega), w13, by omega⟩, B.fr wf F9 (by decide) (by omega), (xNw.o (by omega)).trans o1⟩

theorem cj_restore {Ω : ax_O} (hA : ax_Amb Ω) {h : ax_H} {w : Nat → Nat} {X bf tr hi sv lb a : Nat} {stv : Value} {pl : pR} {N V O u : Nat} {μ : md_S} (J : xG Ω h w X bf tr hi sv lb stv a pl N V O μ u) (k : Nat) (hk : k ≤ 1) (hst : μ.2 9 k = nI 1)  : ax_MetP Ω yX1_restore 20 40 4000 [.ref X, .int (nI k)] h (ax_Nm fun v h' => ∃ r A', v = some (.int (r 0)) ∧ ∃ w' a', xFr (fun o => o = 2) h h' w w' ∧ xG Ω h' w' X bf tr hi sv lb (.ref a') a' pl N V O (md_si μ 18 (nI 0)) 0 ∧ xBe Ω h' w' a' pl r N V O A' ∧ w' (a' + 1) = 1 ∧ tr ≠ a' ∧ ∀ i, i < 627 → μ.2 8 (627 * k + i) = r i) := by
  refine ax_metP q2548 q113 (by decide +kernel) (by decide) hA (Nat.le_of_ble_eq_true rfl) (fun Γ G E => ?_)
  obtain ⟨⟨gx1, gx2, gx3⟩, gb, gl, ⟨Q, e, hd, f, Bk, fs, ⟨x1, x2, x3⟩, ⟨y1, y2, y3, y4, y5, y6⟩, ⟨z1, z2, z3⟩, z4, z5, ⟨v1, v2, v3⟩, v4⟩, gt, wf, hz⟩ := id J
  have hlX := wf.lt gx1
  have hlH := wf.lt x1
  have hlQ := wf.lt x2
  have hlE := wf.lt x3
  have hlS := wf.lt v1
  have nXQ : X ≠ Q := fun z => by rw [z, x2] at gx1; cases gx1
  have nXe : X ≠ e := fun z => by rw [z, x3] at gx1; cases gx1
  have nXH : X ≠ hi := fun z => by rw [z, x1] at gx1; cases gx1
  have nHQ : hi ≠ Q := fun z => by rw [z, x2] at x1; cases x1
  have nHe : hi ≠ e := fun z => by rw [z, x3] at x1; cases x1
  have nQe : Q ≠ e := fun z => by rw [z, x3] at x2; cases x2
  have nXS : X ≠ sv := fun z => by rw [z, v1] at gx1; cases gx1
  have nHS : hi ≠ sv := fun z => by rw [z, v1] at x1; cases x1
  have nQS : Q ≠ sv := fun z => by rw [z, v1] at x2; cases x2
  have neS : e ≠ sv := fun z => by rw [z, v1] at x3; simp at x3
  obtain ⟨b, c1, -, ⟨r, A9, ⟨Db, πb, polb, Bb⟩, b1, b3, b4, b5⟩, c4⟩ : ∃ b, fs k = some b ∧ μ.2 9 k = nI 1 ∧ xGo Ω h w a tr pl N V O (μ.2 8) k b ∧ ∀ k', k' < u → Bk k' ≠ b := by
    rcases v4 k (by omega) with c | c
    · exact absurd (c.2.symm.trans hst) (by decide)
    · exact c
  obtain ⟨l1, l2, l3, l4, l5, l6⟩ := Bb.l
  have hbh := Bb.o.2.2.2.2.1
  have hal : ∀ k, k < A9 → h.1 (Db.2.1 3 k) = some (.inr (14, [.int (r (127 + 10 * k + 0)), .int (r (127 + 10 * k + 2)), .int (r (127 + 10 * k + 3)), .int (r (127 + 10 * k + 4)), .int (r (127 + 10 * k + 5)), .int (r (127 + 10 * k + 1)), .int (r (127 + 10 * k + 6))])) := fun k hk => (xIo.d (l6 k hk)).1
  have gB := Bb.is.obj
  have nbX : b ≠ X := fun z => by rw [z, gx1] at gB; cases gB
  show ax_W Ω Γ 40 4000 h 0 [some (.ref X), some (.int (nI k))] []
  refine ax_iload_n (pc := 0) G dX1_restore_0 rfl rfl ?_
  refine ax_iconst (pc := 1) (v := nI 2) G dX1_restore_1 ic_2 ?_
  refine ax_cS0 (pc := 2) (kb := 39) (nb := 3994) G (ct_idxY hA (nI k) (nI 2) (ix_y (show k < 2 by omega) (by omega))) lSX1_93 dX1_restore_2 rfl (by decide) (Nat.le_of_ble_eq_true rfl) rfl ?_
  refine ax_aload_n (pc := 5) G dX1_restore_5 rfl rfl ?_
  refine ax_getf (pc := 6) (v := .ref sv) G flX1_48_0 dX1_restore_6 (gx1) rfl ?_
  refine ax_iload_n (pc := 9) G dX1_restore_9 rfl rfl ?_
  refine ax_aaload (pc := 10) G k dX1_restore_10 (v1) rfl (by omega) (by omega) ?_
  refine ax_top (show va_rf _ = .ref b from by rw [c1]; rfl) ?_
  refine ax_ifnull (pc := 11) G dX1_restore_11 ?_
  refine ax_iconst (pc := 14) (v := nI 1) G dX1_restore_14 ic_1 ?_
  refine ax_goto (pc := 15) (tgt := 19) G dX1_restore_15 rfl ?_
  refine ax_cS0 (pc := 19) (kb := 38) (nb := 3988) G (ct_staY hA) lSX1_75 dX1_restore_19 rfl (by decide) (Nat.le_of_ble_eq_true rfl) rfl ?_
  refine ax_aload_n (pc := 22) G dX1_restore_22 rfl rfl ?_
  refine ax_aload_n (pc := 23) G dX1_restore_23 rfl rfl ?_
  refine ax_getf (pc := 24) (v := .ref sv) G flX1_48_0 dX1_restore_24 (gx1) rfl ?_
  refine ax_iload_n (pc := 27) G dX1_restore_27 rfl rfl ?_
  refine ax_aaload (pc := 28) G k dX1_restore_28 (v1) rfl (by omega) (by omega) ?_
  refine ax_top (show va_rf _ = .ref b from by rw [c1]; rfl) ?_
  refine ax_nV (pc := 29) (kb := 9) (nb := 1262) G (ct_scopy3 hA wf (by omega) Bb.is hbh l1 l2 l3.2.2 Bb.ws.lA (by omega) l4 hal) lVX1_471_1 dX1_restore_29 (Bb.is.obj) rfl (by decide) (Nat.le_of_ble_eq_true rfl) rfl (fun v14 h14 q9 => ?_)
  obtain ⟨rfl, ⟨π9, I9⟩, ⟨e9, L9, g9a, g9b, g9c⟩, f14, s9a, s9b, w14⟩ := q9
  show ax_W Ω Γ _ _ (h14) _ _ (.ref h.2 :: _)
  refine ax_putf (pc := 32) G flX1_72_0 dX1_restore_32 ((f14 _ (by omega) ).trans (gx1)) (gx3) (Nat.le_of_ble_eq_true rfl) rfl rfl ?_
  refine ax_hvS w14 (by omega) (fun h15 g15 f15 z15 w15 => ?_)
  replace g15 : h15.1 X = some (.inr (0, [.ref bf, .int (μ.1 2), .int (μ.1 5), .int (μ.1 6), .ref h.2, .ref tr, .ref hi, .ref sv, .ref lb])) := g15
  refine ax_aload_n (pc := 35) G dX1_restore_35 rfl rfl ?_
  refine ax_getf (pc := 36) (v := .ref hi) G flX1_44_0 dX1_restore_36 (g15) rfl ?_
  refine ax_nV (pc := 39) (kb := 9) (nb := 1262) G (ct_hclear hA w15 (by omega) ((f15 _ (by omega)).trans ((f14 _ (by omega) ).trans (x1))) ((f15 _ (by omega)).trans ((f14 _ (by omega) ).trans (x2))) y5 ((f15 _ (by omega)).trans ((f14 _ (by omega) ).trans (x3))) y6 z1 (Nat.mod_lt _ (by decide))) lVX1_127_7 dX1_restore_39 ((f15 _ (by omega)).trans ((f14 _ (by omega) ).trans (x1))) rfl (by decide) (Nat.le_of_ble_eq_true rfl) rfl (fun v16 h16 q9 => ?_)
  obtain ⟨rfl, f7, g16, k16, f16, z16, w16⟩ := q9
  show ax_W Ω Γ _ _ (h16) _ _ (_)
  refine ax_aload_n (pc := 42) G dX1_restore_42 rfl rfl ?_
  refine ax_getf (pc := 43) (v := .ref h.2) G flX1_72_0 dX1_restore_43 ((f16 _ (by omega) (by omega)).trans (g15)) rfl ?_
  refine ax_getf (pc := 46) (v := .int ((pF A9 r) 0)) G flX1_243_1 dX1_restore_46 ((f16 _ (by omega) (by omega)).trans ((f15 _ (by omega)).trans (I9.obj))) rfl ?_
  have kb : ∀ q m, h.1 q = some (.inl (.byte, m)) → h16.1 q = h.1 q ∧ (xNw h w) q = w q := fun q m hq => by
    have hl := wf.lt hq
    have a0 : q ≠ X := fun z => by rw [z, gx1] at hq; cases hq
    have a1 : q ≠ Q := fun z => by rw [z, x2] at hq; cases hq
    have a2 : q ≠ e := fun z => by rw [z, x3] at hq; cases hq
    exact ⟨(f16 _ (by omega) (by omega)).trans ((f15 _ (by omega)).trans ((f14 _ (by omega) ))), xNw.o hl⟩
  have kl : ∀ q m, h.1 q = some (.inr (18, m)) → h16.1 q = h.1 q ∧ (xNw h w) q = w q := fun q m hq => by
    have hl := wf.lt hq
    have a0 : q ≠ X := fun z => by rw [z, gx1] at hq; cases hq
    have a1 : q ≠ Q := fun z => by rw [z, x2] at hq; cases hq
    have a2 : q ≠ e := fun z => by rw [z, x3] at hq; cases hq
    exact ⟨(f16 _ (by omega) (by omega)).trans ((f15 _ (by omega)).trans ((f14 _ (by omega) ))), xNw.o hl⟩
  have F9 : xFr (fun o => o = 2) h h16 w (xNw h w) := ⟨fun q hl h2 => by
    have a0 : q ≠ X := fun z => h2 (by rw [z]; exact gx2)
    have a1 : q ≠ Q := fun z => h2 (by rw [z]; exact y2)
    have a2 : q ≠ e := fun z => h2 (by rw [z]; exact y3)
    exact (f16 _ (by omega) (by omega)).trans ((f15 _ (by omega)).trans ((f14 _ (by omega) ))), fun q hl => xNw.o hl, by omega, w16⟩
  have I9b : sIs h16 h.2 _ := I9.keep fun q hq => (f16 _ (by omega) (by omega)).trans ((f15 _ (by omega)))
  obtain ⟨m9, cap9, f9, la, lb9, lc, ld, le, lf⟩ := id L9
  have L9b : sAl h16 h.2 A9 e9 (Db.2.1 3) := ⟨m9, cap9, f9, ((f16 _ (by omega) (by omega)).trans ((f15 _ (by omega)))).trans la, ((f16 _ (by omega) (by omega)).trans ((f15 _ (by omega)))).trans lb9, lc, ld, le, fun i hi q hq => by
    obtain ⟨fs, x, y, k9, hk9, z⟩ := lf i hi q hq
    have z2 := hal k9 hk9
    rw [← z] at z2
    have a0 : q ≠ X := fun c => by rw [c, gx1] at z2; cases z2
    have a1 : q ≠ Q := fun c => by rw [c, x2] at z2; cases z2
    have a2 : q ≠ e := fun c => by rw [c, x3] at z2; cases z2
    exact ⟨fs, ((f16 _ (by omega) (by omega)).trans ((f15 _ (by omega)))).trans x, y, k9, hk9, z⟩⟩
  have N9 := Bb.copy hz (by decide) wf F9 I9b L9b g9a g9c (by omega)
  have svd : ∀ j, j < 2 → (fs j = none ∧ (md_si μ 18 (nI 0)).2 9 j = nI 0) ∨ ∃ b, fs j = some b ∧ (md_si μ 18 (nI 0)).2 9 j = nI 1 ∧ xGo Ω h16 (xNw h w) h.2 tr pl N V O ((md_si μ 18 (nI 0)).2 8) j b ∧ ∀ k', k' < 0 → Bk k' ≠ b := fun j hj => by
    rcases v4 j hj with d | ⟨b2, d1, d2, d3, d4⟩
    · exact Or.inl d
    · have hb2 : b2 + 18 < h.2 := by obtain ⟨r, A', q1, -⟩ := id d3; exact q1.b
      exact Or.inr ⟨b2, d1, d2, (d3.na (by omega)).fr wf F9 (by decide) (by omega), fun k' hk' => absurd hk' (Nat.not_lt_zero _)⟩
  have htl : tr + 18 < h.2 := by obtain ⟨_, _, _, _, _, _, _, _, _, _, _, _, _, _, t6, _⟩ := id gt; exact t6.2.2.2.2.1
  exact ax_iretP (pc := 49) G E rfl rfl dX1_restore_49 ⟨_, rfl, r, A9, congrArg (fun x => some (Value.int x)) (pF_o (pX_lo (by omega))), _, h.2, F9, ⟨⟨(f16 _ (by omega) (by omega)).trans (g15), (xNw.o hlX).trans gx2, gx3⟩, gb.kd kb, gl.kd kb kl, ⟨Q, e, 0, _, Bk, _, ⟨(f16 _ (by omega) (by omega)).trans ((f15 _ (by omega)).trans ((f14 _ (by omega) ).trans (x1))), g16, k16⟩, ⟨(xNw.o hlH).trans y1, (xNw.o hlQ).trans y2, (xNw.o hlE).trans y3, y4, y5, y6⟩, ⟨by omega, by omega, rfl⟩, fun k' hk' => absurd hk' (Nat.not_lt_zero _), fun j k' hj => absurd hj (Nat.not_lt_zero _), ⟨(f16 _ (by omega) (by omega)).trans ((f15 _ (by omega)).trans ((f14 _ (by omega) ).trans (v1))), (xNw.o hlS).trans v2, v3⟩, svd⟩, gt.fr wf F9 (by decide) (by omega), w16, by omega⟩, N9, xNw.n1, by omega, b3⟩

