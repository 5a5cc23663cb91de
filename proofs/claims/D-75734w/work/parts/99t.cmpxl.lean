/-! TelescopeQueue: a text is loaded -/
theorem xLs.sb {Ω : ax_O} {g g' : ax_H} (k : xSb g g') (x : xLs Ω g) : xLs Ω g' := fun q hq => by
  obtain ⟨a, e, hs, hz, b, c⟩ := x q hq
  exact ⟨a.sb k, e, hs, hz, k _ _ b, c⟩
theorem xOutP.n {h h' : ax_H} {z : Nat} {κ' : pK} {v w : Option Value} {R : ax_H → Prop} (x : xOutP h z κ' v R (.inl w) h') : ((∀ q, q < z → h'.1 q = h.1 q) ∧ h.2 ≤ h'.2 ∧ ax_wf h') ∧ w = v ∧ κ'.2.2.2.2.1 = 0 ∧ R h' := by
  rcases x with ⟨f, ⟨e, c, r⟩ | ⟨-, q, e, -⟩⟩
  · cases e; exact ⟨f, rfl, c, r⟩
  · cases e
theorem xOutP.x {h h' : ax_H} {z q : Nat} {κ' : pK} {v : Option Value} {R : ax_H → Prop} (x : xOutP h z κ' v R (.inr q) h') : ((∀ q, q < z → h'.1 q = h.1 q) ∧ h.2 ≤ h'.2 ∧ ax_wf h') ∧ ¬ κ'.2.2.2.2.1 = 0 ∧ xFl h' q κ' := by
  rcases x with ⟨f, ⟨e, -, -⟩ | ⟨c, q, e, r⟩⟩
  · cases e
  · cases e; exact ⟨f, c, r⟩
/-- what the model says behind a text that was read -/
def xLm (μ μ' : md_S) : Prop := μ'.1 2 = nI 0 ∧ μ'.1 5 = nI 0 ∧ μ'.1 6 = -1 ∧ μ'.1 18 = nI 0 ∧ μ'.1 24 = μ.1 24 ∧ (μ'.2 9 0 = nI 0 ∧ μ'.2 9 1 = nI 0) ∧ μ'.2 10 = μ.2 10
/-- .. and behind a fault -/
def xLe (μ μ' : md_S) (κ : pK) : Prop := μ'.1 2 = nI 0 ∧ μ'.1 5 = nI κ.2.2.2.2.1 ∧ μ'.1 6 = κ.2.2.2.2.2 ∧ μ'.1 18 = μ.1 18 ∧ μ'.1 24 = μ.1 24 ∧ (μ'.2 7 = μ.2 7 ∧ μ'.2 8 = μ.2 8 ∧ μ'.2 9 = μ.2 9) ∧ μ'.2 10 = μ.2 10
def pK0 (v : Int32) : pK := (0, 1, 0, v, 0, -1)
theorem xTq.kp {h h' : ax_H} {z Lp Lv Lo La : Nat} {f g : pR} {N V A O ep ev eo ea : Nat} {xp xv xo xa nm ln : Nat → Nat} {lt : Nat → Nat → Nat} (T : xTq h z Lp Lv Lo La f g N V A O ep ev eo ea xp xv xo xa nm ln lt) (k : ∀ q e, h.1 q = some e → xKd e → h'.1 q = some e) : xTq h' z Lp Lv Lo La f g N V A O ep ev eo ea xp xv xo xa nm ln lt := by
  have kp : xKp h h' := fun q e he hi => k q e he (xKd_m hi)
  have st : ∀ {L e n C : Nat} {x : Nat → Nat}, xLi h L e n x C → 12 ≤ C ∧ C ≤ 15 → xLi h' L e n x C := fun {L e n C x} y hC => by
    obtain ⟨l1, hL⟩ := y.o
    obtain ⟨a1, hE⟩ := y.e
    exact y.fr ((k _ _ hL (xKd_o (by decide))).trans hL.symm) ((k _ _ hE xKd_a).trans hE.symm) (fun q fs hq => k q _ hq (xKd_o (Or.inr (Or.inl hC))))
  exact ⟨st T.p (by decide), st T.v (by decide), st T.o (by decide), st T.a (by decide), T.n.kp kp, T.t.kp kp, T.d⟩
def xWl (h : ax_H) (w : Nat → Nat) (a ea : Nat) : Nat → Nat := fun q => if q < h.2 then w q else if (a ≤ q ∧ q ≤ a + 18 ∧ q ≠ a + 1 ∧ q ≠ a + 3) ∨ q = ea then a + 10 else 1
theorem cj_load {Ω : ax_O} (hA : ax_Amb Ω) {h : ax_H} {w : Nat → Nat} {X bf tr hi sv lb a : Nat} {stv : Value} {pl : pR} {N V O u : Nat} {μ : md_S} (J : xG Ω h w X bf tr hi sv lb stv a pl N V O μ u) (hcl : ∀ q e, h.1 q = some e → xBad e → w q = 1) (cs : xLs Ω (xIo h w)) {bn n : Nat} (hB : μ.1 2 = nI bn) (hbn : bn ≤ 1000) (hn : n ≤ bn) {β : Nat → Nat} (hby : xBy (μ.2 1) β) {ψ : rS} (hψ : ψ = rText (μ.2 1) n (pK0 (μ.1 9)))  : ax_MetPW Ω yX1_load 20 3000 72000 [.ref X, .int (nI n)] h (fun o h' => (ψ.1.2.2.2.2.1 = 0 ∧ ∃ N' V' A' O', rC ψ.2.1 ψ.2.2 N' V' A' O' ∧ rI ψ.2.1 ψ.2.2 N' V' A' ∧ o = .inl (some (.int (nI V'))) ∧ ∃ w' a' D' π', xFr (fun o => o = 2) h h' w w' ∧ tr ≠ a' ∧ (∀ μ', xLm μ μ' → xG Ω h' w' X bf tr hi sv lb (.ref a') a' ψ.2.1 N' V' O' μ' 0) ∧ xBk Ω h' w' a' ψ.2.1 ψ.2.2 N' V' O' A' D' π' 0 ∧ w' (a' + 1) = 1) ∨ (¬ ψ.1.2.2.2.2.1 = 0 ∧ ∃ q, o = .inr q ∧ h'.1 q = some (.inr (20, [])) ∧ xFr (fun o => o = 2) h h' w w ∧ ∀ μ', xLe μ μ' ψ.1 → xG Ω h' w X bf tr hi sv lb stv a pl N V O μ' u)) := by
  refine ax_metPW q851 q113 (by decide +kernel) (by decide) hA (Nat.le_of_ble_eq_true rfl) (fun Γ G E => ?_)
  obtain ⟨⟨gx1, gx2, gx3⟩, gb, gl, ⟨Q, e, hd, f, Bk, fs, ⟨x1, x2, x3⟩, ⟨y1, y2, y3, y4, y5, y6⟩, ⟨z1, z2, z3⟩, z4, z5, ⟨v1, v2, v3⟩, v4⟩, gt, wf, hz⟩ := id J
  have hlX := wf.lt gx1
  have hlH := wf.lt x1
  have hlQ := wf.lt x2
  have hlE := wf.lt x3
  have hlS := wf.lt v1
  have nXQ : X ≠ Q := fun z => by rw [z, x2] at gx1; cases gx1
  have nXe : X ≠ e := fun z => by rw [z, x3] at gx1; cases gx1
  have nXH : X ≠ hi := fun z => by rw [z, x1] at gx1; cases gx1
  have nHQ : hi ≠ Q := fun z => by rw [z, x2] at x1; cases x1
  have nHe : hi ≠ e := fun z => by rw [z, x3] at x1; cases x1
  have nQe : Q ≠ e := fun z => by rw [z, x3] at x2; cases x2
  have nXS : X ≠ sv := fun z => by rw [z, v1] at gx1; cases gx1
  have nHS : hi ≠ sv := fun z => by rw [z, v1] at x1; cases x1
  have nQS : Q ≠ sv := fun z => by rw [z, v1] at x2; cases x2
  have neS : e ≠ sv := fun z => by rw [z, v1] at x3; simp at x3
  obtain ⟨nb, tb, gb1, gb2, gb3, gb4, gb5, gb6⟩ := gb
  have en : nb = bn := (nI_eq (by omega) (by omega)).mp (gb1.symm.trans hB)
  rw [en] at gb6 gb2
  rw [hB] at gx1
  have hlB := wf.lt gb3
  have nXB : X ≠ bf := fun z => by rw [z, gb3] at gx1; cases gx1
  have htl : tr + 18 < h.2 := by obtain ⟨_, _, _, _, _, _, _, _, _, _, _, _, _, _, t6, _⟩ := id gt; exact t6.2.2.2.2.1
  show ax_W Ω Γ 3000 72000 h 0 [some (.ref X), some (.int (nI n)), none, none] []
  refine ax_iload_n (pc := 0) G dX1_load_0 rfl rfl ?_
  refine ax_aload_n (pc := 1) G dX1_load_1 rfl rfl ?_
  refine ax_getf (pc := 2) (v := .int (nI bn)) G flX1_109_0 dX1_load_2 (gx1) rfl ?_
  refine ax_iconst (pc := 5) (v := nI 1) G dX1_load_5 ic_1 ?_
  refine ax_iaddN (pc := 6) G dX1_load_6 ?_
  refine ax_cS0 (pc := 7) (kb := 2999) (nb := 71994) G (ct_idxY hA (nI n) (nI (bn + 1)) (ix_y (show n < bn + 1 by omega) (by omega))) lSX1_93 dX1_load_7 rfl (by decide) (Nat.le_of_ble_eq_true rfl) rfl ?_
  refine ax_aload_n (pc := 10) G dX1_load_10 rfl rfl ?_
  refine ax_iconst (pc := 11) (v := nI 0) G dX1_load_11 ic_0 ?_
  refine ax_putf (pc := 12) G flX1_116_0 dX1_load_12 (gx1) (gx3) (Nat.le_of_ble_eq_true rfl) rfl rfl ?_
  refine ax_hvS wf (by omega) (fun h220 g220 f220 z220 w220 => ?_)
  replace g220 : h220.1 X = some (.inr (0, [.ref bf, .int (nI bn), .int (nI 0), .int (μ.1 6), stv, .ref tr, .ref hi, .ref sv, .ref lb])) := g220
  refine ax_aload_n (pc := 15) G dX1_load_15 rfl rfl ?_
  refine ax_iconst (pc := 16) (v := (-1)) G dX1_load_16 (by decide) ?_
  refine ax_putf (pc := 17) G flX1_28_0 dX1_load_17 (g220) (gx3) (Nat.le_of_ble_eq_true rfl) rfl rfl ?_
  refine ax_hvS w220 (by omega) (fun h221 g221 f221 z221 w221 => ?_)
  replace g221 : h221.1 X = some (.inr (0, [.ref bf, .int (nI bn), .int (nI 0), .int (-1), stv, .ref tr, .ref hi, .ref sv, .ref lb])) := g221
  refine ax_aload_n (pc := 20) G dX1_load_20 rfl rfl ?_
  refine ax_new (pc := 21) (ci := 9) (kb := 2998) (nb := 71986) G [.null, .int (nI 0), .int (nI 0), .int (nI 0), .int (nI 0), .null, .null, .null] dX1_load_21 rfl cok_X11 rfl q880 q881 q145 (fun j hj => by match j, hj with | 0, _ => rfl | 1, _ => rfl | 2, _ => rfl | 3, _ => rfl | 4, _ => rfl | 5, _ => rfl | 6, _ => rfl | 7, _ => rfl) ?_
  refine ax_hvA w221 (fun h222 g222 f222 z222 w222 => ?_)
  refine ax_dup (pc := 24) G dX1_load_24 rfl ?_
  refine ax_aload_n (pc := 25) G dX1_load_25 rfl rfl ?_
  refine ax_getf (pc := 26) (v := .ref bf) G flX1_24_0 dX1_load_26 ((f222 _ (by omega)).trans (g221)) rfl ?_
  refine ax_iload_n (pc := 29) G dX1_load_29 rfl rfl ?_
  refine ax_nI (pc := 30) (kb := 2972) (nb := 71149) G (ct_xinit hA w222 (by omega) (g222) (by omega)) lIX1_121 dX1_load_30 rfl (by decide) (Nat.le_of_ble_eq_true rfl) rfl (fun v223 h223 q9 => ?_)
  obtain ⟨rfl, g223, gS, l1, l2, l3, l4, l5, l6, I0, r0, l9, l0, f223, z223, w223⟩ := q9
  show ax_W Ω Γ _ _ (h223) _ _ (_)
  have hX0 : h222.2 = h.2 + 1 := by omega
  have hPe : h221.2 = h.2 := by omega
  have hfr : ∀ q, q < h.2 → q ≠ X → h223.1 q = h.1 q := fun q a1 a2 => (f223 _ (by omega) (by omega)).trans ((f222 _ (by omega)).trans ((f221 _ (by omega)).trans ((f220 _ (by omega)))))
  have hsb : xSb (xIo h w) h223 := fun q e y => by
    obtain ⟨y1, y2⟩ := xIo.d y
    exact (hfr q (wf.lt y1) (fun z => by rw [z, gx2] at y2; cases y2)).trans y1
  have gX9 : h223.1 X = some (.inr (0, [.ref bf, .int (nI bn), .int (nI 0), .int (-1), stv, .ref tr, .ref hi, .ref sv, .ref lb])) := (f223 _ (by omega) (by omega)).trans ((f222 _ (by omega)).trans (g221))
  have hEn : xEn Ω h223 bf n tb (μ.2 1) β := ⟨(hfr _ hlB (Ne.symm nXB)).trans gb3, fun j hj => gb6 j (by omega), by omega, hby, cs.sb hsb⟩
  have hl9 := hEn.l xLm_9
  have hP9 : xPs h223 h221.2 bf n h222.2 (h222.2 + 7) β (pK0 (μ.1 9)) := ⟨nI 0, _, g223, hl9.cg rfl (fun i hi => absurd hi (Nat.not_lt_zero i)), fun y => absurd y (by show ¬ (1 : Nat) = 3; decide)⟩
  have hK9 : xK n β (pK0 (μ.1 9)) := ⟨rfl, ⟨Nat.zero_le _, Nat.le_refl _, (by show (0 : Nat) < 8; decide), by show (1 : Nat) < 8; decide⟩, (by show (1 : Nat) ≤ 4; decide), fun y => absurd y (by show ¬ (1 : Nat) = 2; decide), fun y => absurd y (by show ¬ (1 : Nat) = 4; decide)⟩
  have nil9 : ∀ {L e : Nat} {C cap : Nat}, 0 < cap ∧ cap < 100 → h223.1 L = some (.inr (16, [.int (nI 0), .ref e, .int (nI 0)])) → h223.1 e = some (.inl (.object "java/lang/Object", cap, .inr (.inr (.inr (.inr fun _ => none))))) → xLi h223 L e 0 (fun _ => 0) C := fun hc a1 a2 => ⟨_, _, _, a1, a2, hc.1, hc.2, Nat.zero_le _, fun k hk => absurd hk (Nat.not_lt_zero k), fun i hi q hq => by cases hq⟩
  have hd9 : xLd h.2 (h222.2 + 1) (h222.2 + 3) (h222.2 + 5) (h222.2 + 7 + 2) := ⟨⟨by omega, by omega, by omega, by omega, by omega, by omega⟩, by omega, by omega, by omega, by omega⟩
  have hT9 : xTh h223 h.2 (h222.2 + 1) (h222.2 + 3) (h222.2 + 5) (h222.2 + 7 + 2) p0 p0 0 0 0 0 := ⟨h222.2 + 2, h222.2 + 4, h222.2 + 6, h222.2 + 10, fun _ => 0, fun _ => 0, fun _ => 0, fun _ => 0, fun _ => 0, fun _ => 0, fun _ _ => 0, nil9 (by decide) l1 l2, nil9 (by decide) l3 l4, nil9 (by decide) l5 l6, nil9 (by decide) l9 l0, fun k hk => absurd hk (Nat.not_lt_zero k), ⟨fun k hk => absurd hk (Nat.not_lt_zero k), fun k hk => absurd hk (Nat.not_lt_zero k), fun k hk => absurd hk (Nat.not_lt_zero k)⟩, ⟨⟨by omega, by omega, by omega, by omega, by omega, by omega⟩, by omega, by omega, by omega, by omega⟩⟩
  refine ax_pV (pc := 33) (kb := 72) (nb := 1149) G (ct_xparse hA w223 (by omega) (by omega) hEn hP9 hK9 (z := h.2) hz (by omega) (by omega) (by omega) gS (s0 := fun _ => 0) (π := fun _ => (.null, fun _ => 0)) I0 (by omega) r0 hd9 hT9 hψ) lVX1_124_9 dX1_load_33 (g223) rfl (by decide) (Nat.le_of_ble_eq_true rfl) rfl (fun v9 h9 q9 => ?_) (fun x9 h9x q9 => ?_)
  rotate_left
  obtain ⟨⟨F9, z9, w9⟩, c9, fl9⟩ := q9.x
  have hFZ : ∀ q, q < h.2 → h9x.1 q = h223.1 q := F9
  refine ax_catch0 G fl9 rfl [] (20, 82, 89, 130) [(20, 82, 114, 0), (89, 115, 114, 0)] rfl (fun z hz => by cases hz) (by decide) (Or.inr ⟨by decide, "TelescopeQueue$Flaw", q852, q1056⟩) ?_
  have nX9 : x9 ≠ X := fun z => by have y : h9x.1 x9 = some (.inr (11, _)) := fl9; rw [z, hFZ _ hlX, gX9] at y; cases y
  refine ax_astore_n (pc := 89) G dX1_load_89 rfl (Nat.le_of_ble_eq_true rfl) rfl ?_
  refine ax_aload_n (pc := 90) G dX1_load_90 rfl rfl ?_
  refine ax_aload_n (pc := 91) G dX1_load_91 rfl rfl ?_
  refine ax_getf (pc := 92) (v := .int (nI ψ.1.2.2.2.2.1)) G flX1_132_11 dX1_load_92 (fl9) rfl ?_
  refine ax_putf (pc := 95) G flX1_116_0 dX1_load_95 ((hFZ _ (by omega) ).trans ((f223 _ (by omega) (by omega)).trans ((f222 _ (by omega)).trans (g221)))) (gx3) (Nat.le_of_ble_eq_true rfl) rfl rfl ?_
  refine ax_hvS w9 (by omega) (fun h225 g225 f225 z225 w225 => ?_)
  replace g225 : h225.1 X = some (.inr (0, [.ref bf, .int (nI bn), .int (nI ψ.1.2.2.2.2.1), .int (-1), stv, .ref tr, .ref hi, .ref sv, .ref lb])) := g225
  refine ax_aload_n (pc := 98) G dX1_load_98 rfl rfl ?_
  refine ax_aload_n (pc := 99) G dX1_load_99 rfl rfl ?_
  refine ax_getf (pc := 100) (v := .int ψ.1.2.2.2.2.2) G flX1_135_11 dX1_load_100 ((f225 _ (by omega)).trans (fl9)) rfl ?_
  refine ax_putf (pc := 103) G flX1_28_0 dX1_load_103 (g225) (gx3) (Nat.le_of_ble_eq_true rfl) rfl rfl ?_
  refine ax_hvS w225 (by omega) (fun h226 g226 f226 z226 w226 => ?_)
  replace g226 : h226.1 X = some (.inr (0, [.ref bf, .int (nI bn), .int (nI ψ.1.2.2.2.2.1), .int ψ.1.2.2.2.2.2, stv, .ref tr, .ref hi, .ref sv, .ref lb])) := g226
  refine ax_make2 (pc := 106) (kb := 71) (nb := 1143) (ic := 61) (ci := 20) (names := ["java/lang/RuntimeException", "java/lang/Exception"]) G (by decide) (by decide) q1413 q126 xo_61 dX1_load_106 dX1_load_109 dX1_load_110 rfl (by decide) (Nat.le_of_ble_eq_true rfl) ?_
  refine ax_hvA w226 (fun h227 g227 f227 z227 w227 => ?_)
  refine ax_athrow (pc := 113) G dX1_load_113 ?_
  refine ax_catch0 G (g227) rfl [(20, 82, 89, 130), (20, 82, 114, 0)] (89, 115, 114, 0) [] rfl (fun z hz => Or.inl (by revert z; decide)) (by decide) (Or.inl rfl) ?_
  refine ax_astore_n (pc := 114) G dX1_load_114 rfl (Nat.le_of_ble_eq_true rfl) rfl ?_
  refine ax_aload_n (pc := 115) G dX1_load_115 rfl rfl ?_
  refine ax_iconst (pc := 116) (v := nI 0) G dX1_load_116 ic_0 ?_
  refine ax_putf (pc := 117) G flX1_109_0 dX1_load_117 ((f227 _ (by omega)).trans (g226)) (gx3) (Nat.le_of_ble_eq_true rfl) rfl rfl ?_
  refine ax_hvS w227 (by omega) (fun h228 g228 f228 z228 w228 => ?_)
  replace g228 : h228.1 X = some (.inr (0, [.ref bf, .int (nI 0), .int (nI ψ.1.2.2.2.2.1), .int ψ.1.2.2.2.2.2, stv, .ref tr, .ref hi, .ref sv, .ref lb])) := g228
  refine ax_aload_n (pc := 120) G dX1_load_120 rfl rfl ?_
  refine ax_athrow (pc := 121) G dX1_load_121 ?_
  have kb : ∀ q m, h.1 q = some (.inl (.byte, m)) → h228.1 q = h.1 q ∧ w q = w q := fun q m hq => by
    have hl := wf.lt hq
    have a0 : q ≠ X := fun z => by rw [z, gx1] at hq; cases hq
    exact ⟨(f228 _ (by omega)).trans ((f227 _ (by omega)).trans ((f226 _ (by omega)).trans ((f225 _ (by omega)).trans ((hFZ _ (by omega) ).trans ((f223 _ (by omega) (by omega)).trans ((f222 _ (by omega)).trans ((f221 _ (by omega)).trans ((f220 _ (by omega)))))))))), rfl⟩
  have kl : ∀ q m, h.1 q = some (.inr (18, m)) → h228.1 q = h.1 q ∧ w q = w q := fun q m hq => by
    have hl := wf.lt hq
    have a0 : q ≠ X := fun z => by rw [z, gx1] at hq; cases hq
    exact ⟨(f228 _ (by omega)).trans ((f227 _ (by omega)).trans ((f226 _ (by omega)).trans ((f225 _ (by omega)).trans ((hFZ _ (by omega) ).trans ((f223 _ (by omega) (by omega)).trans ((f222 _ (by omega)).trans ((f221 _ (by omega)).trans ((f220 _ (by omega)))))))))), rfl⟩
  have F9' : xFr (fun o => o = 2) h h228 w w := ⟨fun q hl h2 => by
    have a0 : q ≠ X := fun z => h2 (by rw [z]; exact gx2)
    exact (f228 _ (by omega)).trans ((f227 _ (by omega)).trans ((f226 _ (by omega)).trans ((f225 _ (by omega)).trans ((hFZ _ (by omega) ).trans ((f223 _ (by omega) (by omega)).trans ((f222 _ (by omega)).trans ((f221 _ (by omega)).trans ((f220 _ (by omega)))))))))), fun q hl => rfl, by omega, w228⟩
  have kk : ∀ q e, h.1 q = some e → ((∃ fs, e = .inr (7, fs)) ∨ (∃ fs, e = .inr (17, fs)) ∨ (∃ m, e = .inl (.object "java/lang/Object", m)) ∨ ∃ m, e = .inl (.object "TelescopeQueue$State", m)) → h228.1 q = some e := fun q e hq he => by
    have hl := wf.lt hq
    have a0 : q ≠ X := fun z => by rw [z, gx1] at hq; cases hq; rcases he with ⟨_, z⟩ | ⟨_, z⟩ | ⟨_, z⟩ | ⟨_, z⟩ <;> cases z
    exact ((f228 _ (by omega)).trans ((f227 _ (by omega)).trans ((f226 _ (by omega)).trans ((f225 _ (by omega)).trans ((hFZ _ (by omega) ).trans ((f223 _ (by omega) (by omega)).trans ((f222 _ (by omega)).trans ((f221 _ (by omega)).trans ((f220 _ (by omega))))))))))).trans hq
  have gl9 := gl.kd kb kl
  refine ax_outP (pc := 121) G E (by decide) (Or.inr ⟨c9, _, rfl, (f228 _ (by omega)).trans (g227), F9', fun μ' hm => ?_⟩)
  obtain ⟨m2, m5, m6, m18, m24, ⟨m7, m8, m9⟩, m10⟩ := hm
  refine ⟨⟨?_, gx2, gx3⟩, ⟨0, tb, m2, by decide, ((kb _ _ gb3).1).trans gb3, gb4, gb5, fun j hj => absurd hj (Nat.not_lt_zero j)⟩, ?_, J.k.kd wf F9' (by decide) (fun b => by omega) kk m18 m7 m8 m9, gt.fr wf F9' (by decide) (by omega), w228, by omega⟩
  · rw [m2, m5, m6]; exact g228
  · obtain ⟨el, nl, tl, s1, s2, s3, s4, s5, s6, s7⟩ := gl9
    exact ⟨el, nl, tl, s1, s2, s3, s4, s5, m24.trans s6, fun j hj => by rw [m10]; exact s7 j hj⟩
  obtain ⟨⟨F9, z9, w9⟩, rfl, c9, N9, V9, A9, O9, rc9, ⟨ep9, ev9, eo9, ea9, xp9, xv9, xo9, xa9, nm9, ln9, lt9, T9⟩, gSc9, I9, rl9⟩ := q9.n
  obtain ⟨N8, V8, A8, O8, rc8, ri8⟩ := rJ_text (b := μ.2 1) (n := n) (κ := pK0 (μ.1 9)) (by rw [← hψ]; exact c9)
  rw [← hψ] at rc8 ri8
  obtain ⟨rfl, rfl, rfl, rfl⟩ := rc8.u rc9
  show ax_W Ω Γ _ _ (h9) _ _ (.ref (h222.2 + 7) :: _)
  have hle := sH_show (h := h9) (a := (h222.2 + 7)) (s := pBg (fun k => ψ.2.2 (17 + k)) (fun k => ψ.2.2 (107 + k)) (upd (fun _ => 0) 15 (ψ.2.2 15)) N9 V9) (t := pF A9 ψ.2.2) (p := (fun _ => (.null, fun _ => 0), .ref h222.2, (h222.2 + 7) + 1)) (fun i hi => ri8.row rc9 hi)
  rw [show sH h9 (h222.2 + 7) (pBg (fun k => ψ.2.2 (17 + k)) (fun k => ψ.2.2 (107 + k)) (upd (fun _ => 0) 15 (ψ.2.2 15)) N9 V9, fun _ => (.null, fun _ => 0), .ref h222.2, (h222.2 + 7) + 1) = h9 from I9] at hle
  refine ax_W_le hle ?_
  obtain ⟨hY, ehY⟩ : ∃ y, y = sH h9 (h222.2 + 7) (pF A9 ψ.2.2, fun _ => (.null, fun _ => 0), .ref h222.2, (h222.2 + 7) + 1) := ⟨_, rfl⟩
  rw [← ehY]
  have gY : ∀ q, (q < (h222.2 + 7) ∨ (h222.2 + 7) + 18 < q ∨ ((h222.2 + 7) < q ∧ q < (h222.2 + 7) + 4)) → hY.1 q = h9.1 q := fun q hq => by rw [ehY]; exact sH_out hq
  have zY : hY.2 = h9.2 := by rw [ehY]; rfl
  have wY : ax_wf hY := by rw [ehY]; exact sH_wf w9 (by omega)
  have sY : sIs hY (h222.2 + 7) (pF A9 ψ.2.2, fun _ => (.null, fun _ => 0), .ref h222.2, (h222.2 + 7) + 1) := by rw [ehY]; exact sIs.of
  have FZ : ∀ q, q < h.2 → hY.1 q = h223.1 q := fun q hq => (gY q (by omega)).trans (F9 q hq)
  have scY : hY.1 h222.2 = _ := (gY _ (by omega)).trans gSc9
  have kY : ∀ q e, h9.1 q = some e → xKd e → hY.1 q = some e := fun q e he hk => (gY q (hk.out I9 he)).trans he
  have TY : xTq hY h.2 (h222.2 + 1) (h222.2 + 3) (h222.2 + 5) ((h222.2 + 7) + 2) ψ.2.1 ψ.2.2 N9 V9 A9 O9 ep9 ev9 eo9 ea9 xp9 xv9 xo9 xa9 nm9 ln9 lt9 := T9.kp kY
  obtain ⟨mcv, hLv⟩ : ∃ m, hY.1 (h222.2 + 3) = some (.inr (16, [.int m, .ref ev9, .int (nI V9)])) := by obtain ⟨m, _, _, y, _⟩ := TY.v; exact ⟨m, y⟩
  have rY : hY.1 ((h222.2 + 7) + 1) = some (.inr (2, [])) := (gY _ (by omega)).trans rl9
  refine ax_hp (h' := hY) rfl ?_
  refine ax_putf (pc := 36) G flX1_72_0 dX1_load_36 ((FZ _ (by omega) ).trans ((f223 _ (by omega) (by omega)).trans ((f222 _ (by omega)).trans (g221)))) (gx3) (Nat.le_of_ble_eq_true rfl) rfl rfl ?_
  refine ax_hvS wY (by omega) (fun h229 g229 f229 z229 w229 => ?_)
  replace g229 : h229.1 X = some (.inr (0, [.ref bf, .int (nI bn), .int (nI 0), .int (-1), .ref (h222.2 + 7), .ref tr, .ref hi, .ref sv, .ref lb])) := g229
  refine ax_aload_n (pc := 39) G dX1_load_39 rfl rfl ?_
  refine ax_getf (pc := 40) (v := .ref hi) G flX1_44_0 dX1_load_40 (g229) rfl ?_
  refine ax_nV (pc := 43) (kb := 72) (nb := 1149) G (ct_hclear hA w229 (by omega) ((f229 _ (by omega)).trans ((FZ _ (by omega) ).trans ((f223 _ (by omega) (by omega)).trans ((f222 _ (by omega)).trans ((f221 _ (by omega)).trans ((f220 _ (by omega)).trans (x1))))))) ((f229 _ (by omega)).trans ((FZ _ (by omega) ).trans ((f223 _ (by omega) (by omega)).trans ((f222 _ (by omega)).trans ((f221 _ (by omega)).trans ((f220 _ (by omega)).trans (x2))))))) y5 ((f229 _ (by omega)).trans ((FZ _ (by omega) ).trans ((f223 _ (by omega) (by omega)).trans ((f222 _ (by omega)).trans ((f221 _ (by omega)).trans ((f220 _ (by omega)).trans (x3))))))) y6 z1 (Nat.mod_lt _ (by decide))) lVX1_127_7 dX1_load_43 ((f229 _ (by omega)).trans ((FZ _ (by omega) ).trans ((f223 _ (by omega) (by omega)).trans ((f222 _ (by omega)).trans ((f221 _ (by omega)).trans ((f220 _ (by omega)).trans (x1))))))) rfl (by decide) (Nat.le_of_ble_eq_true rfl) rfl (fun v230 h230 q9 => ?_)
  obtain ⟨rfl, f7, g230, k230, f230, z230, w230⟩ := q9
  show ax_W Ω Γ _ _ (h230) _ _ (_)
  refine ax_iconst (pc := 46) (v := nI 0) G dX1_load_46 ic_0 ?_
  refine ax_istore_n (pc := 47) G dX1_load_47 rfl (Nat.le_of_ble_eq_true rfl) rfl ?_
  refine ax_iload_n (pc := 48) G dX1_load_48 rfl rfl ?_
  refine ax_iconst (pc := 49) (v := nI 2) G dX1_load_49 ic_2 ?_
  refine ax_icmp_ge (pc := 50) (tgt := 66) G dX1_load_50 rfl (fun c9 => absurd c9 (by decide)) (fun _ => ?_)
  refine ax_aload_n (pc := 53) G dX1_load_53 rfl rfl ?_
  refine ax_getf (pc := 54) (v := .ref sv) G flX1_48_0 dX1_load_54 ((f230 _ (by omega) (by omega)).trans (g229)) rfl ?_
  refine ax_iload_n (pc := 57) G dX1_load_57 rfl rfl ?_
  refine ax_null (pc := 58) G dX1_load_58 ?_
  refine ax_aastoreN (pc := 59) G 0 dX1_load_59 ((f230 _ (by omega) (by omega)).trans ((f229 _ (by omega)).trans ((FZ _ (by omega) ).trans ((f223 _ (by omega) (by omega)).trans ((f222 _ (by omega)).trans ((f221 _ (by omega)).trans ((f220 _ (by omega)).trans (v1)))))))) (v3) rfl (by omega) (by omega) ?_
  refine ax_hvS w230 (by omega) (fun h231 g231 f231 z231 w231 => ?_)
  refine ax_iincN (pc := 60) (n := 1) G dX1_load_60 rfl rfl ic_1 ?_
  refine ax_goto (pc := 63) (tgt := 48) G dX1_load_63 rfl ?_
  refine ax_iload_n (pc := 48) G dX1_load_48 rfl rfl ?_
  refine ax_iconst (pc := 49) (v := nI 2) G dX1_load_49 ic_2 ?_
  refine ax_icmp_ge (pc := 50) (tgt := 66) G dX1_load_50 rfl (fun c9 => absurd c9 (by decide)) (fun _ => ?_)
  refine ax_aload_n (pc := 53) G dX1_load_53 rfl rfl ?_
  refine ax_getf (pc := 54) (v := .ref sv) G flX1_48_0 dX1_load_54 ((f231 _ (by omega)).trans ((f230 _ (by omega) (by omega)).trans (g229))) rfl ?_
  refine ax_iload_n (pc := 57) G dX1_load_57 rfl rfl ?_
  refine ax_null (pc := 58) G dX1_load_58 ?_
  refine ax_aastoreN (pc := 59) G 1 dX1_load_59 (g231) (v3) rfl (by omega) (by omega) ?_
  refine ax_hvS w231 (by omega) (fun h232 g232 f232 z232 w232 => ?_)
  refine ax_iincN (pc := 60) (n := 1) G dX1_load_60 rfl rfl ic_1 ?_
  refine ax_goto (pc := 63) (tgt := 48) G dX1_load_63 rfl ?_
  refine ax_iload_n (pc := 48) G dX1_load_48 rfl rfl ?_
  refine ax_iconst (pc := 49) (v := nI 2) G dX1_load_49 ic_2 ?_
  refine ax_icmp_ge (pc := 50) (tgt := 66) G dX1_load_50 rfl (fun _ => ?_) (fun c9 => absurd (by decide) c9)
  refine ax_aload_n (pc := 66) G dX1_load_66 rfl rfl ?_
  refine ax_getf (pc := 67) (v := .ref (h222.2 + 7)) G flX1_72_0 dX1_load_67 ((f232 _ (by omega)).trans ((f231 _ (by omega)).trans ((f230 _ (by omega) (by omega)).trans (g229)))) rfl ?_
  refine ax_getf (pc := 70) (v := .ref h222.2) G flX1_83_1 dX1_load_70 ((f232 _ (by omega)).trans ((f231 _ (by omega)).trans ((f230 _ (by omega) (by omega)).trans ((f229 _ (by omega)).trans (sY.obj))))) rfl ?_
  refine ax_getf (pc := 73) (v := .ref (h222.2 + 3)) G flX1_97_10 dX1_load_73 ((f232 _ (by omega)).trans ((f231 _ (by omega)).trans ((f230 _ (by omega) (by omega)).trans ((f229 _ (by omega)).trans (scY))))) rfl ?_
  refine ax_cJ1 (pc := 76) (kb := 72) (nb := 1149) G (ct_lsize hA ((f232 _ (by omega)).trans ((f231 _ (by omega)).trans ((f230 _ (by omega) (by omega)).trans ((f229 _ (by omega)).trans (hLv)))))) lJX1_1_16 dX1_load_76 ((f232 _ (by omega)).trans ((f231 _ (by omega)).trans ((f230 _ (by omega) (by omega)).trans ((f229 _ (by omega)).trans (hLv))))) rfl (by decide) (Nat.le_of_ble_eq_true rfl) rfl ?_
  refine ax_istore_n (pc := 81) G dX1_load_81 rfl (Nat.le_of_ble_eq_true rfl) rfl ?_
  refine ax_aload_n (pc := 82) G dX1_load_82 rfl rfl ?_
  refine ax_iconst (pc := 83) (v := nI 0) G dX1_load_83 ic_0 ?_
  refine ax_putf (pc := 84) G flX1_109_0 dX1_load_84 ((f232 _ (by omega)).trans ((f231 _ (by omega)).trans ((f230 _ (by omega) (by omega)).trans (g229)))) (gx3) (Nat.le_of_ble_eq_true rfl) rfl rfl ?_
  refine ax_hvS w232 (by omega) (fun h233 g233 f233 z233 w233 => ?_)
  replace g233 : h233.1 X = some (.inr (0, [.ref bf, .int (nI 0), .int (nI 0), .int (-1), .ref (h222.2 + 7), .ref tr, .ref hi, .ref sv, .ref lb])) := g233
  refine ax_iload_n (pc := 87) G dX1_load_87 rfl rfl ?_
  obtain ⟨w9', ew9⟩ : ∃ y, y = xWl h w (h222.2 + 7) ea9 := ⟨_, rfl⟩
  have e9' : ∀ q, q < h.2 → w9' q = w q := fun q hq => by rw [ew9]; exact if_pos hq
  have kb : ∀ q m, h.1 q = some (.inl (.byte, m)) → h233.1 q = h.1 q ∧ w9' q = w q := fun q m hq => by
    have hl := wf.lt hq
    have a0 : q ≠ X := fun z => by rw [z, gx1] at hq; cases hq
    have a1 : q ≠ Q := fun z => by rw [z, x2] at hq; cases hq
    have a2 : q ≠ e := fun z => by rw [z, x3] at hq; cases hq
    have a3 : q ≠ sv := fun z => by rw [z, v1] at hq; cases hq
    exact ⟨(f233 _ (by omega)).trans ((f232 _ (by omega)).trans ((f231 _ (by omega)).trans ((f230 _ (by omega) (by omega)).trans ((f229 _ (by omega)).trans ((FZ _ (by omega) ).trans ((f223 _ (by omega) (by omega)).trans ((f222 _ (by omega)).trans ((f221 _ (by omega)).trans ((f220 _ (by omega))))))))))), e9' q hl⟩
  have kl : ∀ q m, h.1 q = some (.inr (18, m)) → h233.1 q = h.1 q ∧ w9' q = w q := fun q m hq => by
    have hl := wf.lt hq
    have a0 : q ≠ X := fun z => by rw [z, gx1] at hq; cases hq
    have a1 : q ≠ Q := fun z => by rw [z, x2] at hq; cases hq
    have a2 : q ≠ e := fun z => by rw [z, x3] at hq; cases hq
    have a3 : q ≠ sv := fun z => by rw [z, v1] at hq; cases hq
    exact ⟨(f233 _ (by omega)).trans ((f232 _ (by omega)).trans ((f231 _ (by omega)).trans ((f230 _ (by omega) (by omega)).trans ((f229 _ (by omega)).trans ((FZ _ (by omega) ).trans ((f223 _ (by omega) (by omega)).trans ((f222 _ (by omega)).trans ((f221 _ (by omega)).trans ((f220 _ (by omega))))))))))), e9' q hl⟩
  have F8 : xFr (fun o => o = 2) h h233 w w9' := ⟨fun q hl h2 => by
    have a0 : q ≠ X := fun z => h2 (by rw [z]; exact gx2)
    have a1 : q ≠ Q := fun z => h2 (by rw [z]; exact y2)
    have a2 : q ≠ e := fun z => h2 (by rw [z]; exact y3)
    have a3 : q ≠ sv := fun z => h2 (by rw [z]; exact v2)
    exact (f233 _ (by omega)).trans ((f232 _ (by omega)).trans ((f231 _ (by omega)).trans ((f230 _ (by omega) (by omega)).trans ((f229 _ (by omega)).trans ((FZ _ (by omega) ).trans ((f223 _ (by omega) (by omega)).trans ((f222 _ (by omega)).trans ((f221 _ (by omega)).trans ((f220 _ (by omega))))))))))), e9', by omega, w233⟩
  have F7 : xFr (fun o => o = 2) hY h233 w9' w9' := ⟨fun q hl h2 => by
    have a0 : q ≠ X := fun z => h2 (by rw [z, e9' _ (by omega)]; exact gx2)
    have a1 : q ≠ Q := fun z => h2 (by rw [z, e9' _ (by omega)]; exact y2)
    have a2 : q ≠ e := fun z => h2 (by rw [z, e9' _ (by omega)]; exact y3)
    have a3 : q ≠ sv := fun z => h2 (by rw [z, e9' _ (by omega)]; exact v2)
    exact (f233 _ (by omega)).trans ((f232 _ (by omega)).trans ((f231 _ (by omega)).trans ((f230 _ (by omega) (by omega)).trans ((f229 _ (by omega)))))), fun _ _ => rfl, by omega, w233⟩
  obtain ⟨D9, B9⟩ := ld_blk (w := w9') hz TY hd9 wY scY (by omega) sY rY rc9 ri8 (by omega) (by omega) (fun q hq => by rw [ew9]; exact if_neg (by omega)) (fun q e hq he hb => by
    rw [e9' q hq]
    refine hcl q e ?_ hb
    rw [FZ q hq] at he
    by_cases c : q = X
    · rw [c, gX9] at he
      cases he
      rcases hb with ⟨ci, fs, y, k⟩ | ⟨n, f, y, -⟩ <;> cases y
      omega
    · exact (hfr q hq c).symm.trans he)
  have gl9 := gl.kd kb kl
  have nea : (h222.2 + 7) + 1 ≠ ea9 := fun y => by obtain ⟨_, _, _, _, y2, _⟩ := TY.a; rw [← y, rY] at y2; cases y2
  have na : w9' ((h222.2 + 7) + 1) = 1 := by rw [ew9]; unfold xWl; rw [if_neg (by omega)]; exact if_neg (by omega)
  refine ax_iretP (pc := 88) G E rfl rfl dX1_load_88 (Or.inl ⟨c9, N9, V9, A9, O9, rc9, ri8, rfl, w9', (h222.2 + 7), D9, _, F8, by omega, fun μ' hm => ?_, B9.fr wY F7 (by decide) (by omega), na⟩)
  obtain ⟨m2, m5, m6, m18, m24, ⟨m90, m91⟩, m10⟩ := hm
  refine ⟨⟨?_, (e9' _ hlX).trans gx2, gx3⟩, ⟨0, tb, m2, by decide, ((kb _ _ gb3).1).trans gb3, (e9' _ hlB).trans gb4, gb5, fun j hj => absurd hj (Nat.not_lt_zero j)⟩, ?_, ⟨Q, e, 0, f7, fun _ => 0, _, ⟨(f233 _ (by omega)).trans ((f232 _ (by omega)).trans ((f231 _ (by omega)).trans ((f230 _ (by omega) (by omega)).trans ((f229 _ (by omega)).trans ((FZ _ (by omega) ).trans ((f223 _ (by omega) (by omega)).trans ((f222 _ (by omega)).trans ((f221 _ (by omega)).trans ((f220 _ (by omega)).trans (x1)))))))))), (f233 _ (by omega)).trans ((f232 _ (by omega)).trans ((f231 _ (by omega)).trans (g230))), (f233 _ (by omega)).trans ((f232 _ (by omega)).trans ((f231 _ (by omega)).trans (k230)))⟩, ⟨(e9' _ hlH).trans y1, (e9' _ hlQ).trans y2, (e9' _ hlE).trans y3, y4, y5, y6⟩, ⟨by decide, by decide, m18⟩, fun k hk => absurd hk (Nat.not_lt_zero k), fun j k hj => absurd hj (Nat.not_lt_zero j), ⟨(f233 _ (by omega)).trans (g232), (e9' _ hlS).trans v2, v3⟩, fun j hj => Or.inl ?_⟩, gt.fr wf F8 (by decide) (by omega), w233, by omega⟩
  · rw [m2, m5, m6]; exact g233
  · obtain ⟨el, nl, tl, s1, s2, s3, s4, s5, s6, s7⟩ := gl9
    exact ⟨el, nl, tl, s1, s2, s3, s4, s5, m24.trans s6, fun j hj => by rw [m10]; exact s7 j hj⟩
  · have hj2 : j = 0 ∨ j = 1 := by omega
    rcases hj2 with rfl | rfl
    · exact ⟨rfl, m90⟩
    · exact ⟨rfl, m91⟩

