/-! WHAT IS READ, IN THE COMPONENT: scope's lists, alerts -/
theorem rBeg_0 {b : pR} {n k mx : Nat} {κ : pK} (h0 : κ.2.2.2.2.1 = 0) (h : (rBeg b n κ k mx).2.2.2.2.1 = 0) : k ≠ mx := by
  intro e
  rw [rBeg, if_pos e, pNx_c (by rw [pFl_c h0]; decide), pFl_c h0] at h
  cases h
theorem rVisitB_f {b f g : pR} {n P V : Nat} {κ : pK} {ψ : rS} (h : ψ = rVisitB b n κ f g P V) : (∀ j, j ≠ 65 → (j < 66 + 8 * V ∨ 66 + 8 * V + 8 ≤ j) → ψ.2.1 j = f j) ∧ ∀ j, j ≠ 107 + V → j ≠ 87 + V → ψ.2.2 j = g j := by
  rw [rVisitB] at h
  obtain ⟨k0, v0, m0, o0, e0⟩ := rPr_x b n κ f P
  rw [e0] at h
  obtain ⟨k1, v1, m1, o1, e1⟩ := rN_x b n k0 (nI 0) (nI 359)
  rw [e1] at h
  obtain ⟨k2, v2, m2, o2, e2⟩ := rL_x b n k1
  rw [e2] at h
  obtain ⟨k3, v3, m3, o3, e3⟩ := rN_x b n k2 (nI 1) (nI 300)
  rw [e3] at h
  obtain ⟨k4, v4, m4, o4, e4⟩ := rN_x b n k3 (nI 1) (nI 9)
  rw [e4] at h
  obtain ⟨k5, v5, m5, o5, e5⟩ := rN_x b n k4 (nI 0) (nI 99)
  rw [e5] at h
  obtain ⟨k6, v6, m6, o6, e6⟩ := rN_x b n k5 (nI 0) (nI 2000)
  rw [e6] at h
  obtain ⟨k7, v7, m7, o7, e7⟩ := rN_x b n k6 v6 (nI 2000)
  rw [e7] at h
  rw [h]
  refine ⟨fun j j1 j2 => ?_, fun j j1 j2 => ?_⟩
  · show pAdd _ 65 _ j = f j
    rw [pad_ne j1, pu_ne (by omega), pu_ne (by omega), pu_ne (by omega), pu_ne (by omega), pu_ne (by omega), pu_ne (by omega), pu_ne (by omega)]
  · show upd (upd g _ _) _ _ j = g j
    rw [pu_ne j2, pu_ne j1]
theorem rAlertB_f {b f g : pR} {n P A : Nat} {κ : pK} {ψ : rS} (h : ψ = rAlertB b n κ f g P A) : ψ.2.1 = f ∧ ∀ j, j ≠ 14 → (j < 127 + 10 * A ∨ 127 + 10 * A + 10 ≤ j) → ψ.2.2 j = g j := by
  rw [rAlertB] at h
  obtain ⟨k0, v0, m0, o0, e0⟩ := rPr_x b n κ f P
  rw [e0] at h
  obtain ⟨k1, v1, m1, o1, e1⟩ := rN_x b n k0 (nI 0) (nI 2000)
  rw [e1] at h
  obtain ⟨k2, v2, m2, o2, e2⟩ := rN_x b n k1 (nI 0) (nI 359)
  rw [e2] at h
  obtain ⟨k3, v3, m3, o3, e3⟩ := rL_x b n k2
  rw [e3] at h
  obtain ⟨k4, v4, m4, o4, e4⟩ := rN_x b n k3 (nI 1) (nI 300)
  rw [e4] at h
  obtain ⟨k5, v5, m5, o5, e5⟩ := rN_x b n k4 (nI 0) (nI 99)
  rw [e5] at h
  obtain ⟨k6, v6, m6, o6, e6⟩ := rN_x b n k5 (nI 0) (nI 999)
  rw [e6] at h
  rw [h]
  refine ⟨rfl, fun j j1 j2 => ?_⟩
  show pAdd _ 14 _ j = g j
  rw [pad_ne j1, pu_ne (by omega), pu_ne (by omega), pu_ne (by omega), pu_ne (by omega), pu_ne (by omega), pu_ne (by omega), pu_ne (by omega), pu_ne (by omega)]
/-- proposals' part: what else stays -/
theorem rProposalB_f {b f g : pR} {n P : Nat} {κ : pK} {ψ : rS} (hl : κ.2.1 = 2 → rLn κ ≤ 8) (h : ψ = rProposalB b n κ f g P) : (∀ j, 17 + 8 * P + 8 ≤ j → ψ.2.1 j = f j) ∧ ∀ j, j ≠ 17 + P → ψ.2.2 j = g j := by
  rw [rProposalB] at h
  split at h
  · rename_i e2
    split at h
    · obtain ⟨k0, v0, m0, o0, e0⟩ := rN_x b n (pNx b n κ) (nI 0) (nI 9999)
      rw [e0] at h
      rw [h]
      have h8 := hl e2
      refine ⟨fun j j1 => ?_, fun j j1 => ?_⟩
      · show pAdd _ 10 _ j = f j
        rw [pad_ne (by omega), rName, pPut_out (by omega), pu_ne (by omega)]
      · exact pu_ne j1
    · rw [h]; exact ⟨fun _ _ => rfl, fun _ _ => rfl⟩
  · rw [h]; exact ⟨fun _ _ => rfl, fun _ _ => rfl⟩
/-- what the lists tell -/
def xTv (h : ax_H) (f g : pR) (xv xo xa : Nat → Nat) (V A O : Nat) : Prop :=
  (∀ k, k < V → h.1 (xv k) = some (.inr (13, [.int (f (66 + 8 * k + 0)), .int (f (66 + 8 * k + 1)), .int (f (66 + 8 * k + 2)), .int (f (66 + 8 * k + 3)), .int (f (66 + 8 * k + 5)), .int (g (107 + k)), .int (f (66 + 8 * k + 6)), .int (f (66 + 8 * k + 7))]))) ∧
  (∀ k, k < A → h.1 (xa k) = some (.inr (14, [.int (g (127 + 10 * k + 0)), .int (g (127 + 10 * k + 2)), .int (g (127 + 10 * k + 3)), .int (g (127 + 10 * k + 4)), .int (g (127 + 10 * k + 5)), .int (g (127 + 10 * k + 1)), .int (g (127 + 10 * k + 6))]))) ∧
  ∀ k, k < O → h.1 (xo k) = some (.inr (15, [.int (f (227 + 2 * k)), .int (f (227 + 2 * k + 1))]))
def xTd (z ep ev eo ea : Nat) : Prop := (ep ≠ ev ∧ ep ≠ eo ∧ ep ≠ ea ∧ ev ≠ eo ∧ ev ≠ ea ∧ eo ≠ ea) ∧ z ≤ ep ∧ z ≤ ev ∧ z ≤ eo ∧ z ≤ ea
def xTq (h : ax_H) (z Lp Lv Lo La : Nat) (f g : pR) (N V A O : Nat) (ep ev eo ea : Nat) (xp xv xo xa nm ln : Nat → Nat) (lt : Nat → Nat → Nat) : Prop := xLi h Lp ep N xp 12 ∧ xLi h Lv ev V xv 13 ∧ xLi h Lo eo O xo 15 ∧ xLi h La ea A xa 14 ∧ xNm h xp nm ln lt f g N ∧ xTv h f g xv xo xa V A O ∧ xTd z ep ev eo ea
theorem xTq.p {h : ax_H} {z Lp Lv Lo La : Nat} {f g : pR} {N V A O : Nat} {ep ev eo ea : Nat} {xp xv xo xa nm ln : Nat → Nat} {lt : Nat → Nat → Nat} (T : xTq h z Lp Lv Lo La f g N V A O ep ev eo ea xp xv xo xa nm ln lt) : xLi h Lp ep N xp 12 := T.1
theorem xTq.v {h : ax_H} {z Lp Lv Lo La : Nat} {f g : pR} {N V A O : Nat} {ep ev eo ea : Nat} {xp xv xo xa nm ln : Nat → Nat} {lt : Nat → Nat → Nat} (T : xTq h z Lp Lv Lo La f g N V A O ep ev eo ea xp xv xo xa nm ln lt) : xLi h Lv ev V xv 13 := T.2.1
theorem xTq.o {h : ax_H} {z Lp Lv Lo La : Nat} {f g : pR} {N V A O : Nat} {ep ev eo ea : Nat} {xp xv xo xa nm ln : Nat → Nat} {lt : Nat → Nat → Nat} (T : xTq h z Lp Lv Lo La f g N V A O ep ev eo ea xp xv xo xa nm ln lt) : xLi h Lo eo O xo 15 := T.2.2.1
theorem xTq.a {h : ax_H} {z Lp Lv Lo La : Nat} {f g : pR} {N V A O : Nat} {ep ev eo ea : Nat} {xp xv xo xa nm ln : Nat → Nat} {lt : Nat → Nat → Nat} (T : xTq h z Lp Lv Lo La f g N V A O ep ev eo ea xp xv xo xa nm ln lt) : xLi h La ea A xa 14 := T.2.2.2.1
theorem xTq.n {h : ax_H} {z Lp Lv Lo La : Nat} {f g : pR} {N V A O : Nat} {ep ev eo ea : Nat} {xp xv xo xa nm ln : Nat → Nat} {lt : Nat → Nat → Nat} (T : xTq h z Lp Lv Lo La f g N V A O ep ev eo ea xp xv xo xa nm ln lt) : xNm h xp nm ln lt f g N := T.2.2.2.2.1
theorem xTq.t {h : ax_H} {z Lp Lv Lo La : Nat} {f g : pR} {N V A O : Nat} {ep ev eo ea : Nat} {xp xv xo xa nm ln : Nat → Nat} {lt : Nat → Nat → Nat} (T : xTq h z Lp Lv Lo La f g N V A O ep ev eo ea xp xv xo xa nm ln lt) : xTv h f g xv xo xa V A O := T.2.2.2.2.2.1
theorem xTq.d {h : ax_H} {z Lp Lv Lo La : Nat} {f g : pR} {N V A O : Nat} {ep ev eo ea : Nat} {xp xv xo xa nm ln : Nat → Nat} {lt : Nat → Nat → Nat} (T : xTq h z Lp Lv Lo La f g N V A O ep ev eo ea xp xv xo xa nm ln lt) : xTd z ep ev eo ea := T.2.2.2.2.2.2
def xTh (h : ax_H) (z Lp Lv Lo La : Nat) (f g : pR) (N V A O : Nat) : Prop := ∃ ep ev eo ea xp xv xo xa nm ln lt, xTq h z Lp Lv Lo La f g N V A O ep ev eo ea xp xv xo xa nm ln lt
/-- the four lists are apart, behind z -/
def xLd (z Lp Lv Lo La : Nat) : Prop := (Lp ≠ Lv ∧ Lp ≠ Lo ∧ Lp ≠ La ∧ Lv ≠ Lo ∧ Lv ≠ La ∧ Lo ≠ La) ∧ z ≤ Lp ∧ z ≤ Lv ∧ z ≤ Lo ∧ z ≤ La
/-- the parser, a list and its array change -/
theorem xKp.of {h h' : ax_H} (wf : ax_wf h) {P L e : Nat} {fs ls : List Value} {a0 : vp_A} (hP : h.1 P = some (.inr (9, fs))) (hL : h.1 L = some (.inr (16, ls))) (hE : h.1 e = some (.inl (.object "java/lang/Object", a0))) (G : ∀ q, q < h.2 → q ≠ P → q ≠ L → q ≠ e → h'.1 q = h.1 q) : xKp h h' := fun q x hx hi => by
  rw [G q (wf.lt hx) (fun y => by rw [y, hP] at hx; have := hi.2 _ _ (Option.some.inj hx).symm; omega) (fun y => by rw [y, hL] at hx; have := hi.2 _ _ (Option.some.inj hx).symm; omega) (fun y => by rw [y, hE] at hx; exact absurd (hi.1 _ _ _ (Option.some.inj hx).symm) (by decide))]; exact hx
theorem xLi.e {h : ax_H} {L e n C : Nat} {x : Nat → Nat} (z : xLi h L e n x C) : ∃ a0 : vp_A, h.1 e = some (.inl (.object "java/lang/Object", a0)) := by
  obtain ⟨mc, cap, F, a1, a2, -⟩ := z
  exact ⟨(cap, _), a2⟩
theorem xLi.ne {h : ax_H} {L e n C e' : Nat} {x : Nat → Nat} {ci : Nat} {fs : List Value} {L' : Nat} (z : xLi h L e n x C) (hL : h.1 L' = some (.inr (ci, fs))) : e ≠ L' := fun y => by
  obtain ⟨a0, he⟩ := z.e
  rw [y, hL] at he; cases he
/-- a list that stays -/
theorem xLi.st {h h' : ax_H} (wf : ax_wf h) {L e n C : Nat} {x : Nat → Nat} (z : xLi h L e n x C) (hC : 12 ≤ C ∧ C ≤ 15) {P L9 e9 n9 C9 : Nat} {x9 : Nat → Nat} {fs : List Value} (hP : h.1 P = some (.inr (9, fs))) (z9 : xLi h L9 e9 n9 x9 C9) (hL : L ≠ L9) (he : e ≠ e9) (G : ∀ q, q < h.2 → q ≠ P → q ≠ L9 → q ≠ e9 → h'.1 q = h.1 q) : xLi h' L e n x C := by
  obtain ⟨l9, hL9⟩ := z9.o
  obtain ⟨l1, hL1⟩ := z.o
  obtain ⟨a9, hE9⟩ := z9.e
  obtain ⟨a1, hE1⟩ := z.e
  refine z.fr (G L (wf.lt hL1) (fun y => by rw [y, hP] at hL1; cases hL1) hL (fun y => by rw [y, hE9] at hL1; cases hL1)) (G e (wf.lt hE1) (fun y => by rw [y, hP] at hE1; cases hE1) (fun y => by rw [y, hL9] at hE1; cases hE1) he) (fun q fs hq => ?_)
  exact xKp.of wf hP hL9 hE9 G q _ hq (xIm_o hC)
theorem xTv.kp {h h' : ax_H} {f g : pR} {xv xo xa : Nat → Nat} {V A O : Nat} (z : xTv h f g xv xo xa V A O) (k : xKp h h') : xTv h' f g xv xo xa V A O :=
  ⟨fun i hi => k _ _ (z.1 i hi) (xIm_o (by decide)), fun i hi => k _ _ (z.2.1 i hi) (xIm_o (by decide)), fun i hi => k _ _ (z.2.2 i hi) (xIm_o (by decide))⟩
theorem xNm.cg {h : ax_H} {x nm ln : Nat → Nat} {lt : Nat → Nat → Nat} {f g f' g' : pR} {P : Nat} (z : xNm h x nm ln lt f g P) (h1 : ∀ k, k < P → g' (17 + k) = g (17 + k) ∧ f' (11 + k) = f (11 + k) ∧ ∀ i, i < 8 → f' (17 + 8 * k + i) = f (17 + 8 * k + i)) : xNm h x nm ln lt f' g' P := fun k hk => by
  obtain ⟨a1, a2, a3, a4, a5⟩ := z k hk
  obtain ⟨b1, b2, b3⟩ := h1 k hk
  rw [b1, b2]
  exact ⟨a1, a2, a3, a4, fun i hi => by rw [b3 i (by omega)]; exact a5 i hi⟩
section TQ
variable {h h' : ax_H} {z Lp Lv Lo La : Nat} {f g f' g' : pR} {N V A O ep ev eo ea P : Nat} {xp xv xo xa nm ln : Nat → Nat} {lt : Nat → Nat → Nat} {fs : List Value}
theorem xTq.visit (wf : ax_wf h) (T : xTq h z Lp Lv Lo La f g N V A O ep ev eo ea xp xv xo xa nm ln lt) (hd : xLd z Lp Lv Lo La) (hP : h.1 P = some (.inr (9, fs))) (G : ∀ q, q < h.2 → q ≠ P → q ≠ Lv → q ≠ ev → h'.1 q = h.1 q) (zh : z ≤ h.2) (hN : N ≤ 6) (hV : V < 20) (hO : O ≤ 4)
    (h1 : (∀ j, j ≠ 65 → (j < 66 + 8 * V ∨ 66 + 8 * V + 8 ≤ j) → f' j = f j) ∧ ∀ j, j ≠ 107 + V → j ≠ 87 + V → g' j = g j)
    {e' xn : Nat} (r1 : xLi h' Lv e' (V + 1) (fun k => if k = V then xn else xv k) 13) (r2 : e' = ev ∨ h.2 ≤ e') (r3 : h'.1 xn = some (.inr (13, [.int (f' (66 + 8 * V + 0)), .int (f' (66 + 8 * V + 1)), .int (f' (66 + 8 * V + 2)), .int (f' (66 + 8 * V + 3)), .int (f' (66 + 8 * V + 5)), .int (g' (107 + V)), .int (f' (66 + 8 * V + 6)), .int (f' (66 + 8 * V + 7))]))) :
    xTh h' z Lp Lv Lo La f' g' N (V + 1) A O := by
  obtain ⟨⟨d1, d2, d3, d4, d5, d6⟩, d7⟩ := hd
  obtain ⟨⟨u1, u2, u3, u4, u5, u6⟩, u7, u8, u9, u0⟩ := T.d
  obtain ⟨a9, hE9⟩ := T.v.e
  obtain ⟨l9, hL9⟩ := T.v.o
  obtain ⟨ap, hEp⟩ := T.p.e
  obtain ⟨ao, hEo⟩ := T.o.e
  obtain ⟨aa, hEa⟩ := T.a.e
  have lp := wf.lt hEp
  have lo := wf.lt hEo
  have la := wf.lt hEa
  have kp := xKp.of wf hP hL9 hE9 G
  have tv := T.t.kp kp
  refine ⟨ep, e', eo, ea, xp, _, xo, xa, nm, ln, lt, ⟨T.p.st wf (by decide) hP T.v d1 u1 G, r1, T.o.st wf (by decide) hP T.v d4.symm u4.symm G, T.a.st wf (by decide) hP T.v d5.symm u5.symm G, (T.n.kp kp).cg (fun k hk => ⟨h1.2 _ (by omega) (by omega), h1.1 _ (by omega) (by omega), fun i hi => h1.1 _ (by omega) (by omega)⟩), ⟨fun k hk => ?_, fun k hk => ?_, fun k hk => ?_⟩, ⟨⟨?_, u2, u3, ?_, ?_, u6⟩, u7, ?_, u9, u0⟩⟩⟩
  · by_cases y : k = V
    · subst y; show h'.1 (if k = k then xn else xv k) = _; rw [if_pos rfl]; exact r3
    · show h'.1 (if k = V then xn else xv k) = _
      rw [if_neg y, tv.1 k (by omega), h1.1 (66 + 8 * k + 0) (by omega) (by omega), h1.1 (66 + 8 * k + 1) (by omega) (by omega), h1.1 (66 + 8 * k + 2) (by omega) (by omega), h1.1 (66 + 8 * k + 3) (by omega) (by omega), h1.1 (66 + 8 * k + 5) (by omega) (by omega), h1.1 (66 + 8 * k + 6) (by omega) (by omega), h1.1 (66 + 8 * k + 7) (by omega) (by omega), h1.2 (107 + k) (by omega) (by omega)]
  · rw [tv.2.1 k hk, h1.2 (127 + 10 * k + 0) (by omega) (by omega), h1.2 (127 + 10 * k + 1) (by omega) (by omega), h1.2 (127 + 10 * k + 2) (by omega) (by omega), h1.2 (127 + 10 * k + 3) (by omega) (by omega), h1.2 (127 + 10 * k + 4) (by omega) (by omega), h1.2 (127 + 10 * k + 5) (by omega) (by omega), h1.2 (127 + 10 * k + 6) (by omega) (by omega)]
  · rw [tv.2.2 k hk, h1.1 (227 + 2 * k) (by omega) (by omega), h1.1 (227 + 2 * k + 1) (by omega) (by omega)]
  · rcases r2 with y | y
    · rw [y]; exact u1
    · omega
  · rcases r2 with y | y
    · rw [y]; exact u4
    · omega
  · rcases r2 with y | y
    · rw [y]; exact u5
    · omega
  · rcases r2 with y | y
    · rw [y]; exact u8
    · omega
theorem xTq.alert (wf : ax_wf h) (T : xTq h z Lp Lv Lo La f g N V A O ep ev eo ea xp xv xo xa nm ln lt) (hd : xLd z Lp Lv Lo La) (hP : h.1 P = some (.inr (9, fs))) (G : ∀ q, q < h.2 → q ≠ P → q ≠ La → q ≠ ea → h'.1 q = h.1 q) (zh : z ≤ h.2) (hN : N ≤ 6) (hV : V ≤ 20) (hA : A < 5)
    (h1 : f' = f ∧ ∀ j, j ≠ 14 → (j < 127 + 10 * A ∨ 127 + 10 * A + 10 ≤ j) → g' j = g j)
    {e' xn : Nat} (r1 : xLi h' La e' (A + 1) (fun k => if k = A then xn else xa k) 14) (r2 : e' = ea ∨ h.2 ≤ e') (r3 : h'.1 xn = some (.inr (14, [.int (g' (127 + 10 * A + 0)), .int (g' (127 + 10 * A + 2)), .int (g' (127 + 10 * A + 3)), .int (g' (127 + 10 * A + 4)), .int (g' (127 + 10 * A + 5)), .int (g' (127 + 10 * A + 1)), .int (g' (127 + 10 * A + 6))]))) :
    xTh h' z Lp Lv Lo La f' g' N V (A + 1) O := by
  obtain ⟨⟨d1, d2, d3, d4, d5, d6⟩, d7⟩ := hd
  obtain ⟨⟨u1, u2, u3, u4, u5, u6⟩, u7, u8, u9, u0⟩ := T.d
  obtain ⟨a9, hE9⟩ := T.a.e
  obtain ⟨l9, hL9⟩ := T.a.o
  obtain ⟨ap, hEp⟩ := T.p.e
  obtain ⟨ao, hEo⟩ := T.o.e
  obtain ⟨av, hEv⟩ := T.v.e
  have lp := wf.lt hEp
  have lo := wf.lt hEo
  have lv := wf.lt hEv
  have kp := xKp.of wf hP hL9 hE9 G
  have tv := T.t.kp kp
  obtain ⟨rfl, h2⟩ := h1
  refine ⟨ep, ev, eo, e', xp, xv, xo, _, nm, ln, lt, ⟨T.p.st wf (by decide) hP T.a d3 u3 G, T.v.st wf (by decide) hP T.a d5 u5 G, T.o.st wf (by decide) hP T.a d6 u6 G, r1, (T.n.kp kp).cg (fun k hk => ⟨h2 _ (by omega) (by omega), rfl, fun i hi => rfl⟩), ⟨fun k hk => ?_, fun k hk => ?_, fun k hk => tv.2.2 k hk⟩, ⟨⟨u1, u2, ?_, u4, ?_, ?_⟩, u7, u8, u9, ?_⟩⟩⟩
  · rw [tv.1 k hk, h2 (107 + k) (by omega) (by omega)]
  · by_cases y : k = A
    · subst y; show h'.1 (if k = k then xn else xa k) = _; rw [if_pos rfl]; exact r3
    · show h'.1 (if k = A then xn else xa k) = _
      rw [if_neg y, tv.2.1 k (by omega), h2 (127 + 10 * k + 0) (by omega) (by omega), h2 (127 + 10 * k + 1) (by omega) (by omega), h2 (127 + 10 * k + 2) (by omega) (by omega), h2 (127 + 10 * k + 3) (by omega) (by omega), h2 (127 + 10 * k + 4) (by omega) (by omega), h2 (127 + 10 * k + 5) (by omega) (by omega), h2 (127 + 10 * k + 6) (by omega) (by omega)]
  · rcases r2 with y | y
    · rw [y]; exact u3
    · omega
  · rcases r2 with y | y
    · rw [y]; exact u5
    · omega
  · rcases r2 with y | y
    · rw [y]; exact u6
    · omega
  · rcases r2 with y | y
    · rw [y]; exact u0
    · omega
theorem xTq.outage (wf : ax_wf h) (T : xTq h z Lp Lv Lo La f g N V A O ep ev eo ea xp xv xo xa nm ln lt) (hd : xLd z Lp Lv Lo La) (hP : h.1 P = some (.inr (9, fs))) (G : ∀ q, q < h.2 → q ≠ P → q ≠ Lo → q ≠ eo → h'.1 q = h.1 q) (zh : z ≤ h.2) (hN : N ≤ 6) (hV : V ≤ 20) (hO : O < 4)
    (h1 : (∀ j, j ≠ 226 → j ≠ 227 + 2 * O → j ≠ 227 + 2 * O + 1 → f' j = f j) ∧ g' = g)
    {e' xn : Nat} (r1 : xLi h' Lo e' (O + 1) (fun k => if k = O then xn else xo k) 15) (r2 : e' = eo ∨ h.2 ≤ e') (r3 : h'.1 xn = some (.inr (15, [.int (f' (227 + 2 * O)), .int (f' (227 + 2 * O + 1))]))) :
    xTh h' z Lp Lv Lo La f' g' N V A (O + 1) := by
  obtain ⟨⟨d1, d2, d3, d4, d5, d6⟩, d7⟩ := hd
  obtain ⟨⟨u1, u2, u3, u4, u5, u6⟩, u7, u8, u9, u0⟩ := T.d
  obtain ⟨a9, hE9⟩ := T.o.e
  obtain ⟨l9, hL9⟩ := T.o.o
  obtain ⟨ap, hEp⟩ := T.p.e
  obtain ⟨aa, hEa⟩ := T.a.e
  obtain ⟨av, hEv⟩ := T.v.e
  have lp := wf.lt hEp
  have la := wf.lt hEa
  have lv := wf.lt hEv
  have kp := xKp.of wf hP hL9 hE9 G
  have tv := T.t.kp kp
  obtain ⟨h2, rfl⟩ := h1
  refine ⟨ep, ev, e', ea, xp, xv, _, xa, nm, ln, lt, ⟨T.p.st wf (by decide) hP T.o d2 u2 G, T.v.st wf (by decide) hP T.o d4 u4 G, r1, T.a.st wf (by decide) hP T.o d6.symm u6.symm G, (T.n.kp kp).cg (fun k hk => ⟨rfl, h2 _ (by omega) (by omega) (by omega), fun i hi => h2 _ (by omega) (by omega) (by omega)⟩), ⟨fun k hk => ?_, fun k hk => tv.2.1 k hk, fun k hk => ?_⟩, ⟨⟨u1, ?_, u3, ?_, u5, ?_⟩, u7, u8, ?_, u0⟩⟩⟩
  · rw [tv.1 k hk, h2 (66 + 8 * k + 0) (by omega) (by omega) (by omega), h2 (66 + 8 * k + 1) (by omega) (by omega) (by omega), h2 (66 + 8 * k + 2) (by omega) (by omega) (by omega), h2 (66 + 8 * k + 3) (by omega) (by omega) (by omega), h2 (66 + 8 * k + 5) (by omega) (by omega) (by omega), h2 (66 + 8 * k + 6) (by omega) (by omega) (by omega), h2 (66 + 8 * k + 7) (by omega) (by omega) (by omega)]
  · by_cases y : k = O
    · subst y; show h'.1 (if k = k then xn else xo k) = _; rw [if_pos rfl]; exact r3
    · show h'.1 (if k = O then xn else xo k) = _
      rw [if_neg y, tv.2.2 k (by omega), h2 (227 + 2 * k) (by omega) (by omega) (by omega), h2 (227 + 2 * k + 1) (by omega) (by omega) (by omega)]
  · rcases r2 with y | y
    · rw [y]; exact u2
    · omega
  · rcases r2 with y | y
    · rw [y]; exact u4
    · omega
  · rcases r2 with y | y
    · rw [y]; exact u6
    · omega
  · rcases r2 with y | y
    · rw [y]; exact u9
    · omega
theorem xTq.proposal (wf : ax_wf h) (T : xTq h z Lp Lv Lo La f g N V A O ep ev eo ea xp xv xo xa nm ln lt) (hd : xLd z Lp Lv Lo La) (hP : h.1 P = some (.inr (9, fs))) (G : ∀ q, q < h.2 → q ≠ P → q ≠ Lp → q ≠ ep → h'.1 q = h.1 q) (zh : z ≤ h.2) (hN : N < 6)
    (h1 : (∀ j, 17 + 8 * N + 8 ≤ j → f' j = f j) ∧ ∀ j, j ≠ 17 + N → g' j = g j)
    {e' : Nat} {xp' nm' ln' : Nat → Nat} {lt' : Nat → Nat → Nat} (r1 : xLi h' Lp e' (N + 1) xp' 12) (r2 : e' = ep ∨ h.2 ≤ e') (r3 : xNm h' xp' nm' ln' lt' f' g' (N + 1)) :
    xTh h' z Lp Lv Lo La f' g' (N + 1) V A O := by
  obtain ⟨⟨d1, d2, d3, d4, d5, d6⟩, d7⟩ := hd
  obtain ⟨⟨u1, u2, u3, u4, u5, u6⟩, u7, u8, u9, u0⟩ := T.d
  obtain ⟨a9, hE9⟩ := T.p.e
  obtain ⟨l9, hL9⟩ := T.p.o
  obtain ⟨ao, hEo⟩ := T.o.e
  obtain ⟨aa, hEa⟩ := T.a.e
  obtain ⟨av, hEv⟩ := T.v.e
  have lo := wf.lt hEo
  have la := wf.lt hEa
  have lv := wf.lt hEv
  have kp := xKp.of wf hP hL9 hE9 G
  have tv := T.t.kp kp
  refine ⟨e', ev, eo, ea, xp', xv, xo, xa, nm', ln', lt', ⟨r1, T.v.st wf (by decide) hP T.p d1.symm u1.symm G, T.o.st wf (by decide) hP T.p d2.symm u2.symm G, T.a.st wf (by decide) hP T.p d3.symm u3.symm G, r3, ⟨fun k hk => ?_, fun k hk => ?_, fun k hk => ?_⟩, ⟨⟨?_, ?_, ?_, u4, u5, u6⟩, ?_, u8, u9, u0⟩⟩⟩
  · rw [tv.1 k hk, h1.1 (66 + 8 * k + 0) (by omega), h1.1 (66 + 8 * k + 1) (by omega), h1.1 (66 + 8 * k + 2) (by omega), h1.1 (66 + 8 * k + 3) (by omega), h1.1 (66 + 8 * k + 5) (by omega), h1.1 (66 + 8 * k + 6) (by omega), h1.1 (66 + 8 * k + 7) (by omega), h1.2 (107 + k) (by omega)]
  · rw [tv.2.1 k hk, h1.2 (127 + 10 * k + 0) (by omega), h1.2 (127 + 10 * k + 1) (by omega), h1.2 (127 + 10 * k + 2) (by omega), h1.2 (127 + 10 * k + 3) (by omega), h1.2 (127 + 10 * k + 4) (by omega), h1.2 (127 + 10 * k + 5) (by omega), h1.2 (127 + 10 * k + 6) (by omega)]
  · rw [tv.2.2 k hk, h1.1 (227 + 2 * k) (by omega), h1.1 (227 + 2 * k + 1) (by omega)]
  · rcases r2 with y | y
    · rw [y]; exact u1
    · omega
  · rcases r2 with y | y
    · rw [y]; exact u2
    · omega
  · rcases r2 with y | y
    · rw [y]; exact u3
    · omega
  · rcases r2 with y | y
    · rw [y]; exact u7
    · omega
end TQ
