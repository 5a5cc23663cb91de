/-! THE COMPONENT: a line, what is used -/
/-- the reading of an outage, behind its first word -/
def rOutageB (b : pR) (n : Nat) (κ : pK) (f g : pR) (O : Nat) : rS :=
  rN b n κ (nI 0) (nI 2000) fun k0 v0 => rN b n k0 v0 (nI 2000) fun k1 v1 => (k1, pAdd (upd (upd f (227 + 2 * O) v0) (227 + 2 * O + 1) v1) 226 (nI 1), g)
theorem rOutage_e {b f g : pR} {n O : Nat} {κ : pK} (h : (rBeg b n κ O 4).2.2.2.2.1 = 0) : rOutage b n κ f g O = rOutageB b n (rBeg b n κ O 4) f g O := by rw [rOutage, if_pos h]; rfl
theorem rOutageB_f {b f g : pR} {n O : Nat} {κ : pK} {ψ : rS} (h : ψ = rOutageB b n κ f g O) : (∀ j, j ≠ 226 → j ≠ 227 + 2 * O → j ≠ 227 + 2 * O + 1 → ψ.2.1 j = f j) ∧ ψ.2.2 = g := by
  rw [rOutageB] at h
  obtain ⟨k0, v0, m0, o0, e0⟩ := rN_x b n κ (nI 0) (nI 2000)
  rw [e0] at h
  obtain ⟨k1, v1, m1, o1, e1⟩ := rN_x b n k0 v0 (nI 2000)
  rw [e1] at h
  rw [h]
  refine ⟨fun j j1 j2 j3 => ?_, rfl⟩
  show pAdd _ 226 _ j = f j
  rw [pad_ne j1, pu_ne j3, pu_ne j2]
theorem rOutageB_n {b f g : pR} {n O : Nat} {κ : pK} {ψ : rS} (h : ψ = rOutageB b n κ f g O) : ψ.2.1 226 = f 226 + nI 1 := by
  rw [rOutageB] at h
  obtain ⟨k0, v0, m0, o0, e0⟩ := rN_x b n κ (nI 0) (nI 2000)
  rw [e0] at h
  obtain ⟨k1, v1, m1, o1, e1⟩ := rN_x b n k0 v0 (nI 2000)
  rw [e1] at h
  rw [h]
  show pAdd _ 226 _ 226 = _
  rw [pad_eq rfl, pu_ne (by omega), pu_ne (by omega)]
theorem rVisitB_n {b f g : pR} {n P V : Nat} {κ : pK} {ψ : rS} (h : ψ = rVisitB b n κ f g P V) : ψ.2.1 65 = f 65 + nI 1 := by
  rw [rVisitB] at h
  obtain ⟨k0, v0, m0, o0, e0⟩ := rPr_x b n κ f P
  rw [e0] at h
  obtain ⟨k1, v1, m1, o1, e1⟩ := rN_x b n k0 (nI 0) (nI 359)
  rw [e1] at h
  obtain ⟨k2, v2, m2, o2, e2⟩ := rL_x b n k1
  rw [e2] at h
  obtain ⟨k3, v3, m3, o3, e3⟩ := rN_x b n k2 (nI 1) (nI 300)
  rw [e3] at h
  obtain ⟨k4, v4, m4, o4, e4⟩ := rN_x b n k3 (nI 1) (nI 9)
  rw [e4] at h
  obtain ⟨k5, v5, m5, o5, e5⟩ := rN_x b n k4 (nI 0) (nI 99)
  rw [e5] at h
  obtain ⟨k6, v6, m6, o6, e6⟩ := rN_x b n k5 (nI 0) (nI 2000)
  rw [e6] at h
  obtain ⟨k7, v7, m7, o7, e7⟩ := rN_x b n k6 v6 (nI 2000)
  rw [e7] at h
  rw [h]
  show pAdd _ 65 _ 65 = _
  rw [pad_eq rfl, pu_ne (by omega), pu_ne (by omega), pu_ne (by omega), pu_ne (by omega), pu_ne (by omega), pu_ne (by omega), pu_ne (by omega)]
theorem rAlertB_n {b f g : pR} {n P A : Nat} {κ : pK} {ψ : rS} (h : ψ = rAlertB b n κ f g P A) : ψ.2.2 14 = g 14 + nI 1 := by
  rw [rAlertB] at h
  obtain ⟨k0, v0, m0, o0, e0⟩ := rPr_x b n κ f P
  rw [e0] at h
  obtain ⟨k1, v1, m1, o1, e1⟩ := rN_x b n k0 (nI 0) (nI 2000)
  rw [e1] at h
  obtain ⟨k2, v2, m2, o2, e2⟩ := rN_x b n k1 (nI 0) (nI 359)
  rw [e2] at h
  obtain ⟨k3, v3, m3, o3, e3⟩ := rL_x b n k2
  rw [e3] at h
  obtain ⟨k4, v4, m4, o4, e4⟩ := rN_x b n k3 (nI 1) (nI 300)
  rw [e4] at h
  obtain ⟨k5, v5, m5, o5, e5⟩ := rN_x b n k4 (nI 0) (nI 99)
  rw [e5] at h
  obtain ⟨k6, v6, m6, o6, e6⟩ := rN_x b n k5 (nI 0) (nI 999)
  rw [e6] at h
  rw [h]
  show pAdd _ 14 _ 14 = _
  rw [pad_eq rfl, pu_ne (by omega), pu_ne (by omega), pu_ne (by omega), pu_ne (by omega), pu_ne (by omega), pu_ne (by omega), pu_ne (by omega), pu_ne (by omega)]
theorem rProposalB_n {b f g : pR} {n P : Nat} {κ : pK} {ψ : rS} (h0 : κ.2.2.2.2.1 = 0) (hl : κ.2.1 = 2 → rLn κ ≤ 8) (h : ψ = rProposalB b n κ f g P) (h1 : ψ.1.2.2.2.2.1 = 0) : ψ.2.1 10 = f 10 + nI 1 := by
  rw [rProposalB] at h
  split at h
  · rename_i e2
    split at h
    · obtain ⟨k0, v0, m0, o0, e0⟩ := rN_x b n (pNx b n κ) (nI 0) (nI 9999)
      rw [e0] at h
      have h8 := hl e2
      rw [h]
      show pAdd _ 10 _ 10 = _
      rw [pad_eq rfl, rName, pPut_out (by omega), pu_ne (by omega)]
    · rw [h, pFl_c h0] at h1; cases h1
  · rw [h, pFl_c h0] at h1; cases h1
theorem rProposalB_l {b f g : pR} {n P : Nat} {κ : pK} {ψ : rS} (h : ψ = rProposalB b n κ f g P) : ∀ j, j < 10 → ψ.2.1 j = f j := by
  rw [rProposalB] at h
  split at h
  · split at h
    · obtain ⟨k0, v0, m0, o0, e0⟩ := rN_x b n (pNx b n κ) (nI 0) (nI 9999)
      rw [e0] at h
      rw [h]
      intro j hj
      show pAdd _ 10 _ j = f j
      rw [pad_ne (by omega), rName, pPut_out (by omega), pu_ne (by omega)]
    · rw [h]; exact fun _ _ => rfl
  · rw [h]; exact fun _ _ => rfl
/-- the first fields stay -/
def xLo (f g f' g' : pR) : Prop := (∀ j, j < 10 → f' j = f j) ∧ g' 15 = g 15
section RC
variable {f g f' g' : pR} {N V A O : Nat}
theorem rC.visit (c : rC f g N V A O) (hV : V < 20) (h1 : (∀ j, j ≠ 65 → (j < 66 + 8 * V ∨ 66 + 8 * V + 8 ≤ j) → f' j = f j) ∧ ∀ j, j ≠ 107 + V → j ≠ 87 + V → g' j = g j) (h2 : f' 65 = f 65 + nI 1) : rC f' g' N (V + 1) A O := by
  obtain ⟨⟨c1, c2, c3, c4⟩, c5, c6, c7, c8⟩ := c
  exact ⟨⟨by rw [h1.1 10 (by omega) (by omega)]; exact c1, by rw [h2, c2, nI_add], by rw [h1.1 226 (by omega) (by omega)]; exact c3, by rw [h1.2 14 (by omega) (by omega)]; exact c4⟩, c5, by omega, c7, c8⟩
theorem rC.alert (c : rC f g N V A O) (hA : A < 5) (h1 : f' = f ∧ ∀ j, j ≠ 14 → (j < 127 + 10 * A ∨ 127 + 10 * A + 10 ≤ j) → g' j = g j) (h2 : g' 14 = g 14 + nI 1) : rC f' g' N V (A + 1) O := by
  obtain ⟨⟨c1, c2, c3, c4⟩, c5, c6, c7, c8⟩ := c
  obtain ⟨rfl, h1⟩ := h1
  exact ⟨⟨c1, c2, c3, by rw [h2, c4, nI_add]⟩, c5, c6, by omega, c8⟩
theorem rC.outage (c : rC f g N V A O) (hO : O < 4) (h1 : (∀ j, j ≠ 226 → j ≠ 227 + 2 * O → j ≠ 227 + 2 * O + 1 → f' j = f j) ∧ g' = g) (h2 : f' 226 = f 226 + nI 1) : rC f' g' N V A (O + 1) := by
  obtain ⟨⟨c1, c2, c3, c4⟩, c5, c6, c7, c8⟩ := c
  obtain ⟨h1, rfl⟩ := h1
  exact ⟨⟨by rw [h1 10 (by omega) (by omega) (by omega)]; exact c1, by rw [h1 65 (by omega) (by omega) (by omega)]; exact c2, by rw [h2, c3, nI_add], c4⟩, c5, c6, c7, by omega⟩
theorem rC.proposal (c : rC f g N V A O) (hN : N < 6) (h1 : (∀ j, 17 + 8 * N + 8 ≤ j → f' j = f j) ∧ ∀ j, j ≠ 17 + N → g' j = g j) (h2 : f' 10 = f 10 + nI 1) : rC f' g' (N + 1) V A O := by
  obtain ⟨⟨c1, c2, c3, c4⟩, c5, c6, c7, c8⟩ := c
  exact ⟨⟨by rw [h2, c1, nI_add], by rw [h1.1 65 (by omega)]; exact c2, by rw [h1.1 226 (by omega)]; exact c3, by rw [h1.2 14 (by omega)]; exact c4⟩, by omega, c6, c7, c8⟩
end RC
/-- what a line's reading leaves -/
def xIn (e : ax_E) : Prop := (∀ ty a, e = .inl (ty, a) → ty ≠ .object "java/lang/Object") ∧ ∀ ci fs, e = .inr (ci, fs) → ci ≠ 9 ∧ ci ≠ 16 ∧ ci ≠ 19
def xFm (z : Nat) (h h' : ax_H) : Prop := (∀ q, q < z → h'.1 q = h.1 q) ∧ (∀ q e, h.1 q = some e → xIn e → h'.1 q = some e) ∧ h.2 ≤ h'.2 ∧ ax_wf h'
theorem xFm.trans {z : Nat} {h h1 h2 : ax_H} (a : xFm z h h1) (c : xFm z h1 h2) : xFm z h h2 := ⟨fun q hq => (c.1 q hq).trans (a.1 q hq), fun q e he hi => c.2.1 q e (a.2.1 q e he hi) hi, Nat.le_trans a.2.2.1 c.2.2.1, c.2.2.2⟩
theorem xFm.rfl' {z : Nat} {h : ax_H} (wf : ax_wf h) : xFm z h h := ⟨fun _ _ => rfl, fun _ _ he _ => he, Nat.le_refl _, wf⟩
theorem xFm.new {z : Nat} {h h' : ax_H} (wf : ax_wf h) (zh : z ≤ h.2) (g : ∀ q, q < h.2 → h'.1 q = h.1 q) (le : h.2 ≤ h'.2) (wf' : ax_wf h') : xFm z h h' := ⟨fun q hq => g q (by omega), fun q e he _ => (g q (wf.lt he)).trans he, le, wf'⟩
theorem xSt.m {z P : Nat} {h h' : ax_H} {fs : List Value} (s : xSt h h' P) (wf : ax_wf h) (hP : h.1 P = some (.inr (9, fs))) (zP : z ≤ P) : xFm z h h' := by
  have := wf.lt hP
  exact ⟨fun q hq => s.1 q (by omega) (by omega), fun q e he hi => (s.1 q (wf.lt he) (fun y => by rw [y, hP] at he; exact (hi.2 _ _ (Option.some.inj he).symm).1 rfl)).trans he, s.2.1, s.2.2⟩
theorem xFm.of {z P L e : Nat} {h h' : ax_H} (wf : ax_wf h) {fs ls : List Value} {a0 : vp_A} (hP : h.1 P = some (.inr (9, fs))) (hL : h.1 L = some (.inr (16, ls))) (hE : h.1 e = some (.inl (.object "java/lang/Object", a0))) (zP : z ≤ P) (zL : z ≤ L) (zE : z ≤ e) (G : (∀ q, q < h.2 → q ≠ P → q ≠ L → q ≠ e → h'.1 q = h.1 q) ∧ h.2 ≤ h'.2 ∧ ax_wf h') : xFm z h h' := by
  have := wf.lt hP
  refine ⟨fun q hq => G.1 q (by omega) (by omega) (by omega) (by omega), fun q x hx hi => ?_, G.2⟩
  rw [G.1 q (wf.lt hx) (fun y => by rw [y, hP] at hx; exact (hi.2 _ _ (Option.some.inj hx).symm).1 rfl) (fun y => by rw [y, hL] at hx; exact (hi.2 _ _ (Option.some.inj hx).symm).2.1 rfl) (fun y => by rw [y, hE] at hx; exact hi.1 _ _ (Option.some.inj hx).symm rfl)]; exact hx
theorem xOutL.n {h h' : ax_H} {P tx n sc sa L e : Nat} {β : Nat → Nat} {κ' : pK} {R : ax_H → Prop} {w : Option Value} (z : xOutL h P tx n sc sa β κ' L e R (.inl w) h') : w = none ∧ xPs h' P tx n sc sa β κ' ∧ xK n β κ' ∧ R h' ∧ ((∀ q, q < h.2 → q ≠ P → q ≠ L → q ≠ e → h'.1 q = h.1 q) ∧ h.2 ≤ h'.2 ∧ ax_wf h') := by
  obtain ⟨s, ⟨e, a, c, r⟩ | ⟨-, q, e, -⟩⟩ := z
  · cases e; exact ⟨rfl, a, c, r, s⟩
  · cases e
theorem xOutL.x {h h' : ax_H} {P tx n sc sa L e : Nat} {β : Nat → Nat} {κ' : pK} {R : ax_H → Prop} {q : Nat} (z : xOutL h P tx n sc sa β κ' L e R (.inr q) h') : ¬ κ'.2.2.2.2.1 = 0 ∧ xFl h' q κ' ∧ ((∀ q, q < h.2 → q ≠ P → q ≠ L → q ≠ e → h'.1 q = h.1 q) ∧ h.2 ≤ h'.2 ∧ ax_wf h') := by
  obtain ⟨s, ⟨e, -⟩ | ⟨c, q', e, f⟩⟩ := z
  · cases e
  · cases e; exact ⟨c, f, s⟩
/-- the lists' facts hold while the parser's object alone changes -/
theorem xTq.P {h h' : ax_H} {z Lp Lv Lo La : Nat} {f g : pR} {N V A O : Nat} {ep ev eo ea : Nat} {xp xv xo xa nm ln : Nat → Nat} {lt : Nat → Nat → Nat} (T : xTq h z Lp Lv Lo La f g N V A O ep ev eo ea xp xv xo xa nm ln lt) (wf : ax_wf h) {P : Nat} {fs : List Value} (hP : h.1 P = some (.inr (9, fs))) (g9 : ∀ q, q < h.2 → q ≠ P → h'.1 q = h.1 q) : xTq h' z Lp Lv Lo La f g N V A O ep ev eo ea xp xv xo xa nm ln lt := by
  have kp : xKp h h' := xKp.one wf hP (by decide) g9
  have st : ∀ {L e n C : Nat} {x : Nat → Nat}, xLi h L e n x C → 12 ≤ C ∧ C ≤ 15 → xLi h' L e n x C := fun {L e n C x} y hC => by
    obtain ⟨l1, hL⟩ := y.o
    obtain ⟨a1, hE⟩ := y.e
    exact y.fr (g9 L (wf.lt hL) (fun u => by rw [u, hP] at hL; cases hL)) (g9 e (wf.lt hE) (fun u => by rw [u, hP] at hE; cases hE)) (fun q fs hq => kp q _ hq (xIm_o hC))
  exact ⟨st T.p (by decide), st T.v (by decide), st T.o (by decide), st T.a (by decide), T.n.kp kp, T.t.kp kp, T.d⟩
/-- how the reading of a line ends -/
def xOutT (h : ax_H) (z P tx n sc sa : Nat) (β : Nat → Nat) (κ' : pK) (R : ax_H → Prop) : ax_PQ := fun o h' => xFm z h h' ∧ ((o = .inl none ∧ xPs h' P tx n sc sa β κ' ∧ xK n β κ' ∧ R h') ∨ (¬ κ'.2.2.2.2.1 = 0 ∧ ∃ q, o = .inr q ∧ xFl h' q κ'))
theorem sHash_cg {t t' : Nat → Nat} : ∀ {n : Nat}, (∀ i, i < n → t i = t' i) → sHash t n = sHash t' n
  | 0, _ => rfl
  | n + 1, h => by
    show nI 31 * sHash t n + nI (t n) = nI 31 * sHash t' n + nI (t' n)
    rw [sHash_cg (n := n) (fun i hi => h i (by omega)), h n (by omega)]
theorem pWord_h {b : pR} {β : Nat → Nat} (hβ : xBy b β) {κ : pK} (hx : xLex β κ) (h0 : κ.2.2.2.2.1 = 0) {l : List Int32} {s : Nat → Nat} {m : Nat} (hm : l.length = m) (hm2 : 2 ≤ m) (hs : ∀ i, i < m → nI (s i) = l.getD i 0 ∧ s i < 256) (h : pWord b κ l = true) : sHash (xLet β κ) (xLen κ) = sHash s m := by
  rw [← xEq_word hβ hx h0 hm hm2 hs, Bool.and_eq_true, decide_eq_true_iff, lEq_i] at h
  rw [h.1]
  exact sHash_cg (fun i hi => h.2 i (by omega))
theorem pWord_2 {b : pR} {κ : pK} {l : List Int32} (h : pWord b κ l = true) : κ.2.1 = 2 := by
  unfold pWord at h
  split at h
  · split at h
    · assumption
    · cases h
  · cases h
theorem pWh_proposal {b : pR} {β : Nat → Nat} (hβ : xBy b β) {κ : pK} (hx : xLex β κ) (h0 : κ.2.2.2.2.1 = 0) (h : pWord b κ (sL "proposal") = true) : sHash (xLet β κ) (xLen κ) = -992843022 := (pWord_h hβ hx h0 (s := fun i => [112, 114, 111, 112, 111, 115, 97, 108].getD i 0) (m := 8) rfl (by decide) (by decide) h).trans (by decide +kernel)
theorem pWh_visit {b : pR} {β : Nat → Nat} (hβ : xBy b β) {κ : pK} (hx : xLex β κ) (h0 : κ.2.2.2.2.1 = 0) (h : pWord b κ (sL "visit") = true) : sHash (xLet β κ) (xLen κ) = 112217419 := (pWord_h hβ hx h0 (s := fun i => [118, 105, 115, 105, 116].getD i 0) (m := 5) rfl (by decide) (by decide) h).trans (by decide +kernel)
theorem pWh_alert {b : pR} {β : Nat → Nat} (hβ : xBy b β) {κ : pK} (hx : xLex β κ) (h0 : κ.2.2.2.2.1 = 0) (h : pWord b κ (sL "alert") = true) : sHash (xLet β κ) (xLen κ) = 92899676 := (pWord_h hβ hx h0 (s := fun i => [97, 108, 101, 114, 116].getD i 0) (m := 5) rfl (by decide) (by decide) h).trans (by decide +kernel)
theorem pWh_outage {b : pR} {β : Nat → Nat} (hβ : xBy b β) {κ : pK} (hx : xLex β κ) (h0 : κ.2.2.2.2.1 = 0) (h : pWord b κ (sL "outage") = true) : sHash (xLet β κ) (xLen κ) = -1005527311 := (pWord_h hβ hx h0 (s := fun i => [111, 117, 116, 97, 103, 101].getD i 0) (m := 6) rfl (by decide) (by decide) h).trans (by decide +kernel)
theorem ct_xtakesH {Ω : ax_O} (hA : ax_Amb Ω) {h : ax_H} (wf : ax_wf h) (hz : Ω.2.1.heap.size ≤ h.2) {z : Nat} (hz9 : z ≤ h.2) {P tx n sc sa : Nat} {tb b : Nat → Int32} {β : Nat → Nat} (hbP : Ω.2.1.heap.size ≤ P) (hEn : xEn Ω h tx n tb b β) {κ : pK} (hP : xPs h P tx n sc sa β κ) (hK : xK n β κ) {w m : Nat} {s : Nat → Nat} (hW : sStr h w m s) (hm : m < 1000) {B : Bool} (hB : (decide (xLen κ = m) && lEq (xLet β κ) s (xLen κ)) = B) {k1 : pK} (e1 : k1 = if B = true then pNx b n κ else κ)  : ax_MetP Ω yX11_takes 9 4 94 [.ref P, .ref w] h (fun o h' => xOut h P tx n sc sa β k1 (some (.int (bI B))) o h' ∧ (B = true → xPh z h' P tx n sc sa k1)) := by
  refine ax_metP q1041 q145 (by decide +kernel) (by decide) hA (Nat.le_of_ble_eq_true rfl) (fun Γ G E => ?_)
  obtain ⟨nm, tk, hPo, hTk⟩ := id hP
  have hlP := wf.lt hPo
  have hβ := hEn.2.2.2.1
  have hlx := xLen_l hK.2.2
  show ax_W Ω Γ 4 94 h 0 [some (.ref P), some (.ref w), none] []
  refine ax_aload_n (pc := 0) G dX11_takes_0 rfl rfl ?_
  refine ax_getf (pc := 1) (v := .ref tk) G flX11_11_9 dX11_takes_1 (hPo) rfl ?_
  refine ax_aload_n (pc := 4) G dX11_takes_4 rfl rfl ?_
  refine ax_cV1 (pc := 5) (kb := 4) (nb := 94) G (ct_seqS hA (hTk.1) (hW) (by omega) (by first | omega | decide)) lVX11_97_19 dX11_takes_5 (hTk.1.o.choose_spec) rfl (by decide) (Nat.le_of_ble_eq_true rfl) rfl ?_
  refine ax_top (show Value.int (bI (decide (xLen κ = m) && lEq (xLet β κ) s (xLen κ))) = .int (bI B) from congrArg (fun z => Value.int (bI z)) hB) ?_
  refine ax_istore_n (pc := 8) G dX11_takes_8 rfl (Nat.le_of_ble_eq_true rfl) rfl ?_
  refine ax_iload_n (pc := 9) G dX11_takes_9 rfl rfl ?_
  refine ax_if_eq (pc := 10) (tgt := 17) G dX11_takes_10 rfl (fun c10 => ?_) (fun c10 => ?_)
  · have c10b := bI_f c10
    refine ax_iload_n (pc := 17) G dX11_takes_17 rfl rfl ?_
    have hk9 : k1 = κ := by rw [e1, if_neg (by rw [c10b]; decide)]
    exact ax_iretP (pc := 18) G E rfl (nz_bI _) dX11_takes_18 ⟨⟨(xSt.rfl' wf), Or.inl ⟨rfl, by rw [hk9]; exact hP, by rw [hk9]; exact hK⟩⟩, fun z9 => absurd z9 (by rw [c10b]; decide)⟩
  · have c10b := bI_t c10
    refine ax_aload_n (pc := 13) G dX11_takes_13 rfl rfl ?_
    obtain ⟨k318, e318⟩ : ∃ a : pK, a = pNx b n κ := ⟨_, rfl⟩
    refine ax_pV (pc := 14) (kb := 0) (nb := 0) G (ct_xadvH (z := z) hA (by omega) wf (by omega) hbP hEn hP hK  e318) lVX11_103_9 dX11_takes_14 (hPo) rfl (by decide) (Nat.le_of_ble_eq_true rfl) rfl (fun v9 h318 q9 => ?_) (fun x9 h9x q9 => ?_)
    rotate_left
    exact absurd (hK.nx hβ).1 (by have z9 := q9.1.x.1; rw [e318] at z9; exact z9)
    have H9 := q9.2
    obtain ⟨rfl, p318, c318, s318⟩ := q9.1.n
    obtain ⟨nm318, tk318, o318, t318⟩ := id p318
    obtain ⟨f318, z318, w318⟩ := id s318
    have n318 := hEn.kp (xKp.one wf (hPo) (by decide) f318)
    have x318 := xLen_l c318.2.2
    show ax_W Ω Γ _ _ (h318) _ _ (_)
    refine ax_iload_n (pc := 17) G dX11_takes_17 rfl rfl ?_
    have hk9 : k1 = k318 := by rw [e1, if_pos c10b, e318]
    exact ax_iretP (pc := 18) G E rfl (nz_bI _) dX11_takes_18 ⟨⟨((xSt.rfl' wf).trans s318), Or.inl ⟨rfl, by rw [hk9]; exact p318, by rw [hk9]; exact c318⟩⟩, fun _ => by rw [hk9]; exact H9⟩

