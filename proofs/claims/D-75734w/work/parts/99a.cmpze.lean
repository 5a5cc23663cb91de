/-! THE COMPONENT: a text, what is used -/
theorem rG_c {α : Type} {b : pR} {n : Nat} {κ : pK} {l : List Int32} {lo hi : Int32} (h : ¬ κ.2.2.2.2.1 = 0) (F : pK → Int32 → α) : rG b n κ l lo hi F = F κ lo := by rw [rG, pGauge_c h]
theorem rLoop_e {b : pR} {n q : Nat} {ψ : rS} (h : ¬ pSg ψ.1 (nI 59) = true) : rLoop b n q ψ = ψ := by
  cases q with
  | zero => rfl
  | succ q => rw [rLoop_s, if_neg h]
theorem rLoop_c {b : pR} {n q : Nat} {ψ : rS} (h : ¬ ψ.1.2.2.2.2.1 = 0) : rLoop b n q ψ = ψ := rLoop_e (fun z => h (pSg_i z).1)
theorem rEnd_c {ψ : rS} (h : ¬ ψ.1.2.2.2.2.1 = 0) : (rEnd ψ).1 = ψ.1 := by
  unfold rEnd
  dsimp only
  rw [if_neg h]
  split
  · rw [pFl, if_neg h]
  · rfl
/-- what's told of an entry outside a State's block -/
theorem sIs.out {h : ax_H} {a : Nat} {σ : cS} (hS : sIs h a σ) {q : Nat} {e : ax_E} (hq : h.1 q = some e) (h1 : ∀ fs, e ≠ .inr (1, fs)) (h6 : ∀ fs, e ≠ .inr (6, fs)) (hi : ∀ x, e ≠ .inl (.int, x)) : q < a ∨ a + 18 < q ∨ (a < q ∧ q < a + 4) := by
  have h9 : (sH h a σ).1 q = some e := by rw [show sH h a σ = h from hS]; exact hq
  by_cases c0 : q = a
  · rw [c0, sH_obj] at h9; exact absurd (Option.some.inj h9).symm (h1 _)
  · by_cases c1 : a + 4 ≤ q ∧ q ≤ a + 15
    · obtain ⟨k, hk⟩ : ∃ k, q = a + k := ⟨q - a, by omega⟩
      rw [hk, sH_arr (by omega) (by omega)] at h9; exact absurd (Option.some.inj h9).symm (hi _)
    · by_cases c2 : a + 16 ≤ q ∧ q ≤ a + 18
      · obtain ⟨k, hk⟩ : ∃ k, q = a + k := ⟨q - a, by omega⟩
        rw [hk, sH_pl (by omega) (by omega)] at h9; exact absurd (Option.some.inj h9).symm (h6 _)
      · omega
theorem xIn_i {x : vp_A} : xIn (.inl (.int, x)) := ⟨fun ty a z => (by cases z; exact fun y => (by cases y)), fun _ _ z => (by cases z)⟩
theorem xIn_o {ci : Nat} {fs : List Value} (h : ci ≠ 9 ∧ ci ≠ 16 ∧ ci ≠ 19) : xIn (.inr (ci, fs)) := ⟨fun _ _ z => (by cases z), fun _ _ z => (by cases z; exact h)⟩
theorem sIs.fm {h h' : ax_H} {a : Nat} {σ : cS} (hS : sIs h a σ) (m : ∀ q e, h.1 q = some e → xIn e → h'.1 q = some e) : sIs h' a σ := by
  have e : ∀ q, h.1 q = (sH h a σ).1 q := fun q => by rw [show sH h a σ = h from hS]
  exact sH_self (m _ _ ((e _).trans sH_obj) (xIn_o (by decide))) (m _ _ ((e _).trans (sH_arr (k := 4) (by omega) (by omega))) xIn_i) (m _ _ ((e _).trans (sH_arr (k := 5) (by omega) (by omega))) xIn_i) (m _ _ ((e _).trans (sH_arr (k := 6) (by omega) (by omega))) xIn_i) (m _ _ ((e _).trans (sH_arr (k := 7) (by omega) (by omega))) xIn_i) (m _ _ ((e _).trans (sH_arr (k := 8) (by omega) (by omega))) xIn_i) (m _ _ ((e _).trans (sH_arr (k := 9) (by omega) (by omega))) xIn_i) (m _ _ ((e _).trans (sH_arr (k := 10) (by omega) (by omega))) xIn_i) (m _ _ ((e _).trans (sH_arr (k := 11) (by omega) (by omega))) xIn_i) (m _ _ ((e _).trans (sH_arr (k := 12) (by omega) (by omega))) xIn_i) (m _ _ ((e _).trans (sH_arr (k := 13) (by omega) (by omega))) xIn_i) (m _ _ ((e _).trans (sH_arr (k := 14) (by omega) (by omega))) xIn_i) (m _ _ ((e _).trans (sH_arr (k := 15) (by omega) (by omega))) xIn_i) (m _ _ ((e _).trans (sH_pl (k := 16) (by omega) (by omega))) (xIn_o (by decide))) (m _ _ ((e _).trans (sH_pl (k := 17) (by omega) (by omega))) (xIn_o (by decide))) (m _ _ ((e _).trans (sH_pl (k := 18) (by omega) (by omega))) (xIn_o (by decide)))
theorem xLo.trans {f g f1 g1 f2 g2 : pR} (a : xLo f g f1 g1) (c : xLo f1 g1 f2 g2) : xLo f g f2 g2 := ⟨fun j hj => (c.1 j hj).trans (a.1 j hj), c.2.trans a.2⟩
theorem xOutT.n {h h' : ax_H} {z P tx n sc sa : Nat} {β : Nat → Nat} {κ' : pK} {R : ax_H → Prop} {w : Option Value} (q : xOutT h z P tx n sc sa β κ' R (.inl w) h') : w = none ∧ xPs h' P tx n sc sa β κ' ∧ xK n β κ' ∧ R h' ∧ xFm z h h' := by
  obtain ⟨s, ⟨e, a, c, r⟩ | ⟨-, q, e, -⟩⟩ := q
  · cases e; exact ⟨rfl, a, c, r, s⟩
  · cases e
theorem xOutT.x {h h' : ax_H} {z P tx n sc sa : Nat} {β : Nat → Nat} {κ' : pK} {R : ax_H → Prop} {q : Nat} (y : xOutT h z P tx n sc sa β κ' R (.inr q) h') : ¬ κ'.2.2.2.2.1 = 0 ∧ xFl h' q κ' ∧ xFm z h h' := by
  obtain ⟨s, ⟨e, -⟩ | ⟨c, q', e, f⟩⟩ := y
  · cases e
  · cases e; exact ⟨c, f, s⟩
/-- how the reading of a text ends, all but the State -/
def xOutP (h : ax_H) (z : Nat) (κ' : pK) (v : Option Value) (R : ax_H → Prop) : ax_PQ := fun o h' => ((∀ q, q < z → h'.1 q = h.1 q) ∧ h.2 ≤ h'.2 ∧ ax_wf h') ∧ ((o = .inl v ∧ κ'.2.2.2.2.1 = 0 ∧ R h') ∨ (¬ κ'.2.2.2.2.1 = 0 ∧ ∃ q, o = .inr q ∧ xFl h' q κ'))
theorem sIs.fr {h h' : ax_H} {a : Nat} {σ : cS} (hS : sIs h a σ) (g : ∀ q, (q = a ∨ (a + 4 ≤ q ∧ q ≤ a + 18)) → h'.1 q = h.1 q) : sIs h' a σ := by
  have e : ∀ q, h.1 q = (sH h a σ).1 q := fun q => by rw [show sH h a σ = h from hS]
  exact sH_self ((g _ (by omega)).trans ((e _).trans sH_obj)) ((g _ (by omega)).trans ((e _).trans (sH_arr (k := 4) (by omega) (by omega)))) ((g _ (by omega)).trans ((e _).trans (sH_arr (k := 5) (by omega) (by omega)))) ((g _ (by omega)).trans ((e _).trans (sH_arr (k := 6) (by omega) (by omega)))) ((g _ (by omega)).trans ((e _).trans (sH_arr (k := 7) (by omega) (by omega)))) ((g _ (by omega)).trans ((e _).trans (sH_arr (k := 8) (by omega) (by omega)))) ((g _ (by omega)).trans ((e _).trans (sH_arr (k := 9) (by omega) (by omega)))) ((g _ (by omega)).trans ((e _).trans (sH_arr (k := 10) (by omega) (by omega)))) ((g _ (by omega)).trans ((e _).trans (sH_arr (k := 11) (by omega) (by omega)))) ((g _ (by omega)).trans ((e _).trans (sH_arr (k := 12) (by omega) (by omega)))) ((g _ (by omega)).trans ((e _).trans (sH_arr (k := 13) (by omega) (by omega)))) ((g _ (by omega)).trans ((e _).trans (sH_arr (k := 14) (by omega) (by omega)))) ((g _ (by omega)).trans ((e _).trans (sH_arr (k := 15) (by omega) (by omega)))) ((g _ (by omega)).trans ((e _).trans (sH_pl (k := 16) (by omega) (by omega)))) ((g _ (by omega)).trans ((e _).trans (sH_pl (k := 17) (by omega) (by omega)))) ((g _ (by omega)).trans ((e _).trans (sH_pl (k := 18) (by omega) (by omega))))
/-- what lists, things and strings are made of -/
def xKd (e : ax_E) : Prop := (∀ ci fs, e = .inr (ci, fs) → ci = 16 ∨ (12 ≤ ci ∧ ci ≤ 15) ∨ ci = 19) ∧ ∀ ty a, e = .inl (ty, a) → ty ≠ .int
theorem xKd_o {ci : Nat} {fs : List Value} (h : ci = 16 ∨ (12 ≤ ci ∧ ci ≤ 15) ∨ ci = 19) : xKd (.inr (ci, fs)) := ⟨fun _ _ z => (by cases z; exact h), fun _ _ z => (by cases z)⟩
theorem xKd_a {x : vp_A} : xKd (.inl (.object "java/lang/Object", x)) := ⟨fun _ _ z => (by cases z), fun _ _ z => (by cases z; exact fun y => (by cases y))⟩
theorem xKd_m {e : ax_E} (h : xIm e) : xKd e := ⟨fun ci fs y => by have := h.2 ci fs y; omega, fun ty a y z => by have := h.1 ty a.1 a.2 y; rw [this] at z; cases z⟩
theorem xKd.out {h : ax_H} {a : Nat} {σ : cS} (hS : sIs h a σ) {q : Nat} {e : ax_E} (hq : h.1 q = some e) (k : xKd e) : q < a ∨ a + 18 < q ∨ (a < q ∧ q < a + 4) :=
  hS.out hq (fun fs y => by have := k.1 _ _ y; omega) (fun fs y => by have := k.1 _ _ y; omega) (fun x y => k.2 _ _ y rfl)
theorem xTh.kp {h h' : ax_H} {z Lp Lv Lo La : Nat} {f g : pR} {N V A O : Nat} (T : xTh h z Lp Lv Lo La f g N V A O) (k : ∀ q e, h.1 q = some e → xKd e → h'.1 q = some e) : xTh h' z Lp Lv Lo La f g N V A O := by
  obtain ⟨ep, ev, eo, ea, xp, xv, xo, xa, nm, ln, lt, T⟩ := T
  have kp : xKp h h' := fun q e he hi => k q e he (xKd_m hi)
  have st : ∀ {L e n C : Nat} {x : Nat → Nat}, xLi h L e n x C → 12 ≤ C ∧ C ≤ 15 → xLi h' L e n x C := fun {L e n C x} y hC => by
    obtain ⟨l1, hL⟩ := y.o
    obtain ⟨a1, hE⟩ := y.e
    exact y.fr ((k _ _ hL (xKd_o (by decide))).trans hL.symm) ((k _ _ hE xKd_a).trans hE.symm) (fun q fs hq => k q _ hq (xKd_o (Or.inr (Or.inl hC))))
  exact ⟨ep, ev, eo, ea, xp, xv, xo, xa, nm, ln, lt, st T.p (by decide), st T.v (by decide), st T.o (by decide), st T.a (by decide), T.n.kp kp, T.t.kp kp, T.d⟩
theorem xTh.first {h h' : ax_H} {z Lp Lv Lo La : Nat} {f g f' g' : pR} (T : xTh h z Lp Lv Lo La f g 0 0 0 0) (k : ∀ q e, h.1 q = some e → xKd e → h'.1 q = some e) : xTh h' z Lp Lv Lo La f' g' 0 0 0 0 := by
  obtain ⟨ep, ev, eo, ea, xp, xv, xo, xa, nm, ln, lt, T⟩ := T.kp k
  exact ⟨ep, ev, eo, ea, xp, xv, xo, xa, nm, ln, lt, T.p, T.v, T.o, T.a, fun _ hk => absurd hk (Nat.not_lt_zero _), ⟨fun _ hk => absurd hk (Nat.not_lt_zero _), fun _ hk => absurd hk (Nat.not_lt_zero _), fun _ hk => absurd hk (Nat.not_lt_zero _)⟩, T.d⟩
