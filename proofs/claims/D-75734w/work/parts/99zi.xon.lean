/-! A WEAKER HEAP: things, strings, short texts are told only where they never change -/
def xOn (h g : ax_H) (w : Nat → Nat) : Prop := g.2 = h.2 ∧ (∀ q e, h.1 q = some e → (¬ xBad e ∨ w q = 1) → g.1 q = some e) ∧ ∀ q e, g.1 q = some e → h.1 q = some e ∧ (xBad e → w q = 1)
theorem xOn_ex (h : ax_H) (w : Nat → Nat) : ∃ g, xOn h g w := by
  have : ∀ q, ∃ o : Option ax_E, (∀ e, h.1 q = some e → (¬ xBad e ∨ w q = 1) → o = some e) ∧ ∀ e, o = some e → h.1 q = some e ∧ (xBad e → w q = 1) := fun q => by
    cases c : h.1 q with
    | none => exact ⟨none, fun e z => (by cases z), fun e z => (by cases z)⟩
    | some e =>
      by_cases d : ¬ xBad e ∨ w q = 1
      · exact ⟨some e, fun e' z _ => z, fun e' z => (by cases z; exact ⟨rfl, fun b => d.resolve_left (fun n => n b)⟩)⟩
      · exact ⟨none, fun e' z d' => (by cases z; exact absurd d' d), fun e z => (by cases z)⟩
  obtain ⟨f, hf⟩ := Classical.axiomOfChoice this
  exact ⟨(f, h.2), rfl, fun q e z d => (hf q).1 e z d, fun q e z => (hf q).2 e z⟩
/-- a heap that says more may be called with the contract of a heap that says less -/
theorem ax_MetPW.le {Ω : ax_O} {y : MethodName} {d mc ms : Nat} {As : List Value} {h h0 : ax_H} {Q : ax_PQ} (hl : ax_le h h0) (M : ax_MetPW Ω y d mc ms As h0 Q) : ax_MetPW Ω y d mc ms As h Q := by
  obtain ⟨cc, nL, ret, hh, a, b, c, M⟩ := M
  refine ⟨cc, nL, ret, hh, a, b, c, fun p e a1 a2 a3 s m args below b1 b2 b3 b4 => ?_⟩
  exact M p e a1 a2 a3 s m args below b1 b2 ⟨b3.1, b3.2.1, ax_R_le hl b3.2.2⟩ b4
section XON
variable {Ω : ax_O} {h g : ax_H} {w : Nat → Nat}
theorem xOn.at (o : xOn h g w) {q : Nat} {e : ax_E} (x : h.1 q = some e) (b : ¬ xBad e) : g.1 q = some e := o.2.1 q e x (Or.inl b)
theorem xOn.eq (o : xOn h g w) {q : Nat} {e : ax_E} (x : h.1 q = some e) (b : ¬ xBad e) : g.1 q = h.1 q := (o.at x b).trans x.symm
theorem xOn.io (o : xOn h g w) : xIo g w = xIo h w := by
  refine Prod.ext (funext fun q => ?_) o.1
  show (if w q = 1 then g.1 q else none) = (if w q = 1 then h.1 q else none)
  by_cases c : w q = 1
  · rw [if_pos c, if_pos c]
    cases d : h.1 q with
    | none =>
      cases d2 : g.1 q with
      | none => rfl
      | some e => have := (o.2.2 q e d2).1; rw [d] at this; cases this
    | some e => exact o.2.1 q e d (Or.inr c)
  · rw [if_neg c, if_neg c]
theorem xOn.wf (o : xOn h g w) (wf : ax_wf h) : ax_wf g := fun q hq => by
  cases d : g.1 q with
  | none => rfl
  | some e => have := (o.2.2 q e d).1; rw [wf q (by have := o.1; omega)] at this; cases this
theorem xOn.cl (o : xOn h g w) : ∀ q e, g.1 q = some e → xBad e → w q = 1 := fun q e x b => (o.2.2 q e x).2 b
theorem xOn.le (o : xOn h g w) : ax_le h g := ⟨o.1.symm, fun q e x => ⟨e, (o.2.2 q e x).1, Or.inl rfl⟩⟩
theorem nBad_o {ci : Nat} {fs : List Value} (c : ¬ ((12 ≤ ci ∧ ci ≤ 15) ∨ ci = 19)) : ¬ xBad (.inr (ci, fs)) := fun b => by
  rcases b with ⟨_, _, z, y⟩ | ⟨_, _, z, _⟩
  · cases z; exact c y
  · cases z
theorem nBad_a {ty : FieldType} {x : vp_A} (c : ty ≠ .byte) : ¬ xBad (.inl (ty, x)) := fun b => by
  rcases b with ⟨_, _, z, _⟩ | ⟨_, _, z, _⟩
  · cases z
  · cases z; exact c rfl
theorem nBad_b {n : Nat} {f : (Nat → Int32) ⊕ ((Nat → Int64) ⊕ ((Nat → UInt32) ⊕ ((Nat → UInt64) ⊕ (Nat → Option Nat))))} (c : 9 ≤ n) : ¬ xBad (.inl (.byte, n, f)) := fun b => by
  rcases b with ⟨_, _, z, _⟩ | ⟨_, _, z, y⟩
  · cases z
  · cases z; omega
theorem sIs.on (o : xOn h g w) {b : Nat} {σ : cS} (x : sIs h b σ) : sIs g b σ := x.keep fun q hq => by
  by_cases c : q = b
  · rw [c]; exact o.eq x.obj (nBad_o (by decide))
  · obtain ⟨k, rfl⟩ : ∃ k, q = b + k := ⟨q - b, by omega⟩
    by_cases d : k ≤ 15
    · exact o.eq (x.arr (k := k) (by omega) d) (nBad_a (by decide))
    · exact o.eq (x.pl (k := k) (by omega) (by omega)) (nBad_o (by decide))
theorem xBo.on (o : xOn h g w) {b e : Nat} (x : xBo Ω h w b e) : xBo Ω g w b e := ⟨x.1, x.2.1, x.2.2.1, x.2.2.2.1, by rw [o.1]; exact x.2.2.2.2.1, x.2.2.2.2.2⟩
theorem xBk.on (o : xOn h g w) {b : Nat} {pl s : pR} {N V O A : Nat} {D : cD} {π : Nat → cP} {pol : Nat} (B : xBk Ω h w b pl s N V O A D π pol) : xBk Ω g w b pl s N V O A D π pol := by
  obtain ⟨x1, x2, ⟨l1, l2, l3, l4, l5, l6⟩, x4, x5, x6, x7⟩ := B
  rw [← o.io] at x2 l5 l6 x4 x5
  exact ⟨x1.on o, x2, ⟨o.at l1 (nBad_o (by decide)), o.at l2 (nBad_a (by decide)), l3, l4, l5, l6⟩, x4, x5, x6.on o, x7⟩
theorem xTr.on (o : xOn h g w) {t : Nat} (T : xTr Ω h w t) : xTr Ω g w t := by
  obtain ⟨s, π, scv, rl, e, n, cap, m9, f, x1, x2, x3, x4, x5, x6, x7⟩ := T
  rw [← o.io] at x5
  exact ⟨s, π, scv, rl, e, n, cap, m9, f, x1.on o, o.at x2 (nBad_o (by decide)), o.at x3 (nBad_a (by decide)), x4, x5, x6.on o, x7⟩
theorem xGo.on (o : xOn h g w) {a tr : Nat} {pl : pR} {N V O : Nat} {f : pR} {k b : Nat} (x : xGo Ω h w a tr pl N V O f k b) : xGo Ω g w a tr pl N V O f k b := by
  obtain ⟨r, A, ⟨D, π, pol, B⟩, x2⟩ := x
  exact ⟨r, A, ⟨D, π, pol, B.on o⟩, x2⟩
theorem xG.on (o : xOn h g w) {X bf tr hi sv lb a : Nat} {stv : Value} {pl : pR} {N V O u : Nat} {μ : md_S} (J : xG Ω h w X bf tr hi sv lb stv a pl N V O μ u) : xG Ω g w X bf tr hi sv lb stv a pl N V O μ u := by
  obtain ⟨⟨g1, g2, g3⟩, ⟨n, tb, b1, b2, b3, b4⟩, ⟨e, n2, t, ⟨m, ml, al, s1, s2, s3, s4⟩, c2⟩, ⟨Q, e0, hd, f, Bk, fs, ⟨x1, x2, x3⟩, y, z, z4, z5, ⟨v1, v2⟩, v4⟩, gt, wf, hz⟩ := J
  refine ⟨⟨o.at g1 (nBad_o (by decide)), g2, g3⟩, ⟨n, tb, b1, b2, o.at b3 (nBad_b (by decide)), b4⟩, ⟨e, n2, t, ⟨m, ml, al, o.at s1 (nBad_o (by decide)), o.at s2 (nBad_b (by omega)), s3, s4⟩, c2⟩, ⟨Q, e0, hd, f, Bk, fs, ⟨o.at x1 (nBad_o (by decide)), o.at x2 (nBad_o (by decide)), o.at x3 (nBad_a (by decide))⟩, y, z, fun k hk => ⟨(z4 k hk).1, (z4 k hk).2.on o⟩, z5, ⟨o.at v1 (nBad_a (by decide)), v2⟩, fun j hj => ?_⟩, gt.on o, o.wf wf, by rw [o.1]; exact hz⟩
  rcases v4 j hj with c | ⟨b, c1, c2, c3, c4⟩
  · exact Or.inl c
  · exact Or.inr ⟨b, c1, c2, c3.on o, c4⟩
end XON
