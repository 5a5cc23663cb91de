/-! THE WHOLE COMPONENT: what is kept, and trials -/
theorem xOw.apart {w : Nat → Nat} {a b : Nat} (x : xOw w a) (y : xOw w b) (hne : a ≠ b) : a + 18 < b ∨ b + 18 < a := by
  refine Decidable.byContradiction fun z => ?_
  have z1 : b ≤ a + 18 ∧ a ≤ b + 18 := by omega
  rcases Nat.lt_or_gt_of_ne hne with c | c
  · by_cases d : b + 4 ≤ a + 18
    · have := x (b + 4) (by omega) d (by omega); have := y (b + 4) (by omega) (by omega) (by omega); omega
    · have := x b (by omega) (by omega) (by omega); have := y b (by omega) (by omega) (by omega); omega
  · by_cases d : a + 4 ≤ b + 18
    · have := y (a + 4) (by omega) d (by omega); have := x (a + 4) (by omega) (by omega) (by omega); omega
    · have := x a (by omega) (by omega) (by omega); have := y a (by omega) (by omega) (by omega); omega
theorem xOw.o2 {w : Nat → Nat} {b q : Nat} (o : xOw w b) (h1 : w q ≠ b + 10) (h2 : q ≠ b + 1) (h3 : q ≠ b + 3) : q < b ∨ b + 18 < q := by
  by_cases c : b ≤ q ∧ q ≤ b + 18
  · exact absurd (o q c.1 c.2 ⟨h2, h3⟩) h1
  · omega
theorem cSc.dcg {g : ax_H} {pl : pR} {P V O : Nat} {D D' : cD} (e1 : ∀ i, i < 7 → D'.1 i = D.1 i) (e2 : D'.2.1 = D.2.1) (e3 : ∀ j, j < 3 → D'.2.2.1 j = D.2.2.1 j ∧ D'.2.2.2.1 j = D.2.2.2.1 j ∧ D'.2.2.2.2 j = D.2.2.2.2 j) (x : cSc g pl P V O D) : cSc g pl P V O D' := by
  unfold cSc cLs at x ⊢
  rw [e1 0 (by decide), e1 1 (by decide), e1 2 (by decide), e1 3 (by decide), e1 4 (by decide), e1 5 (by decide), e1 6 (by decide), e2, (e3 0 (by decide)).1, (e3 0 (by decide)).2.1, (e3 0 (by decide)).2.2, (e3 1 (by decide)).1, (e3 1 (by decide)).2.1, (e3 1 (by decide)).2.2, (e3 2 (by decide)).1, (e3 2 (by decide)).2.1, (e3 2 (by decide)).2.2]
  exact x
/-- D with another list of alerts -/
def xDl (D : cD) (e9 cap9 : Nat) (m9 : Int32) (f9 : Nat → Option Nat) : cD := (fun i => if i = 7 then e9 else D.1 i, D.2.1, fun j => if j = 3 then f9 else D.2.2.1 j, fun j => if j = 3 then cap9 else D.2.2.2.1 j, fun j => if j = 3 then m9 else D.2.2.2.2 j)
theorem xDl.sc {g : ax_H} {pl : pR} {P V O : Nat} {D : cD} {e9 cap9 : Nat} {m9 : Int32} {f9 : Nat → Option Nat} (x : cSc g pl P V O D) : cSc g pl P V O (xDl D e9 cap9 m9 f9) :=
  x.dcg (fun i hi => if_neg (by omega)) rfl (fun j hj => ⟨if_neg (by omega), if_neg (by omega), if_neg (by omega)⟩)
theorem xDl.n0 {D : cD} {e9 cap9 : Nat} {m9 : Int32} {f9 : Nat → Option Nat} : (xDl D e9 cap9 m9 f9).1 0 = D.1 0 := by show (if (0 : Nat) = 7 then e9 else D.1 0) = D.1 0; exact if_neg (by decide)
theorem xDl.n7 {D : cD} {e9 cap9 : Nat} {m9 : Int32} {f9 : Nat → Option Nat} : (xDl D e9 cap9 m9 f9).1 7 = e9 := by show (if (7 : Nat) = 7 then e9 else D.1 7) = e9; exact if_pos rfl
theorem xDl.n8 {D : cD} {e9 cap9 : Nat} {m9 : Int32} {f9 : Nat → Option Nat} : (xDl D e9 cap9 m9 f9).1 8 = D.1 8 := by show (if (8 : Nat) = 7 then e9 else D.1 8) = D.1 8; exact if_neg (by decide)
/-- a State block made like another one, at n: its cells, its list; I1: what never changes stays -/
theorem xBk.like {Ω : ax_O} {h h' : ax_H} {w w' : Nat → Nat} {b n : Nat} {pl s : pR} {N V O A : Nat} {D : cD} {π π' : Nat → cP} {pol : Nat} (B : xBk Ω h w b pl s N V O A D π pol) (io : xSb (xIo h w) (xIo h' w')) {e9 cap9 : Nat} {m9 : Int32} {f9 : Nat → Option Nat}
    (I : sIs h' n (pF A s, π', .ref (D.1 0), D.1 8)) (l1 : h'.1 (n + 2) = some (.inr (16, [.int m9, .ref e9, .int (nI A)]))) (l2 : h'.1 e9 = some (.inl (.object "java/lang/Object", cap9, .inr (.inr (.inr (.inr f9)))))) (l3 : 0 < cap9 ∧ cap9 < 100 ∧ A ≤ cap9) (l4 : ∀ k, k < A → f9 k = some (D.2.1 3 k))
    (l5 : ∀ i, i < cap9 → ∀ q, f9 i = some q → ∃ fs, (xIo h w).1 q = some (.inr (14, fs))) (o : xBo Ω h' w' n e9) : xBk Ω h' w' n pl s N V O A (xDl D e9 cap9 m9 f9) π' pol := by
  obtain ⟨nm, ln, lt, g0, x5⟩ := B.n
  refine ⟨by rw [xDl.n0, xDl.n8]; exact I, (xDl.sc B.sc).sb io, ⟨?_, ?_, l3, l4, fun i hi q hq => ?_, fun k hk => io _ _ (B.l.2.2.2.2.2 k hk)⟩, ⟨by rw [xDl.n8]; exact io _ _ B.r.1, B.r.2⟩, ⟨nm, ln, lt, g0, x5.sb io⟩, by rw [xDl.n7]; exact o, B.wp, B.bp, B.rw⟩
  · rw [xDl.n7]; exact l1
  · rw [xDl.n7]; exact l2
  · obtain ⟨fs, e⟩ := l5 i hi q hq
    exact ⟨fs, io _ _ e⟩
/-- owners where a block was made at the end -/
def xNw (h : ax_H) (w : Nat → Nat) : Nat → Nat := fun q => if q < h.2 then w q else if q = h.2 + 1 then 1 else h.2 + 10
theorem xNw.o {h : ax_H} {w : Nat → Nat} {q : Nat} (hq : q < h.2) : xNw h w q = w q := if_pos hq
theorem xNw.n {h : ax_H} {w : Nat → Nat} {q : Nat} (hq : h.2 ≤ q) (h1 : q ≠ h.2 + 1) : xNw h w q = h.2 + 10 := by unfold xNw; rw [if_neg (by omega), if_neg h1]
theorem xNw.n1 {h : ax_H} {w : Nat → Nat} : xNw h w (h.2 + 1) = 1 := by unfold xNw; rw [if_neg (by omega), if_pos rfl]
theorem xBk.copy {Ω : ax_O} {h h' : ax_H} {w : Nat → Nat} {b : Nat} {pl s : pR} {N V O A : Nat} {D : cD} {π π' : Nat → cP} {pol e9 : Nat} (B : xBk Ω h w b pl s N V O A D π pol) (hz : Ω.2.1.heap.size ≤ h.2) {S : Nat → Prop} (s1 : ¬ S 1) (wf : ax_wf h) (F : xFr S h h' w (xNw h w))
    (I : sIs h' h.2 (pF A s, π', .ref (D.1 0), D.1 8)) (L : sAl h' h.2 A e9 (D.2.1 3)) (he : h.2 ≤ e9) (ho : e9 = h.2 + 3 ∨ h.2 + 18 < e9) (hs : h.2 + 19 ≤ h'.2) : xBe Ω h' (xNw h w) h.2 pl s N V O A := by
  obtain ⟨m9, cap9, f9, l1, l2, l3, l4, l5, l6⟩ := L
  refine ⟨_, _, _, B.like (F.io wf s1) I l1 l2 ⟨l3.1, l3.2, l4⟩ l5 (fun i hi q hq => ?_) ⟨fun q q1 q2 q3 => xNw.n q1 q3.1, xNw.n he (by omega), by omega, hz, by omega, by omega, Or.inl (xNw.n (by omega) (by omega))⟩⟩
  obtain ⟨fs, -, -, k, hk, e⟩ := l6 i hi q hq
  subst e
  exact ⟨_, B.l.2.2.2.2.2 k hk⟩
/-- the model's rows with the present row kept -/
def mKeep (μ : md_S) (u : Nat) : md_S := md_si (md_sa μ 7 (pRem (μ.2 7) (μ.2 4) u)) 18 (nI (pU u))
theorem pPut_o {g f : pR} {q n i : Nat} (h : i < q ∨ q + n ≤ i) : pPut g f q n i = g i := by unfold pPut; rw [if_neg (by omega)]
theorem pPut_i {g f : pR} {q n i : Nat} (h : i < n) : pPut g f q n (q + i) = f i := by unfold pPut; rw [if_pos (by omega), Nat.add_sub_cancel_left]
theorem xGo.cg {Ω : ax_O} {h : ax_H} {w : Nat → Nat} {a tr : Nat} {pl : pR} {N V O : Nat} {f f' : pR} {k k' b : Nat} (x : xGo Ω h w a tr pl N V O f k b) (e : ∀ i, i < 627 → f' (627 * k' + i) = f (627 * k + i)) : xGo Ω h w a tr pl N V O f' k' b := by
  obtain ⟨r, A, x1, x2, x3, x4⟩ := x
  exact ⟨r, A, x1, x2, fun i hi => (e i hi).trans (x3 i hi), x4⟩
section XK
variable {Ω : ax_O} {h : ax_H} {w : Nat → Nat} {X bf tr hi sv lb a : Nat} {pl : pR} {N V O A u : Nat} {μ : md_S} {D : cD} {π : Nat → cP} {pol : Nat}
/-- a State is kept -/
theorem cj_keep (hA : ax_Amb Ω) (G : xG Ω h w X bf tr hi sv lb (.ref a) a pl N V O μ u) (B : xBk Ω h w a pl (μ.2 4) N V O A D π pol) (w1 : w (a + 1) = 1) (ht : tr ≠ a) :
    ax_MetP Ω yX9_keep 15 29 2726 [.ref hi, .ref a] h (ax_Nm fun v h' => v = none ∧ ∃ w', xFr (fun o => o = 2) h h' w w' ∧ xG Ω h' w' X bf tr hi sv lb (.ref a) a pl N V O (mKeep μ u) (pU u) ∧ xBk Ω h' w' a pl (μ.2 4) N V O A D π pol ∧ w' (a + 1) = 1) := by
  obtain ⟨⟨gx1, gx2, gx3⟩, gb, gl, ⟨Q, e, hd, f, Bk, fs, ⟨x1, x2, x3⟩, ⟨y1, y2, y3, y4, y5, y6⟩, ⟨z1, z2, z3⟩, z4, z5, ⟨v1, v2, v3⟩, v4⟩, gt, wf, hz⟩ := G
  have hbh := B.o.2.2.2.2.1
  have oQ : Q < a ∨ a + 18 < Q := B.o.1.o2 (by omega) (fun c => by rw [c] at y2; omega) (fun c => by rw [c] at y2; have := B.o.2.2.2.2.2.2; omega)
  have oe : e < a ∨ a + 18 < e := B.o.1.o2 (by omega) (fun c => by rw [c] at y3; omega) (fun c => by rw [c] at y3; have := B.o.2.2.2.2.2.2; omega)
  have he2 : D.1 7 ≠ e := fun c => by have := B.o.2.1; rw [c] at this; omega
  obtain ⟨l1, l2, l3, l4, l5, l6⟩ := B.l
  have hal : ∀ k, k < A → h.1 (D.2.1 3 k) = some (.inr (14, [.int (μ.2 4 (127 + 10 * k + 0)), .int (μ.2 4 (127 + 10 * k + 2)), .int (μ.2 4 (127 + 10 * k + 3)), .int (μ.2 4 (127 + 10 * k + 4)), .int (μ.2 4 (127 + 10 * k + 5)), .int (μ.2 4 (127 + 10 * k + 1)), .int (μ.2 4 (127 + 10 * k + 6))])) := fun k hk => (xIo.d (l6 k hk)).1
  -- what both ways have in common
  have fin : ∀ (h' : ax_H) (hd' : Nat) (f' : Nat → Option Nat) (Bk' : Nat → Nat), hd' < 17 → h'.1 Q = some (.inr (17, [.ref e, .int (nI hd'), .int (nI ((hd' + pU u) % 17))])) → h'.1 e = some (.inl (.object "java/lang/Object", 17, .inr (.inr (.inr (.inr f'))))) → (∃ π, sIs h' h.2 (pF A (μ.2 4), π, .ref (D.1 0), D.1 8)) → (∃ e9, sAl h' h.2 A e9 (D.2.1 3) ∧ h.2 ≤ e9 ∧ e9 < h'.2 ∧ (e9 = h.2 + 3 ∨ h.2 + 18 < e9)) → (∀ q, q < h.2 → q ≠ Q → q ≠ e → h'.1 q = h.1 q) → h.2 + 19 ≤ h'.2 → ax_wf h' →
      (∀ k, k < pU u → f' ((hd' + k) % 17) = some (Bk' k) ∧ ((Bk' k = h.2 ∧ ∀ i, i < 627 → pRem (μ.2 7) (μ.2 4) u (627 * k + i) = μ.2 4 i) ∨ ∃ k0, k0 < u ∧ Bk' k = Bk k0 ∧ ∀ i, i < 627 → pRem (μ.2 7) (μ.2 4) u (627 * k + i) = μ.2 7 (627 * k0 + i))) → (∀ j k, j < pU u → k < pU u → Bk' j = Bk' k → j = k) →
      ∃ w', xFr (fun o => o = 2) h h' w w' ∧ xG Ω h' w' X bf tr hi sv lb (.ref a) a pl N V O (mKeep μ u) (pU u) ∧ xBk Ω h' w' a pl (μ.2 4) N V O A D π pol ∧ w' (a + 1) = 1 := by
    intro h' hd' f' Bk' c1 c2 c3 ⟨π9, c4⟩ ⟨e9, c5, c6, c7, c8⟩ c9 c10 c11 c12 c13
    have F : xFr (fun o => o = 2) h h' w (xNw h w) := ⟨fun q q1 q2 => c9 q q1 (fun z => q2 (by rw [z]; exact y2)) (fun z => q2 (by rw [z]; exact y3)), fun q q1 => xNw.o q1, by omega, c11⟩
    have B' := B.fr wf F (by decide) (by omega)
    have N' := B.copy hz (by decide) wf F c4 c5 c6 c8 c10
    have hlx := wf.lt gx1
    obtain ⟨s9, π8, scv, rl, e8, n8, cap8, m8, f8, t1, t2, t3, t4, t5, t6, t7⟩ := id gt
    have htl := t6.2.2.2.2.1
    refine ⟨_, F, ⟨⟨(c9 _ hlx (fun z => by rw [z, x2] at gx1; cases gx1) (fun z => by rw [z, x3] at gx1; cases gx1)).trans gx1, (F.2.1 _ hlx).trans gx2, gx3⟩, ?_, ?_, ⟨Q, e, hd', f', Bk', fs, ⟨(c9 _ (wf.lt x1) (fun z => by rw [z, x2] at x1; cases x1) (fun z => by rw [z, x3] at x1; cases x1)).trans x1, c2, c3⟩, ⟨(F.2.1 _ (wf.lt x1)).trans y1, (F.2.1 _ (wf.lt x2)).trans y2, (F.2.1 _ (wf.lt x3)).trans y3, y4, y5, y6⟩, ⟨c1, by unfold pU; split <;> omega, rfl⟩, fun k hk => ?_, c13, ⟨(c9 _ (wf.lt v1) (fun z => by rw [z, x2] at v1; cases v1) (fun z => by rw [z, x3] at v1; simp at v1)).trans v1, (F.2.1 _ (wf.lt v1)).trans v2, v3⟩, fun j hj => ?_⟩, gt.fr wf F (by decide) (by omega), c11, by omega⟩, B', (xNw.o (by omega)).trans w1⟩
    · obtain ⟨n9, tb, b1, b2, b3, b4, b5⟩ := gb
      exact ⟨n9, tb, b1, b2, (c9 _ (wf.lt b3) (fun z => by rw [z, x2] at b3; cases b3) (fun z => by rw [z, x3] at b3; cases b3)).trans b3, (F.2.1 _ (wf.lt b3)).trans b4, b5⟩
    · obtain ⟨e7, n7, t7', ⟨m7, ml7, a7, s1, s2, s3⟩, b2, b3, b4⟩ := gl
      exact ⟨e7, n7, t7', ⟨m7, ml7, a7, (c9 _ (wf.lt s1) (fun z => by rw [z, x2] at s1; cases s1) (fun z => by rw [z, x3] at s1; cases s1)).trans s1, (c9 _ (wf.lt s2) (fun z => by rw [z, x2] at s2; cases s2) (fun z => by rw [z, x3] at s2; cases s2)).trans s2, s3⟩, (F.2.1 _ (wf.lt s1)).trans b2, (F.2.1 _ (wf.lt s2)).trans b3, b4⟩
    · obtain ⟨d1, d2⟩ := c12 k hk
      refine ⟨d1, ?_⟩
      rcases d2 with ⟨d2, d3⟩ | ⟨k0, d2, d3, d4⟩
      · rw [d2]
        exact ⟨_, A, N', xNw.n1, d3, by omega, by omega⟩
      · rw [d3]
        exact ((z4 k0 d2).2.fr wf F (by decide) (by omega)).cg d4
    · rcases v4 j hj with c | ⟨b, k1, k2, k3, k4⟩
      · exact Or.inl c
      · have hb : b + 18 < h.2 := by obtain ⟨r, A', q1, -⟩ := id k3; exact q1.b
        refine Or.inr ⟨b, k1, k2, k3.fr wf F (by decide) (by omega), fun k hk => ?_⟩
        rcases (c12 k hk).2 with ⟨d2, d3⟩ | ⟨k0, d2, d3, d4⟩
        · rw [d2]; omega
        · rw [d3]; exact k4 k0 d2
  by_cases hu : u < 8
  · refine (ct_hkeepA hA wf hz x1 x2 y5 x3 y6 z1 (Nat.mod_lt _ (by decide)) B.is hbh l1 l2 l3.2.2 B.ws.lA (by omega) l4 hal oQ oe he2 u hu rfl).mono fun o h' q => ?_
    obtain ⟨v, rfl, q1, q2, q3, q4, q5, q6, q7, q8, q9⟩ := q
    have pu : pU u = u + 1 := if_neg (by omega)
    refine ⟨v, rfl, q1, fin h' hd _ (fun k => if k = u then h.2 else Bk k) z1 ?_ q3 q4 q5 q6 q7 q9 (fun k hk => ?_) (fun j k hj hk ejk => ?_)⟩
    · rw [q2, pu, show ((hd + u) % 17 + 1) % 17 = (hd + (u + 1)) % 17 by omega]
    · rw [pu] at hk
      by_cases c : k = u
      · subst c
        refine ⟨?_, Or.inl ⟨if_pos rfl, fun i hi => ?_⟩⟩
        · rw [if_pos rfl]; exact if_pos rfl
        · unfold pRem; rw [if_neg (by omega)]; exact pPut_i hi
      · have hne : (hd + k) % 17 ≠ (hd + u) % 17 := by omega
        refine ⟨?_, Or.inr ⟨k, by omega, if_neg c, fun i hi => ?_⟩⟩
        · rw [if_neg c]; exact (if_neg hne).trans (z4 k (by omega)).1
        · unfold pRem; rw [if_neg (by omega)]; exact pPut_o (by omega)
    · rw [pu] at hj hk
      have hB : ∀ i, i < u → Bk i + 18 < h.2 := fun i hi => by obtain ⟨r, A', q1, -⟩ := (z4 i hi).2; exact q1.b
      by_cases cj : j = u
      · by_cases ck : k = u
        · omega
        · rw [if_pos cj, if_neg ck] at ejk; have := hB k (by omega); omega
      · by_cases ck : k = u
        · rw [if_neg cj, if_pos ck] at ejk; have := hB j (by omega); omega
        · rw [if_neg cj, if_neg ck] at ejk; exact z5 j k (by omega) (by omega) ejk
  · have hu8 : u = 8 := by omega
    subst hu8
    refine (ct_hkeepB hA wf hz x1 x2 y5 x3 y6 z1 (Nat.mod_lt _ (by decide)) B.is hbh l1 l2 l3.2.2 B.ws.lA (by omega) l4 hal oQ oe he2 8 rfl rfl (by have := (z4 0 (by omega)).1; rw [Nat.add_zero, Nat.mod_eq_of_lt z1] at this; exact this)).mono fun o h' q => ?_
    obtain ⟨v, rfl, q1, q2, q3, q4, q5, q6, q7, q8, q9⟩ := q
    have pu : pU 8 = 8 := if_pos rfl
    refine ⟨v, rfl, q1, fin h' ((hd + 1) % 17) _ (fun k => if k = 7 then h.2 else Bk (k + 1)) (Nat.mod_lt _ (by decide)) ?_ q3 q4 q5 q6 q7 q9 (fun k hk => ?_) (fun j k hj hk ejk => ?_)⟩
    · rw [q2, pu, show ((hd + 8) % 17 + 1) % 17 = ((hd + 1) % 17 + 8) % 17 by omega]
    · rw [pu] at hk
      by_cases c : k = 7
      · subst c
        refine ⟨?_, Or.inl ⟨if_pos rfl, fun i hi => ?_⟩⟩
        · rw [if_pos rfl]; exact if_pos (by omega)
        · unfold pRem; rw [if_pos rfl]; exact pPut_i hi
      · have hne : ((hd + 1) % 17 + k) % 17 ≠ (hd + 8) % 17 := by omega
        have hne2 : ((hd + 1) % 17 + k) % 17 ≠ hd := by omega
        refine ⟨?_, Or.inr ⟨k + 1, by omega, if_neg c, fun i hi => ?_⟩⟩
        · rw [if_neg c]
          refine (if_neg hne).trans ((if_neg hne2).trans ?_)
          rw [show ((hd + 1) % 17 + k) % 17 = (hd + (k + 1)) % 17 by omega]
          exact (z4 (k + 1) (by omega)).1
        · unfold pRem
          rw [if_pos rfl, pPut_o (by omega)]
          unfold pSh
          rw [if_pos (by omega)]
          exact congrArg (μ.2 7) (by omega)
    · rw [pu] at hj hk
      have hB : ∀ i, i < 8 → Bk i + 18 < h.2 := fun i hi => by obtain ⟨r, A', q1, -⟩ := (z4 i hi).2; exact q1.b
      by_cases cj : j = 7
      · by_cases ck : k = 7
        · omega
        · rw [if_pos cj, if_neg ck] at ejk; have := hB (k + 1) (by omega); omega
      · by_cases ck : k = 7
        · rw [if_neg cj, if_pos ck] at ejk; have := hB (j + 1) (by omega); omega
        · rw [if_neg cj, if_neg ck] at ejk; have := z5 (j + 1) (k + 1) (by omega) (by omega) ejk; omega
end XK
section XK2
variable {Ω : ax_O} {h : ax_H} {w : Nat → Nat} {X bf tr hi sv lb a b : Nat} {pl s : pR} {N V O A u : Nat} {μ : md_S} {D : cD} {π : Nat → cP} {pol : Nat}
theorem cj_keepS (hA : ax_Amb Ω) (G : xG Ω h w X bf tr hi sv lb (.ref a) a pl N V O μ u) (B : xBk Ω h w a pl (μ.2 4) N V O A D π pol) (w1 : w (a + 1) = 1) (ht : tr ≠ a) {g : ax_H} (eg : g = h) :
    ax_MetP Ω yX9_keep 15 29 2726 [.ref hi, .ref a] g (ax_Nm fun v h' => v = none ∧ ∃ w', xFr (fun o => o = 2) h h' w w' ∧ xG Ω h' w' X bf tr hi sv lb (.ref a) a pl N V O (mKeep μ u) (pU u) ∧ xBk Ω h' w' a pl (μ.2 4) N V O A D π pol ∧ w' (a + 1) = 1) := by
  subst eg; exact cj_keep hA G B w1 ht
theorem xBk.many (B : xBk Ω h w b pl s N V O A D π pol) {n : Nat} {π' : Nat → cP} : xBk Ω (sH h b (pF A (pMany pl V A n s).1, π', .ref (D.1 0), D.1 8)) w b pl (pMany pl V A n s).1 N V O A D π' pol :=
  B.up (xRw.many B.wp B.bp B.r.2.1 B.rw B.r.2.2) (pIm.many B.wp B.bp B.r.2.1 B.ws B.bs B.r.2.2) ((many_b B.wp B.bp B.r.2.1 B.ws B.bs B.r.2.2).2.2.trans B.r.2.2.symm)
/-- steps of a State block -/
theorem bl_steps (hA : ax_Amb Ω) (B : xBk Ω h w b pl s N V O A D π pol) (M : Nat) (hM : M ≤ 4000) {g : ax_H} (eg : g = h) : ax_MetP Ω yX2_steps 14 0 0 [.ref b, .int (nI M)] g (ax_Nm fun x h' => x = some (.int (nI (pMany pl V A M s).2)) ∧ ∃ π', h' = sH h b (pF A (pMany pl V A M s).1, π', .ref (D.1 0), D.1 8)) := by
  have M9 := ct_stepsP hA B.sz B.wp B.ws B.en pol B.r.2.1 B.rule B.bp B.bs B.r.2.2 M hM (π := π)
  rw [show sH h b (pF A s, π, .ref (D.1 0), D.1 8) = h from B.is] at M9
  rw [eg]; exact M9
theorem many_end (B : xBk Ω h w b pl s N V O A D π pol) : pl 0 ≤ (pMany pl V A 4000 s).1 0 := by
  obtain ⟨q1, q2, -⟩ := many_b (n := 4000) B.wp B.bp B.r.2.1 B.ws B.bs B.r.2.2
  obtain ⟨t1, t2⟩ := q1.t0
  obtain ⟨z1, z2⟩ := B.bs.t0
  rw [le_t]
  rcases q2 with q2 | q2
  · exact q2
  · omega
theorem bl_finish (hA : ax_Amb Ω) (B : xBk Ω h w b pl s N V O A D π pol) {g : ax_H} (eg : g = h) : ax_MetP Ω yX2_finish 14 0 0 [.ref b] g (ax_Nm fun x h' => x = some (.ref b) ∧ ∃ π', h' = sH h b (pF A (pMany pl V A 4000 s).1, π', .ref (D.1 0), D.1 8)) := by
  have M9 := ct_finishP hA B.sz B.wp B.ws B.en pol B.r.2.1 B.rule B.bp B.bs B.r.2.2 4000 (many_end B) (π := π)
  rw [show sH h b (pF A s, π, .ref (D.1 0), D.1 8) = h from B.is] at M9
  rw [eg]; exact M9
/-- D with another rule -/
def xDr (D : cD) (r : Nat) : cD := (fun i => if i = 8 then r else D.1 i, D.2)
theorem xDr.n0 {D : cD} {r : Nat} : (xDr D r).1 0 = D.1 0 := by show (if (0 : Nat) = 8 then r else D.1 0) = D.1 0; exact if_neg (by decide)
theorem xDr.n7 {D : cD} {r : Nat} : (xDr D r).1 7 = D.1 7 := by show (if (7 : Nat) = 8 then r else D.1 7) = D.1 7; exact if_neg (by decide)
theorem xDr.n8 {D : cD} {r : Nat} : (xDr D r).1 8 = r := by show (if (8 : Nat) = 8 then r else D.1 8) = r; exact if_pos rfl
/-- a State block gets a policy -/
theorem bl_setPolicy (hA : ax_Amb Ω) (B : xBk Ω h w b pl s N V O A D π pol) (wf : ax_wf h) (hz : Ω.2.1.heap.size ≤ h.2) (p : Nat) (hp : p < 4) {g : ax_H} (eg : g = h) : ax_MetP Ω yX2_setPolicy 3 1 0 [.ref b, .int (nI p)] g (ax_Nm fun x h' => x = none ∧ ∃ w', xFr (fun o => o = b + 10) h h' w w' ∧ xBk Ω h' w' b pl (upd s 5 (nI p)) N V O A (xDr D h.2) π p) := by
  subst eg
  refine (ct_ssetPolicy hA wf hz B.is B.sz B.o.2.2.2.2.1 p hp).mono fun o h' q => ?_
  obtain ⟨v, rfl, q1, q2, q3, q4, q5, q6⟩ := q
  obtain ⟨o1, o2, o3, o4, o5, o6⟩ := B.o
  have F : xFr (fun o => o = b + 10) g h' w (fun q => if q = g.2 then 1 else w q) := ⟨fun q h1 h2 => q4 q h1 (o1.out h2), fun q h1 => if_neg (by omega), by omega, q6⟩
  have io : xSb (xIo g w) (xIo h' (fun q => if q = g.2 then 1 else w q)) := F.io wf (by omega)
  have L := B.l
  have hl7 := wf.lt L.2.1
  obtain ⟨y1, y2, y3, y4, y5, y6⟩ := B.l
  obtain ⟨nm, ln, lt, g0, x5⟩ := B.n
  refine ⟨v, rfl, q1, _, F, ?_, ?_, ⟨?_, ?_, y3, y4, fun i hi q hq => ?_, fun k hk => ?_⟩, ⟨?_, hp, pu_eq⟩, ⟨nm, ln, lt, g0, x5.sb io⟩, ?_, B.wp, B.bp, B.rw.pol B.wp.lV hp⟩
  · rw [xDr.n0, xDr.n8, ← pF_up (by omega)]; exact q2
  · exact (B.sc.sb io).dcg (fun i hi => if_neg (by omega)) rfl (fun j hj => ⟨rfl, rfl, rfl⟩)
  · rw [xDr.n7]; exact (q4 _ (by omega) (by omega)).trans y1
  · rw [xDr.n7]; exact (q4 _ hl7 (by omega)).trans y2
  · obtain ⟨fs, e⟩ := y5 i hi q hq; exact ⟨fs, io _ _ e⟩
  · have e : ∀ j, upd s 5 (nI p) (127 + 10 * k + j) = s (127 + 10 * k + j) := fun j => pu_ne (by omega)
    rw [e, e, e, e, e, e, e]
    exact io _ _ (y6 k hk)
  · rw [xDr.n8]; exact xIo.i q3 (if_pos rfl)
  · rw [xDr.n7]; exact ⟨fun q h1 h2 h3 => (if_neg (by omega)).trans (o1 q h1 h2 h3), (if_neg (by omega)).trans o2, o3, o4, by omega, o6.1, by show (if b + 3 = g.2 then 1 else w (b + 3)) = b + 10 ∨ (if b + 3 = g.2 then 1 else w (b + 3)) = 1; rw [if_neg (by omega)]; exact o6.2⟩
/-- the State for trials becomes like the State -/
theorem bl_become (hA : ax_Amb Ω) (T : xTr Ω h w tr) (B : xBk Ω h w a pl s N V O A D π pol) (w1 : w (a + 1) = 1) (ht : tr ≠ a) (wf : ax_wf h) (hz : Ω.2.1.heap.size ≤ h.2) {g : ax_H} (eg : g = h) :
    ax_MetP Ω yX2_become 12 10 2000 [.ref tr, .ref a] g (ax_Nm fun v h' => v = some (.ref tr) ∧ ∃ w' D' π', xFr (fun o => o = tr + 10) h h' w w' ∧ xBk Ω h' w' tr pl s N V O A D' π' pol ∧ (w' (tr + 1) = tr + 10 ∧ w' (tr + 3) = tr + 10)) := by
  subst eg
  obtain ⟨s9, π9, scv, rl, e, n, cap, m9, f, t1, t2, t3, ⟨t4, t5, t6⟩, t7, ⟨o1, o2, o3, o4, o5, o6⟩, t9⟩ := T
  obtain ⟨p1, p2, p3, p4, p5, p6⟩ := B.o
  obtain ⟨l1, l2, l3, l4, l5, l6⟩ := B.l
  have all : ∀ q, tr ≤ q → q ≤ tr + 18 → w q = tr + 10 := fun q h1 h2 => by
    by_cases c : q = tr + 1
    · rw [c]; exact t9.1
    by_cases d : q = tr + 3
    · rw [d]; exact t9.2
    · exact o1 q h1 h2 ⟨c, d⟩
  have off : ∀ q, w q ≠ tr + 10 → q < tr ∨ tr + 18 < q := fun q hq => by
    by_cases c : tr ≤ q ∧ q ≤ tr + 18
    · exact absurd (all q c.1 c.2) hq
    · omega
  have heb : e < a ∨ a + 18 < e := p1.o2 (by omega) (fun c => by rw [c] at o2; omega) (fun c => by rw [c] at o2; omega)
  have hle := wf.lt t3
  refine (ct_sbecome hA wf hz t1 B.is (o1.apart p1 ht) o4 o5 p5 t2 t3 o6.1 t5 t4 t6 o3 heb (fun i hi q hq => ?_) l1 l2 l3.2.2 B.ws.lA (by omega) (off _ (by omega)) (fun c => by rw [c] at p2; omega) l4 (fun k hk => (xIo.d (l6 k hk)).1) (fun k hk => off _ (by have := (xIo.d (l6 k hk)).2; omega))).mono fun o h' q => ?_
  · obtain ⟨fs, k⟩ := t7 i hi q hq
    obtain ⟨k1, k2⟩ := xIo.d k
    exact ⟨fs, k1, off _ (by omega)⟩
  obtain ⟨v, rfl, q1, q2, m8, e9, cap9, f9, q3, q4, ⟨q5, q6⟩, q7, q8, q9, qa, qb, qc, qd, qe⟩ := q
  have F : xFr (fun o => o = tr + 10) g h' w (fun q => if q < g.2 then w q else tr + 10) := ⟨fun q h1 h2 => qb q h1 (off q h2) (fun c => h2 (by rw [c]; exact o2)), fun q h1 => if_pos h1, qc, qe⟩
  refine ⟨v, rfl, q1, _, _, _, F, B.like (F.io wf (by omega)) q2 q3 q4 ⟨by omega, by omega, q8⟩ q9 (fun i hi q hq => ?_) ⟨fun q h1 h2 h3 => (if_pos (by omega)).trans (o1 q h1 h2 h3), ?_, ?_, o4, by omega, ?_⟩, (if_pos (by omega)).trans t9.1, (if_pos (by omega)).trans t9.2⟩
  · rcases qa i hi q hq with ⟨k, hk, e⟩ | ⟨j, hj, e⟩
    · subst e; exact ⟨_, l6 k hk⟩
    · exact t7 j hj q e
  · by_cases c : e9 < g.2
    · have : e9 = e := by omega
      rw [this]; exact (if_pos hle).trans o2
    · exact if_neg c
  · rcases q5 with c | c
    · rw [c]; exact o3
    · omega
  · refine ⟨?_, Or.inl ((if_pos (by omega)).trans t9.2)⟩
    rcases q5 with c | c
    · rw [c]; exact o6.1
    · omega
end XK2
