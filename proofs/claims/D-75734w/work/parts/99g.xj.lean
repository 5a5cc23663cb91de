/-! THE WHOLE COMPONENT: whose a cell is (w: 1 never changes, 2 the component's own, b + 10 the State block at b); what a State block holds; what the component holds beside the model's rows μ -/
def xIo (h : ax_H) (w : Nat → Nat) : ax_H := (fun q => if w q = 1 then h.1 q else none, h.2)
theorem xIo.d {h : ax_H} {w : Nat → Nat} {q : Nat} {e : ax_E} (x : (xIo h w).1 q = some e) : h.1 q = some e ∧ w q = 1 := by
  have y : (if w q = 1 then h.1 q else none) = some e := x
  by_cases c : w q = 1
  · rw [if_pos c] at y; exact ⟨y, c⟩
  · rw [if_neg c] at y; cases y
theorem xIo.i {h : ax_H} {w : Nat → Nat} {q : Nat} {e : ax_E} (x : h.1 q = some e) (c : w q = 1) : (xIo h w).1 q = some e := by
  show (if w q = 1 then h.1 q else none) = some e
  rw [if_pos c]; exact x
def xSb (g g' : ax_H) : Prop := ∀ q e, g.1 q = some e → g'.1 q = some e
theorem cLs.sb {g g' : ax_H} (k : xSb g g') {L n j e : Nat} {D : cD} (x : cLs g L n j e D) : cLs g' L n j e D := ⟨k _ _ x.1, k _ _ x.2.1, x.2.2⟩
theorem cSc.sb {g g' : ax_H} (k : xSb g g') {pl : pR} {P V O : Nat} {D : cD} (x : cSc g pl P V O D) : cSc g' pl P V O D :=
  ⟨k _ _ x.1, x.2.1.sb k, x.2.2.1.sb k, x.2.2.2.1.sb k, fun i hi => by obtain ⟨r, hr⟩ := x.2.2.2.2.1 i hi; exact ⟨r, k _ _ hr⟩, fun i hi => k _ _ (x.2.2.2.2.2 i hi)⟩
theorem sStr.sb {g g' : ax_H} (k : xSb g g') {w n : Nat} {t : Nat → Nat} (x : sStr g w n t) : sStr g' w n t := by
  obtain ⟨e, hs, hz, b, x1, x2, x3⟩ := x
  exact ⟨e, hs, hz, b, k _ _ x1, k _ _ x2, x3⟩
theorem xNm.sb {g g' : ax_H} (k : xSb g g') {x nm ln : Nat → Nat} {lt : Nat → Nat → Nat} {f g0 : pR} {P : Nat} (z : xNm g x nm ln lt f g0 P) : xNm g' x nm ln lt f g0 P := fun i hi => by
  obtain ⟨a1, a2, a3⟩ := z i hi
  exact ⟨k _ _ a1, a2.sb k, a3⟩
/-- from h (owners w) to h' (owners w'): only cells of owners in S change -/
def xFr (S : Nat → Prop) (h h' : ax_H) (w w' : Nat → Nat) : Prop := (∀ q, q < h.2 → ¬ S (w q) → h'.1 q = h.1 q) ∧ (∀ q, q < h.2 → w' q = w q) ∧ h.2 ≤ h'.2 ∧ ax_wf h'
theorem xFr.rf {S : Nat → Prop} {h : ax_H} {w : Nat → Nat} (wf : ax_wf h) : xFr S h h w w := ⟨fun _ _ _ => rfl, fun _ _ => rfl, Nat.le_refl _, wf⟩
theorem xFr.trans {S : Nat → Prop} {h h1 h2 : ax_H} {w w1 w2 : Nat → Nat} (a : xFr S h h1 w w1) (b : xFr S h1 h2 w1 w2) : xFr S h h2 w w2 :=
  ⟨fun q hq hs => (b.1 q (Nat.lt_of_lt_of_le hq a.2.2.1) (by rw [a.2.1 q hq]; exact hs)).trans (a.1 q hq hs), fun q hq => (b.2.1 q (Nat.lt_of_lt_of_le hq a.2.2.1)).trans (a.2.1 q hq), Nat.le_trans a.2.2.1 b.2.2.1, b.2.2.2⟩
theorem xFr.mono {S T : Nat → Prop} {h h' : ax_H} {w w' : Nat → Nat} (a : xFr S h h' w w') (st : ∀ o, S o → T o) : xFr T h h' w w' := ⟨fun q hq hs => a.1 q hq (fun z => hs (st _ z)), a.2⟩
theorem xFr.io {S : Nat → Prop} {h h' : ax_H} {w w' : Nat → Nat} (F : xFr S h h' w w') (wf : ax_wf h) (s1 : ¬ S 1) : xSb (xIo h w) (xIo h' w') := fun q e x => by
  obtain ⟨y, c⟩ := xIo.d x
  have hq := wf.lt y
  exact xIo.i ((F.1 q hq (by rw [c]; exact s1)).trans y) ((F.2.1 q hq).trans c)
/-- a cell that stays -/
theorem xFr.at {S : Nat → Prop} {h h' : ax_H} {w w' : Nat → Nat} (F : xFr S h h' w w') (wf : ax_wf h) {q : Nat} {e : ax_E} (x : h.1 q = some e) (s : ¬ S (w q)) : h'.1 q = some e ∧ w' q = w q := ⟨(F.1 q (wf.lt x) s).trans x, F.2.1 q (wf.lt x)⟩
/-- a new cell, whatever its owner is called -/
theorem xFr.add {S : Nat → Prop} {h : ax_H} {w : Nat → Nat} (wf : ax_wf h) (e : ax_E) : xFr S h (ax_add h e) w w := ⟨fun q hq _ => ax_add_n (by omega), fun _ _ => rfl, Nat.le_succ _, wf.ofA (h := h) (fun _ hq => ax_add_n hq) rfl⟩
def xOw (w : Nat → Nat) (b : Nat) : Prop := ∀ q, b ≤ q → q ≤ b + 18 → (q ≠ b + 1 ∧ q ≠ b + 3) → w q = b + 10
theorem xOw.out {w : Nat → Nat} {b q : Nat} (o : xOw w b) (hq : w q ≠ b + 10) : q < b ∨ b + 18 < q ∨ (b < q ∧ q < b + 4) := by
  by_cases c : b ≤ q ∧ q ≤ b + 18 ∧ q ≠ b + 1 ∧ q ≠ b + 3
  · exact absurd (o q c.1 c.2.1 c.2.2) hq
  · omega
theorem xIo.blk {h : ax_H} {w : Nat → Nat} {b : Nat} {σ : cS} (o : xOw w b) : xSb (xIo h w) (sH h b σ) := fun q e x => by
  obtain ⟨y, c⟩ := xIo.d x
  exact (sH_out (o.out (by omega))).trans y
theorem xIo.sI {h : ax_H} {w : Nat → Nat} {b : Nat} {σ : cS} (o : xOw w b) : xSb (xIo h w) (xIo (sH h b σ) w) := fun q e x => xIo.i (xIo.blk o q e x) (xIo.d x).2
theorem xFr.blk {h : ax_H} {w : Nat → Nat} {b : Nat} {σ : cS} (wf : ax_wf h) (o : xOw w b) (hb : b + 18 < h.2) : xFr (fun x => x = b + 10) h (sH h b σ) w w :=
  ⟨fun q _ hs => sH_out (o.out hs), fun _ _ => rfl, Nat.le_refl _, sH_wf wf hb⟩
/-- how many visits are done is told right; the entries are of a kind -/
def pMd (pl s : pR) (V : Nat) : Prop := ∀ p, p < 6 → s (35 + p) = cOf pl s (nI p) (nI 1) V
def pLg (s : pR) : Prop := ∀ n k, s 16 = nI n → n ≤ 100 → k < n → ∃ i, i < 5 ∧ s (227 + 4 * k) = nI i ∧ (i ≤ 2 → ∃ j, j < 20 ∧ s (227 + 4 * k + 1) = nI j)
def xRw (pl s : pR) (V A : Nat) : Prop := pWS s A ∧ pBS pl s A ∧ pMd pl s V ∧ pLg s
/-- the list of a block's alerts -/
def xBl (h : ax_H) (w : Nat → Nat) (b : Nat) (s : pR) (A : Nat) (D : cD) : Prop :=
  h.1 (b + 2) = some (.inr (16, [.int (D.2.2.2.2 3), .ref (D.1 7), .int (nI A)])) ∧ h.1 (D.1 7) = some (.inl (.object "java/lang/Object", D.2.2.2.1 3, .inr (.inr (.inr (.inr (D.2.2.1 3)))))) ∧ (0 < D.2.2.2.1 3 ∧ D.2.2.2.1 3 < 100 ∧ A ≤ D.2.2.2.1 3) ∧
  (∀ k, k < A → D.2.2.1 3 k = some (D.2.1 3 k)) ∧ (∀ i, i < D.2.2.2.1 3 → ∀ q, D.2.2.1 3 i = some q → ∃ fs, (xIo h w).1 q = some (.inr (14, fs))) ∧
  ∀ k, k < A → (xIo h w).1 (D.2.1 3 k) = some (.inr (14, [.int (s (127 + 10 * k + 0)), .int (s (127 + 10 * k + 2)), .int (s (127 + 10 * k + 3)), .int (s (127 + 10 * k + 4)), .int (s (127 + 10 * k + 5)), .int (s (127 + 10 * k + 1)), .int (s (127 + 10 * k + 6))]))
def xBo (Ω : ax_O) (h : ax_H) (w : Nat → Nat) (b e : Nat) : Prop := xOw w b ∧ w e = b + 10 ∧ (e < b ∨ b + 18 < e ∨ e = b + 3) ∧ Ω.2.1.heap.size ≤ b ∧ b + 18 < h.2 ∧ (Ω.2.1.heap.size ≤ e ∧ (w (b + 3) = b + 10 ∨ w (b + 3) = 1))
/-- a State block at b, of the row s -/
def xBk (Ω : ax_O) (h : ax_H) (w : Nat → Nat) (b : Nat) (pl s : pR) (N V O A : Nat) (D : cD) (π : Nat → cP) (pol : Nat) : Prop :=
  sIs h b (pF A s, π, .ref (D.1 0), D.1 8) ∧ cSc (xIo h w) pl N V O D ∧ xBl h w b s A D ∧ ((xIo h w).1 (D.1 8) = some (.inr (2 + pol, [])) ∧ pol < 4 ∧ s 5 = nI pol) ∧
  (∃ nm ln lt g0, xNm (xIo h w) (D.2.1 0) nm ln lt pl g0 N) ∧ xBo Ω h w b (D.1 7) ∧ (pWP pl N V O ∧ pBP pl V ∧ xRw pl s V A)
section XJ
variable {Ω : ax_O} {h h' : ax_H} {w w' : Nat → Nat} {b : Nat} {pl s : pR} {N V O A : Nat} {D : cD} {π : Nat → cP} {pol : Nat} {S : Nat → Prop}
theorem xBk.is (B : xBk Ω h w b pl s N V O A D π pol) : sIs h b (pF A s, π, .ref (D.1 0), D.1 8) := B.1
theorem xBk.sc (B : xBk Ω h w b pl s N V O A D π pol) : cSc (xIo h w) pl N V O D := B.2.1
theorem xBk.l (B : xBk Ω h w b pl s N V O A D π pol) : xBl h w b s A D := B.2.2.1
theorem xBk.r (B : xBk Ω h w b pl s N V O A D π pol) : (xIo h w).1 (D.1 8) = some (.inr (2 + pol, [])) ∧ pol < 4 ∧ s 5 = nI pol := B.2.2.2.1
theorem xBk.n (B : xBk Ω h w b pl s N V O A D π pol) : ∃ nm ln lt g0, xNm (xIo h w) (D.2.1 0) nm ln lt pl g0 N := B.2.2.2.2.1
theorem xBk.o (B : xBk Ω h w b pl s N V O A D π pol) : xBo Ω h w b (D.1 7) := B.2.2.2.2.2.1
theorem xBk.wp (B : xBk Ω h w b pl s N V O A D π pol) : pWP pl N V O := B.2.2.2.2.2.2.1
theorem xBk.bp (B : xBk Ω h w b pl s N V O A D π pol) : pBP pl V := B.2.2.2.2.2.2.2.1
theorem xBk.rw (B : xBk Ω h w b pl s N V O A D π pol) : xRw pl s V A := B.2.2.2.2.2.2.2.2
theorem xBk.ws (B : xBk Ω h w b pl s N V O A D π pol) : pWS s A := B.rw.1
theorem xBk.bs (B : xBk Ω h w b pl s N V O A D π pol) : pBS pl s A := B.rw.2.1
theorem xBl.fr (x : xBl h w b s A D) (wf : ax_wf h) (F : xFr S h h' w w') (s1 : ¬ S 1) (sb : ¬ S (b + 10)) (o : xOw w b) (oe : w (D.1 7) = b + 10) : xBl h' w' b s A D := by
  obtain ⟨x1, x2, x3, x4, x5, x6⟩ := x
  have io := F.io wf s1
  exact ⟨(F.at wf x1 (by rw [o _ (by omega) (by omega) (by omega)]; exact sb)).1, (F.at wf x2 (by rw [oe]; exact sb)).1, x3, x4, fun i hi q hq => by obtain ⟨fs, e⟩ := x5 i hi q hq; exact ⟨fs, io _ _ e⟩, fun k hk => io _ _ (x6 k hk)⟩
theorem xBo.fr {e : Nat} (x : xBo Ω h w b e) (F : xFr S h h' w w') (he : e < h.2) : xBo Ω h' w' b e := by
  obtain ⟨o1, o2, o3, o4, o5, o6⟩ := x
  exact ⟨fun q q1 q2 q3 => (F.2.1 q (by omega)).trans (o1 q q1 q2 q3), (F.2.1 _ he).trans o2, o3, o4, Nat.lt_of_lt_of_le o5 F.2.2.1, o6.1, by rw [F.2.1 _ (by omega)]; exact o6.2⟩
/-- a block stays where others change -/
theorem xBk.fr (B : xBk Ω h w b pl s N V O A D π pol) (wf : ax_wf h) (F : xFr S h h' w w') (s1 : ¬ S 1) (sb : ¬ S (b + 10)) : xBk Ω h' w' b pl s N V O A D π pol := by
  obtain ⟨x1, x2, x3, x4, ⟨nm, ln, lt, g0, x5⟩, x6, x7⟩ := B
  have io := F.io wf s1
  have o5 := x6.2.2.2.2.1
  refine ⟨x1.keep fun q hq => F.1 q (by omega) (by rw [x6.1 q (by omega) (by omega) (by omega)]; exact sb), x2.sb io, x3.fr wf F s1 sb x6.1 x6.2.1, ⟨io _ _ x4.1, x4.2⟩, ⟨nm, ln, lt, g0, x5.sb io⟩, x6.fr F (wf.lt x3.2.1), x7⟩
/-- what a State's steps find -/
theorem xBk.en (B : xBk Ω h w b pl s N V O A D π pol) : cEn h b pl s N V O A D := fun σ => by
  have k := xIo.blk (h := h) (σ := σ) B.o.1
  obtain ⟨x1, x2, x3, x4, x5, x6⟩ := B.l
  exact ⟨B.sc.sb k, ⟨(sH_out (by omega)).trans x1, (sH_out (by have := B.o.2.2.1; omega)).trans x2, x3.2.2, by omega, x4⟩, fun i hi => k _ _ (x6 i hi)⟩
theorem xBk.enF (B : xBk Ω h w b pl s N V O A D π pol) : cEn h b pl (pF A s) N V O A D := B.en.im B.ws.lA pF_R.im
theorem xBk.rule (B : xBk Ω h w b pl s N V O A D π pol) : ∀ σ, (sH h b σ).1 (D.1 8) = some (.inr (2 + pol, [])) := fun σ => xIo.blk B.o.1 _ _ B.r.1
theorem xBk.sz (B : xBk Ω h w b pl s N V O A D π pol) : Ω.2.1.heap.size ≤ b := B.o.2.2.2.1
theorem xBk.names (B : xBk Ω h w b pl s N V O A D π pol) : ∃ nm ln lt g0, ∀ σ, xNm (sH h b σ) (D.2.1 0) nm ln lt pl g0 N := by
  obtain ⟨nm, ln, lt, g0, x⟩ := B.n
  exact ⟨nm, ln, lt, g0, fun σ => x.sb (xIo.blk B.o.1)⟩
/-- another's cell, whatever the block holds -/
theorem xBk.ot (B : xBk Ω h w b pl s N V O A D π pol) {q : Nat} {e : ax_E} (x : h.1 q = some e) (c : w q ≠ b + 10) : ∀ σ, (sH h b σ).1 q = some e := fun σ => (sH_out (B.o.1.out c)).trans x
/-- a block whose row has changed -/
theorem xBk.up (B : xBk Ω h w b pl s N V O A D π pol) {s' : pR} {π' : Nat → cP} (R : xRw pl s' V A) (im : pIm s s') (h5 : s' 5 = s 5) : xBk Ω (sH h b (pF A s', π', .ref (D.1 0), D.1 8)) w b pl s' N V O A D π' pol := by
  have io := xIo.sI (h := h) (σ := (pF A s', π', .ref (D.1 0), D.1 8)) B.o.1
  obtain ⟨nm, ln, lt, g0, x5⟩ := B.n
  obtain ⟨y1, y2, y3, y4, y5, y6⟩ := B.l
  have hA := B.ws.lA
  have he := B.o.2.2.1
  refine ⟨sIs.of, B.sc.sb io, ⟨(sH_out (by omega)).trans y1, (sH_out (by omega)).trans y2, y3, y4, fun i hi q hq => by obtain ⟨fs, e⟩ := y5 i hi q hq; exact ⟨fs, io _ _ e⟩, fun k hk => ?_⟩, ⟨io _ _ B.r.1, B.r.2.1, h5.trans B.r.2.2⟩, ⟨nm, ln, lt, g0, x5.sb io⟩, ⟨B.o.1, B.o.2.1, he, B.o.2.2.2.1, B.o.2.2.2.2.1, B.o.2.2.2.2.2⟩, B.wp, B.bp, R⟩
  have q := io _ _ (y6 k hk)
  have e := fun j hj => im k (by omega) j hj
  rw [e 0 (by omega), e 1 (by omega), e 2 (by omega), e 3 (by omega), e 4 (by omega), e 5 (by omega), e 6 (by omega)]
  exact q
theorem xBk.pi (B : xBk Ω h w b pl s N V O A D π pol) {π' : Nat → cP} : xBk Ω (sH h b (pF A s, π', .ref (D.1 0), D.1 8)) w b pl s N V O A D π' pol := B.up B.rw (pIm.refl s) rfl
end XJ
/-- a State block, its own things unnamed -/
def xBe (Ω : ax_O) (h : ax_H) (w : Nat → Nat) (b : Nat) (pl s : pR) (N V O A : Nat) : Prop := ∃ D π pol, xBk Ω h w b pl s N V O A D π pol
/-- the State for trials -/
def xTr (Ω : ax_O) (h : ax_H) (w : Nat → Nat) (t : Nat) : Prop := ∃ (s : pR) (π : Nat → cP) (scv : Value) (rl e n cap : Nat) (m9 : Int32) (f : Nat → Option Nat),
  sIs h t (s, π, scv, rl) ∧ h.1 (t + 2) = some (.inr (16, [.int m9, .ref e, .int (nI n)])) ∧ h.1 e = some (.inl (.object "java/lang/Object", cap, .inr (.inr (.inr (.inr f))))) ∧ (0 < cap ∧ cap < 100 ∧ n ≤ cap) ∧
  (∀ i, i < cap → ∀ q, f i = some q → ∃ fs, (xIo h w).1 q = some (.inr (14, fs))) ∧ xBo Ω h w t e ∧ (w (t + 1) = t + 10 ∧ w (t + 3) = t + 10)
theorem xTr.fr {Ω : ax_O} {h h' : ax_H} {w w' : Nat → Nat} {t : Nat} {S : Nat → Prop} (T : xTr Ω h w t) (wf : ax_wf h) (F : xFr S h h' w w') (s1 : ¬ S 1) (sb : ¬ S (t + 10)) : xTr Ω h' w' t := by
  obtain ⟨s, π, scv, rl, e, n, cap, m9, f, x1, x2, x3, x4, x5, x6, x7⟩ := T
  have io := F.io wf s1
  have o5 := x6.2.2.2.2.1
  exact ⟨s, π, scv, rl, e, n, cap, m9, f, x1.keep fun q hq => F.1 q (by omega) (by rw [x6.1 q (by omega) (by omega) (by omega)]; exact sb), (F.at wf x2 (by rw [x6.1 _ (by omega) (by omega) (by omega)]; exact sb)).1, (F.at wf x3 (by rw [x6.2.1]; exact sb)).1, x4, fun i hi q hq => (by obtain ⟨fs, e⟩ := x5 i hi q hq; exact ⟨fs, io _ _ e⟩), x6.fr F (wf.lt x3), (F.2.1 _ (by omega)).trans x7.1, (F.2.1 _ (by omega)).trans x7.2⟩
/-- a State block at the place for trials -/
theorem xBk.tr {Ω : ax_O} {h : ax_H} {w : Nat → Nat} {b : Nat} {pl s : pR} {N V O A : Nat} {D : cD} {π : Nat → cP} {pol : Nat} (B : xBk Ω h w b pl s N V O A D π pol) (h1 : w (b + 1) = b + 10 ∧ w (b + 3) = b + 10) : xTr Ω h w b := by
  obtain ⟨y1, y2, y3, y4, y5, y6⟩ := B.l
  exact ⟨_, _, _, _, _, _, _, _, _, B.is, y1, y2, y3, y5, B.o, h1⟩
def xGb (Ω : ax_O) (h : ax_H) (w : Nat → Nat) (bf : Nat) (μ : md_S) : Prop := ∃ (n : Nat) (tb : Nat → Int32), μ.1 2 = nI n ∧ n ≤ 1000 ∧ h.1 bf = some (.inl (.byte, 1000, .inl tb)) ∧ w bf = 2 ∧ Ω.2.1.heap.size ≤ bf ∧ ∀ j, j < n → tb j &&& nI 255 = μ.2 1 j
def xGl (Ω : ax_O) (h : ax_H) (w : Nat → Nat) (lb : Nat) (μ : md_S) : Prop := ∃ (e n : Nat) (t : Nat → Nat), sB h lb e n t ∧ w lb = 2 ∧ w e = 2 ∧ Ω.2.1.heap.size ≤ lb ∧ Ω.2.1.heap.size ≤ e ∧ μ.1 24 = nI n ∧ ∀ j, j < n → μ.2 10 j = nI (t j) ∧ t j < 256
/-- one of the earlier States, or a saved one -/
def xGo (Ω : ax_O) (h : ax_H) (w : Nat → Nat) (a tr : Nat) (pl : pR) (N V O : Nat) (f : pR) (k b : Nat) : Prop := ∃ (r : pR) (A : Nat), xBe Ω h w b pl r N V O A ∧ w (b + 1) = 1 ∧ (∀ i, i < 627 → f (627 * k + i) = r i) ∧ b ≠ a ∧ b ≠ tr
def xGk (Ω : ax_O) (h : ax_H) (w : Nat → Nat) (hi sv a tr : Nat) (pl : pR) (N V O : Nat) (μ : md_S) (u : Nat) : Prop := ∃ (Q e hd : Nat) (f : Nat → Option Nat) (B : Nat → Nat) (fs : Nat → Option Nat),
  (h.1 hi = some (.inr (7, [.ref Q])) ∧ h.1 Q = some (.inr (17, [.ref e, .int (nI hd), .int (nI ((hd + u) % 17))])) ∧ h.1 e = some (.inl (.object "java/lang/Object", 17, .inr (.inr (.inr (.inr f)))))) ∧
  (w hi = 2 ∧ w Q = 2 ∧ w e = 2 ∧ Ω.2.1.heap.size ≤ hi ∧ Ω.2.1.heap.size ≤ Q ∧ Ω.2.1.heap.size ≤ e) ∧ (hd < 17 ∧ u ≤ 8 ∧ μ.1 18 = nI u) ∧
  (∀ k, k < u → f ((hd + k) % 17) = some (B k) ∧ xGo Ω h w a tr pl N V O (μ.2 7) k (B k)) ∧ (∀ j k, j < u → k < u → B j = B k → j = k) ∧
  (h.1 sv = some (.inl (.object "TelescopeQueue$State", 2, .inr (.inr (.inr (.inr fs))))) ∧ w sv = 2 ∧ Ω.2.1.heap.size ≤ sv) ∧
  ∀ j, j < 2 → (fs j = none ∧ μ.2 9 j = nI 0) ∨ ∃ b, fs j = some b ∧ μ.2 9 j = nI 1 ∧ xGo Ω h w a tr pl N V O (μ.2 8) j b ∧ ∀ k, k < u → B k ≠ b
/-- all but the State itself; stv: the field 'state', a: its address -/
def xG (Ω : ax_O) (h : ax_H) (w : Nat → Nat) (X bf tr hi sv lb : Nat) (stv : Value) (a : Nat) (pl : pR) (N V O : Nat) (μ : md_S) (u : Nat) : Prop :=
  (h.1 X = some (.inr (0, [.ref bf, .int (μ.1 2), .int (μ.1 5), .int (μ.1 6), stv, .ref tr, .ref hi, .ref sv, .ref lb])) ∧ w X = 2 ∧ Ω.2.1.heap.size ≤ X) ∧ xGb Ω h w bf μ ∧ xGl Ω h w lb μ ∧ xGk Ω h w hi sv a tr pl N V O μ u ∧ xTr Ω h w tr ∧ (ax_wf h ∧ Ω.2.1.heap.size ≤ h.2)
section XG
variable {Ω : ax_O} {h h' : ax_H} {w w' : Nat → Nat} {X bf tr hi sv lb a : Nat} {stv : Value} {pl : pR} {N V O u : Nat} {μ μ' : md_S} {S : Nat → Prop}
theorem xG.x (G : xG Ω h w X bf tr hi sv lb stv a pl N V O μ u) : h.1 X = some (.inr (0, [.ref bf, .int (μ.1 2), .int (μ.1 5), .int (μ.1 6), stv, .ref tr, .ref hi, .ref sv, .ref lb])) := G.1.1
theorem xG.b (G : xG Ω h w X bf tr hi sv lb stv a pl N V O μ u) : xGb Ω h w bf μ := G.2.1
theorem xG.l (G : xG Ω h w X bf tr hi sv lb stv a pl N V O μ u) : xGl Ω h w lb μ := G.2.2.1
theorem xG.k (G : xG Ω h w X bf tr hi sv lb stv a pl N V O μ u) : xGk Ω h w hi sv a tr pl N V O μ u := G.2.2.2.1
theorem xG.t (G : xG Ω h w X bf tr hi sv lb stv a pl N V O μ u) : xTr Ω h w tr := G.2.2.2.2.1
theorem xG.wf (G : xG Ω h w X bf tr hi sv lb stv a pl N V O μ u) : ax_wf h := G.2.2.2.2.2.1
theorem xG.sz (G : xG Ω h w X bf tr hi sv lb stv a pl N V O μ u) : Ω.2.1.heap.size ≤ h.2 := G.2.2.2.2.2.2
theorem xBe.fr {b A : Nat} {s : pR} (B : xBe Ω h w b pl s N V O A) (wf : ax_wf h) (F : xFr S h h' w w') (s1 : ¬ S 1) (sb : ¬ S (b + 10)) : xBe Ω h' w' b pl s N V O A := by
  obtain ⟨D, π, pol, B⟩ := B
  exact ⟨D, π, pol, B.fr wf F s1 sb⟩
theorem xBe.b {b A : Nat} {s : pR} (B : xBe Ω h w b pl s N V O A) : b + 18 < h.2 := by
  obtain ⟨D, π, pol, B⟩ := B
  exact B.o.2.2.2.2.1
theorem xGb.fr (x : xGb Ω h w bf μ) (wf : ax_wf h) (F : xFr S h h' w w') (s2 : ¬ S 2) : xGb Ω h' w' bf μ := by
  obtain ⟨n, tb, x1, x2, x3, x4, x5⟩ := x
  obtain ⟨y1, y2⟩ := F.at wf x3 (by rw [x4]; exact s2)
  exact ⟨n, tb, x1, x2, y1, y2.trans x4, x5⟩
theorem sB.fr {B e n : Nat} {t : Nat → Nat} (x : sB h B e n t) (h1 : h'.1 B = h.1 B) (h2 : h'.1 e = h.1 e) : sB h' B e n t := by
  obtain ⟨m, ml, a, x1, x2, x3⟩ := x
  exact ⟨m, ml, a, h1.trans x1, h2.trans x2, x3⟩
theorem xGl.fr (x : xGl Ω h w lb μ) (wf : ax_wf h) (F : xFr S h h' w w') (s2 : ¬ S 2) : xGl Ω h' w' lb μ := by
  obtain ⟨e, n, t, x1, x2, x3, x4⟩ := x
  obtain ⟨m, ml, a, z1, z2, z3⟩ := id x1
  have l1 := wf.lt z1
  have l2 := wf.lt z2
  exact ⟨e, n, t, x1.fr (F.1 _ l1 (by rw [x2]; exact s2)) (F.1 _ l2 (by rw [x3]; exact s2)), (F.2.1 _ l1).trans x2, (F.2.1 _ l2).trans x3, x4⟩
theorem xGo.fr {f : pR} {k b : Nat} (x : xGo Ω h w a tr pl N V O f k b) (wf : ax_wf h) (F : xFr S h h' w w') (s1 : ¬ S 1) (sb : ¬ S (b + 10)) : xGo Ω h' w' a tr pl N V O f k b := by
  obtain ⟨r, A, x1, x2, x3⟩ := x
  exact ⟨r, A, x1.fr wf F s1 sb, (F.2.1 _ (by have := x1.b; omega)).trans x2, x3⟩
theorem xGk.fr (x : xGk Ω h w hi sv a tr pl N V O μ u) (wf : ax_wf h) (F : xFr S h h' w w') (s1 : ¬ S 1) (s2 : ¬ S 2) (so : ∀ b, b ≠ a → b ≠ tr → ¬ S (b + 10)) : xGk Ω h' w' hi sv a tr pl N V O μ u := by
  obtain ⟨Q, e, hd, f, B, fs, ⟨x1, x2, x3⟩, ⟨y1, y2, y3, y4⟩, x4, x5, x6, ⟨x7, x8, x9⟩, x10⟩ := x
  obtain ⟨z1, z2⟩ := F.at wf x1 (by rw [y1]; exact s2)
  obtain ⟨z3, z4⟩ := F.at wf x2 (by rw [y2]; exact s2)
  obtain ⟨z5, z6⟩ := F.at wf x3 (by rw [y3]; exact s2)
  obtain ⟨z7, z8⟩ := F.at wf x7 (by rw [x8]; exact s2)
  refine ⟨Q, e, hd, f, B, fs, ⟨z1, z3, z5⟩, ⟨z2.trans y1, z4.trans y2, z6.trans y3, y4⟩, x4, fun k hk => ?_, x6, ⟨z7, z8.trans x8, x9⟩, fun j hj => ?_⟩
  · obtain ⟨f1, o1⟩ := x5 k hk
    have n1 : B k ≠ a ∧ B k ≠ tr := by obtain ⟨r, A, -, -, -, n⟩ := o1; exact n
    exact ⟨f1, o1.fr wf F s1 (so _ n1.1 n1.2)⟩
  · rcases x10 j hj with c | ⟨b, c1, c2, c3, c4⟩
    · exact Or.inl c
    · have n1 : b ≠ a ∧ b ≠ tr := by obtain ⟨r, A, -, -, -, n⟩ := c3; exact n
      exact Or.inr ⟨b, c1, c2, c3.fr wf F s1 (so _ n1.1 n1.2), c4⟩
/-- all stays where at most the State changes -/
theorem xG.fr (G : xG Ω h w X bf tr hi sv lb stv a pl N V O μ u) (F : xFr S h h' w w') (s1 : ¬ S 1) (s2 : ¬ S 2) (so : ∀ b, b ≠ a → ¬ S (b + 10)) (ht : tr ≠ a) : xG Ω h' w' X bf tr hi sv lb stv a pl N V O μ u := by
  obtain ⟨x1, y1⟩ := F.at G.wf G.x (by rw [G.1.2.1]; exact s2)
  exact ⟨⟨x1, y1.trans G.1.2.1, G.1.2.2⟩, G.b.fr G.wf F s2, G.l.fr G.wf F s2, G.k.fr G.wf F s1 s2 (fun b h1 _ => so b h1), G.t.fr G.wf F s1 (so tr ht), F.2.2.2, Nat.le_trans G.sz F.2.2.1⟩
/-- .. or the State for trials -/
theorem xG.frT (G : xG Ω h w X bf tr hi sv lb stv a pl N V O μ u) (F : xFr S h h' w w') (s1 : ¬ S 1) (s2 : ¬ S 2) (so : ∀ b, b ≠ tr → b ≠ a → ¬ S (b + 10)) (T : xTr Ω h' w' tr) : xG Ω h' w' X bf tr hi sv lb stv a pl N V O μ u := by
  obtain ⟨x1, y1⟩ := F.at G.wf G.x (by rw [G.1.2.1]; exact s2)
  exact ⟨⟨x1, y1.trans G.1.2.1, G.1.2.2⟩, G.b.fr G.wf F s2, G.l.fr G.wf F s2, G.k.fr G.wf F s1 s2 (fun b h1 h2 => so b h2 h1), T, F.2.2.2, Nat.le_trans G.sz F.2.2.1⟩
/-- only some of the model's rows matter -/
theorem xG.cg (G : xG Ω h w X bf tr hi sv lb stv a pl N V O μ u) (e2 : μ'.1 2 = μ.1 2) (e5 : μ'.1 5 = μ.1 5) (e6 : μ'.1 6 = μ.1 6) (e18 : μ'.1 18 = μ.1 18) (e24 : μ'.1 24 = μ.1 24) (r1 : μ'.2 1 = μ.2 1) (r7 : μ'.2 7 = μ.2 7) (r8 : μ'.2 8 = μ.2 8) (r9 : μ'.2 9 = μ.2 9) (r10 : μ'.2 10 = μ.2 10) : xG Ω h w X bf tr hi sv lb stv a pl N V O μ' u := by
  obtain ⟨⟨x1, x2⟩, ⟨n, tb, y1, y2, y3, y4, y5, y6⟩, ⟨e, n2, t, z1, z2, z3, z4, z5, z6, z7⟩, ⟨Q, e0, hd, f, B, fs, k1, k2, ⟨k3, k4, k5⟩, k6, k7, k8, k9⟩, T⟩ := G
  refine ⟨⟨by rw [e2, e5, e6]; exact x1, x2⟩, ⟨n, tb, e2.trans y1, y2, y3, y4, y5, fun j hj => (y6 j hj).trans (by rw [r1])⟩, ⟨e, n2, t, z1, z2, z3, z4, z5, e24.trans z6, fun j hj => by rw [r10]; exact z7 j hj⟩, ⟨Q, e0, hd, f, B, fs, k1, k2, ⟨k3, k4, e18.trans k5⟩, by rw [r7]; exact k6, k7, k8, by rw [r8, r9]; exact k9⟩, T⟩
end XG
/-- loaded -/
def xL (Ω : ax_O) (h : ax_H) (w : Nat → Nat) (X bf tr hi sv lb a : Nat) (N V O A : Nat) (μ : md_S) (u : Nat) : Prop :=
  xG Ω h w X bf tr hi sv lb (.ref a) a (μ.2 2) N V O μ u ∧ xBe Ω h w a (μ.2 2) (μ.2 4) N V O A ∧ w (a + 1) = 1 ∧ tr ≠ a ∧ μ.1 19 = nI 1
/-- not loaded -/
def xU (Ω : ax_O) (h : ax_H) (w : Nat → Nat) (X bf tr hi sv lb : Nat) (μ : md_S) : Prop :=
  xG Ω h w X bf tr hi sv lb .null 0 (μ.2 2) 0 0 0 μ 0 ∧ μ.1 19 = nI 0 ∧ μ.2 9 0 = nI 0 ∧ μ.2 9 1 = nI 0
