/-! AN ALERT IS ADDED: the row, the block -/
section LAWM
variable {Ω : ax_O} {pl s : pR} {N V O A : Nat}
theorem al_o {k i : Nat} {lon lat du pu re : Int32} (h1 : i ≠ 14) (h2 : i < 127 + 10 * A ∨ 127 + 10 * A + 9 ≤ i) : pAdd (pAlertRow s A k lon lat du pu re) 14 (nI 1) i = s i := by
  rw [pad_ne h1, pAlertRow, pu_ne (by omega), pu_ne (by omega), pu_ne (by omega), pu_ne (by omega), pu_ne (by omega), pu_ne (by omega), pu_ne (by omega), pu_ne (by omega), pu_ne (by omega)]
/-- what is told of the new alert -/
def xAn (t : pR) (A : Nat) (k tm lon lat du pu re : Int32) : Prop := (t (127 + 10 * A) = k ∧ t (127 + 10 * A + 1) = tm ∧ t (127 + 10 * A + 2) = lon ∧ t (127 + 10 * A + 3) = lat ∧ t (127 + 10 * A + 4) = du ∧ t (127 + 10 * A + 5) = pu ∧ t (127 + 10 * A + 6) = re) ∧ t (127 + 10 * A + 7) = 0 ∧ t (127 + 10 * A + 8) = -1
theorem al_n {k : Nat} {lon lat du pu re : Int32} : xAn (pAdd (pAlertRow s A k lon lat du pu re) 14 (nI 1)) A (nI k) (s 0) lon lat du pu re := by
  unfold xAn pAlertRow
  refine ⟨⟨?_, ?_, ?_, ?_, ?_, ?_, ?_⟩, ?_, ?_⟩
  · rw [pad_ne (by omega), pu_ne (by omega), pu_ne (by omega), pu_ne (by omega), pu_ne (by omega), pu_ne (by omega), pu_ne (by omega), pu_ne (by omega), pu_ne (by omega)]; exact pu_eq
  · rw [pad_ne (by omega), pu_ne (by omega), pu_ne (by omega), pu_ne (by omega), pu_ne (by omega), pu_ne (by omega), pu_ne (by omega), pu_ne (by omega), pu_eq]; exact pu_ne (by omega)
  · rw [pad_ne (by omega), pu_ne (by omega), pu_ne (by omega), pu_ne (by omega), pu_ne (by omega), pu_ne (by omega), pu_ne (by omega), pu_eq]
  · rw [pad_ne (by omega), pu_ne (by omega), pu_ne (by omega), pu_ne (by omega), pu_ne (by omega), pu_ne (by omega), pu_eq]
  · rw [pad_ne (by omega), pu_ne (by omega), pu_ne (by omega), pu_ne (by omega), pu_ne (by omega), pu_eq]
  · rw [pad_ne (by omega), pu_ne (by omega), pu_ne (by omega), pu_ne (by omega), pu_eq]
  · rw [pad_ne (by omega), pu_ne (by omega), pu_ne (by omega), pu_eq]
  · rw [pad_ne (by omega), pu_ne (by omega), pu_eq]; rfl
  · rw [pad_ne (by omega), pu_eq]
theorem xRw.alert (h : xRw pl s V A) (hV : V ≤ 20) {k : Nat} (hk : k < 6) (hA : A < 10) {lon lat du pu re : Int32} (h1 : pIn lon (nI 0) (nI 359) = true) (h2 : pIn lat (-90) (nI 90) = true) (h3 : pIn du (nI 1) (nI 300) = true) (h4 : pIn pu (nI 0) (nI 99) = true) (h5 : pIn re (nI 0) (nI 999) = true) :
    xRw pl (pAdd (pAlertRow s A k lon lat du pu re) 14 (nI 1)) V (A + 1) := by
  obtain ⟨hW, hS, hM, hL⟩ := h
  have e14 : pAdd (pAlertRow s A k lon lat du pu re) 14 (nI 1) 14 = nI (A + 1) := by
    refine pAdd1 ?_
    unfold pAlertRow
    rw [pu_ne (by omega), pu_ne (by omega), pu_ne (by omega), pu_ne (by omega), pu_ne (by omega), pu_ne (by omega), pu_ne (by omega), pu_ne (by omega), pu_ne (by omega)]; exact hW.hA
  have te := fun i (c1 : i ≠ 14) (c2 : i < 127 + 10 * A ∨ 127 + 10 * A + 9 ≤ i) => al_o (s := s) (k := k) (lon := lon) (lat := lat) (du := du) (pu := pu) (re := re) c1 c2
  have n9 := al_n (s := s) (A := A) (k := k) (lon := lon) (lat := lat) (du := du) (pu := pu) (re := re)
  generalize pAdd (pAlertRow s A k lon lat du pu re) 14 (nI 1) = t at te n9 e14 ⊢
  obtain ⟨⟨a0, a1, a2, a3, a4, a5, a6⟩, a7, a8⟩ := n9
  obtain ⟨⟨s1, s2, s3, s4, s5⟩, ⟨s6, s7⟩, ⟨s8, s9⟩, sa, sb, sc⟩ := hS
  have b3 := vB_in h3
  refine ⟨⟨e14, by omega, ?_, fun j hj => ?_⟩, ⟨⟨?_, ?_, ?_, ?_, ?_⟩, ⟨?_, ?_⟩, ⟨fun j hj => ?_, fun j hj => ?_⟩, fun q hq => ?_, fun j hj => ?_, fun j hj => ?_⟩, hM.cg hV fun i hi => te i (by omega) (by omega), hL.cg fun i hi => te i (by omega) (by omega)⟩
  · obtain ⟨n, hn, e⟩ := hW.hN
    exact ⟨n, hn, (te 16 (by omega) (by omega)).trans e⟩
  · by_cases c : j = A
    · subst c; exact ⟨k, hk, a0⟩
    · rw [te _ (by omega) (by omega)]; exact hW.pr j hj
  · rw [te 0 (by omega) (by omega)]; exact s1
  · rw [te 0 (by omega) (by omega)]; exact s2
  · rw [te 1 (by omega) (by omega)]; exact s3
  · rw [te 2 (by omega) (by omega)]; exact s4
  · rw [te 3 (by omega) (by omega)]; exact s5
  · rw [te 5 (by omega) (by omega)]; exact s6
  · rw [te 15 (by omega) (by omega)]; exact s7
  · by_cases c : j = A
    · subst c
      rw [a1, a2, a3, a4, a5, a6]
      exact ⟨s1, vB_in h1, vB_in h2, ⟨by have := b3.1; rw [show (nI 1).toInt = 1 from by decide] at this; omega, b3.2⟩, vB_in h4, vB_in h5⟩
    · rw [te _ (by omega) (by omega), te _ (by omega) (by omega), te _ (by omega) (by omega), te _ (by omega) (by omega), te _ (by omega) (by omega), te _ (by omega) (by omega)]
      exact s8 j hj
  · by_cases c : j = A
    · subst c
      rw [a4]; exact b3.1
    · rw [te _ (by omega) (by omega)]; exact s9 j (by omega)
  · rw [te _ (by omega) (by omega), te _ (by omega) (by omega), te _ (by omega) (by omega)]; exact sa q hq
  · rw [te _ (by omega) (by omega)]; exact sb j hj
  · rw [te _ (by omega) (by omega), te _ (by omega) (by omega)]; exact sc j hj
theorem al_row {k : Nat} {lon lat du pu re : Int32} {i : Nat} (hA : A < 10) (hi : pShow i) : pF A s i = pF (A + 1) (pAdd (pAlertRow s A k lon lat du pu re) 14 (nI 1)) i := by
  have te := fun i (c1 : i ≠ 14) (c2 : i < 127 + 10 * A ∨ 127 + 10 * A + 9 ≤ i) => al_o (s := s) (k := k) (lon := lon) (lat := lat) (du := du) (pu := pu) (re := re) c1 c2
  have n9 := al_n (s := s) (A := A) (k := k) (lon := lon) (lat := lat) (du := du) (pu := pu) (re := re)
  generalize pAdd (pAlertRow s A k lon lat du pu re) 14 (nI 1) = t at te n9 ⊢
  obtain ⟨-, a7, a8⟩ := n9
  unfold pF
  by_cases c : 127 ≤ i ∧ i < 227
  · have d : (i - 127) % 10 = 7 ∨ (i - 127) % 10 = 8 := by rcases hi with h | h | h <;> omega
    rcases d with d | d
    · by_cases e : 127 + 10 * (A + 1) ≤ i
      · rw [if_pos ⟨by omega, c.2, d⟩, if_pos ⟨e, c.2, d⟩]
      · rw [if_neg (show ¬ (127 + 10 * (A + 1) ≤ i ∧ i < 227 ∧ (i - 127) % 10 = 7) by omega), if_neg (show ¬ (127 + 10 * (A + 1) ≤ i ∧ i < 227 ∧ (i - 127) % 10 = 8) by omega)]
        by_cases e2 : 127 + 10 * A ≤ i
        · rw [if_pos ⟨e2, c.2, d⟩, show i = 127 + 10 * A + 7 from by omega, a7]
        · rw [if_neg (show ¬ (127 + 10 * A ≤ i ∧ i < 227 ∧ (i - 127) % 10 = 7) by omega), if_neg (show ¬ (127 + 10 * A ≤ i ∧ i < 227 ∧ (i - 127) % 10 = 8) by omega)]
          exact (te i (by omega) (by omega)).symm
    · rw [if_neg (show ¬ (127 + 10 * A ≤ i ∧ i < 227 ∧ (i - 127) % 10 = 7) by omega), if_neg (show ¬ (127 + 10 * (A + 1) ≤ i ∧ i < 227 ∧ (i - 127) % 10 = 7) by omega)]
      by_cases e : 127 + 10 * (A + 1) ≤ i
      · rw [if_pos ⟨by omega, c.2, d⟩, if_pos ⟨e, c.2, d⟩]
      · rw [if_neg (show ¬ (127 + 10 * (A + 1) ≤ i ∧ i < 227 ∧ (i - 127) % 10 = 8) by omega)]
        by_cases e2 : 127 + 10 * A ≤ i
        · rw [if_pos ⟨e2, c.2, d⟩, show i = 127 + 10 * A + 8 from by omega, a8]
        · rw [if_neg (show ¬ (127 + 10 * A ≤ i ∧ i < 227 ∧ (i - 127) % 10 = 8) by omega)]
          exact (te i (by omega) (by omega)).symm
  · rw [if_neg (show ¬ (127 + 10 * A ≤ i ∧ i < 227 ∧ (i - 127) % 10 = 7) by omega), if_neg (show ¬ (127 + 10 * A ≤ i ∧ i < 227 ∧ (i - 127) % 10 = 8) by omega), if_neg (show ¬ (127 + 10 * (A + 1) ≤ i ∧ i < 227 ∧ (i - 127) % 10 = 7) by omega), if_neg (show ¬ (127 + 10 * (A + 1) ≤ i ∧ i < 227 ∧ (i - 127) % 10 = 8) by omega)]
    exact (te i (by rcases hi with h | h | h <;> omega) (by omega)).symm
/-- D with one alert more -/
def xDa (D : cD) (A q0 e9 cap9 : Nat) (m9 : Int32) (f9 : Nat → Option Nat) : cD :=
  (fun i => match i with | 7 => e9 | i => D.1 i, fun j => match j with | 3 => fun k => if k = A then q0 else D.2.1 3 k | j => D.2.1 j, fun j => match j with | 3 => f9 | j => D.2.2.1 j, fun j => match j with | 3 => cap9 | j => D.2.2.2.1 j, fun j => match j with | 3 => m9 | j => D.2.2.2.2 j)
/-- owners: a new thing, perhaps a new array -/
def xWa (h : ax_H) (w : Nat → Nat) (a e9 : Nat) : Nat → Nat := fun q => if q < h.2 then w q else if q = e9 then a + 10 else 1
theorem bl_alert {h h' : ax_H} {w : Nat → Nat} {a : Nat} {D : cD} {π : Nat → cP} {pol : Nat} (B : xBk Ω h w a pl s N V O A D π pol) (wf : ax_wf h) (wf' : ax_wf h') {e9 cap9 : Nat} {m9 : Int32} {f9 : Nat → Option Nat} {k : Nat} {lon lat du pu re : Int32} (hA : A < 10) (R : xRw pl (pAdd (pAlertRow s A k lon lat du pu re) 14 (nI 1)) V (A + 1))
    (l1 : h'.1 (a + 2) = some (.inr (16, [.int m9, .ref e9, .int (nI (A + 1))]))) (l2 : h'.1 e9 = some (.inl (.object "java/lang/Object", cap9, .inr (.inr (.inr (.inr f9)))))) (l3 : A < cap9) (l4 : cap9 < 100) (l5 : ∀ j, j < A → f9 j = D.2.2.1 3 j) (l6 : f9 A = some h.2)
    (l7 : ∀ i, i < cap9 → ∀ q, f9 i = some q → q = h.2 ∨ ∃ j, j < D.2.2.2.1 3 ∧ D.2.2.1 3 j = some q) (l8 : e9 = D.1 7 ∨ e9 = h.2 + 1) (hx : h'.1 h.2 = some (.inr (14, [.int (nI k), .int lon, .int lat, .int du, .int pu, .int (s 0), .int re]))) (hf : ∀ q, q < h.2 → q ≠ a + 2 → q ≠ D.1 7 → h'.1 q = h.1 q) (hl : h.2 + 1 ≤ h'.2) :
    ∃ hZ w', ax_le h' hZ ∧ xFr (fun o => o = a + 10) h hZ w w' ∧ xBk Ω hZ w' a pl (pAdd (pAlertRow s A k lon lat du pu re) 14 (nI 1)) N V O (A + 1) (xDa D A h.2 e9 cap9 m9 f9) π pol ∧ w' (a + 1) = w (a + 1) := by
  obtain ⟨y1, y2, y3, y4, y5, y6⟩ := B.l
  obtain ⟨o1, o2, o3, o4, o5, o6, o7⟩ := B.o
  obtain ⟨nm, ln, lt, g0, x5⟩ := B.n
  have hle9 := wf.lt y2
  have I9 : sIs h' a (pF A s, π, .ref (D.1 0), D.1 8) := B.is.keep fun q hq => hf q (by omega) (by omega) (by rcases o3 with c | c | c <;> omega)
  have hle := sH_show (h := h') (a := a) (s := pF A s) (t := pF (A + 1) (pAdd (pAlertRow s A k lon lat du pu re) 14 (nI 1))) (p := (π, .ref (D.1 0), D.1 8)) (fun i hi => al_row hA hi)
  rw [show sH h' a (pF A s, π, .ref (D.1 0), D.1 8) = h' from I9] at hle
  have we : ∀ q, q < h.2 → xWa h w a e9 q = w q := fun q hq => if_pos hq
  have wn : xWa h w a e9 h.2 = 1 := by unfold xWa; rw [if_neg (by omega), if_neg (by omega)]
  have ow : xOw (xWa h w a e9) a := fun q q1 q2 q3 => (we q (by omega)).trans (o1 q q1 q2 q3)
  have oe : xWa h w a e9 e9 = a + 10 := by
    rcases l8 with c | c
    · rw [we _ (by rw [c]; exact hle9), c]; exact o2
    · unfold xWa; rw [if_neg (by omega), if_pos rfl]
  have F : xFr (fun o => o = a + 10) h h' w (xWa h w a e9) := ⟨fun q hq h2 => hf q hq (fun z => h2 (by rw [z]; exact o1 _ (by omega) (by omega) (by omega))) (fun z => h2 (by rw [z]; exact o2)), we, by omega, wf'⟩
  have io1 := F.io wf (by omega)
  have io2 := xIo.sI (h := h') (σ := (pF (A + 1) (pAdd (pAlertRow s A k lon lat du pu re) 14 (nI 1)), π, .ref (D.1 0), D.1 8)) ow
  have io : xSb (xIo h w) _ := fun q e x => io2 q e (io1 q e x)
  have oe9 : e9 < a ∨ a + 18 < e9 ∨ e9 = a + 3 := by
    rcases l8 with c | c
    · rw [c]; exact o3
    · omega
  have new9 : (xIo (sH h' a (pF (A + 1) (pAdd (pAlertRow s A k lon lat du pu re) 14 (nI 1)), π, .ref (D.1 0), D.1 8)) (xWa h w a e9)).1 h.2 = some (.inr (14, [.int (nI k), .int lon, .int lat, .int du, .int pu, .int (s 0), .int re])) := io2 _ _ (xIo.i hx wn)
  have F2 := F.trans (xFr.blk (σ := (pF (A + 1) (pAdd (pAlertRow s A k lon lat du pu re) 14 (nI 1)), π, .ref (D.1 0), D.1 8)) wf' ow (by omega))
  refine ⟨_, xWa h w a e9, hle, F2, ⟨sIs.of, B.sc.sb io, ⟨(sH_out (q := a + 2) (by omega)).trans l1, (sH_out (q := e9) (by omega)).trans l2, ⟨by show 0 < cap9; omega, l4, by show A + 1 ≤ cap9; omega⟩, fun j hj => ?_, fun i hi q hq => ?_, fun j hj => ?_⟩, ⟨io _ _ B.r.1, B.r.2.1, (al_o (by omega) (by omega)).trans B.r.2.2⟩, ⟨nm, ln, lt, g0, x5.sb io⟩, ⟨ow, oe, oe9, o4, by show a + 18 < h'.2; omega, ?_, by rw [we _ (by omega)]; exact o7⟩, B.wp, B.bp, R⟩, we _ (by omega)⟩
  · show f9 j = some (if j = A then h.2 else D.2.1 3 j)
    by_cases c : j = A
    · rw [if_pos c, c]; exact l6
    · rw [if_neg c, l5 j (by omega)]; exact y4 j (by omega)
  · rcases l7 i hi q hq with c | ⟨j, hj, e⟩
    · rw [c]; exact ⟨_, new9⟩
    · obtain ⟨fs, z⟩ := y5 j hj q e
      exact ⟨fs, io _ _ z⟩
  · show (xIo _ _).1 (if j = A then h.2 else D.2.1 3 j) = _
    by_cases c : j = A
    · subst c
      obtain ⟨⟨a0, a1, a2, a3, a4, a5, a6⟩, -, -⟩ := al_n (s := s) (A := j) (k := k) (lon := lon) (lat := lat) (du := du) (pu := pu) (re := re)
      rw [if_pos rfl, show 127 + 10 * j + 0 = 127 + 10 * j from rfl, a0, a1, a2, a3, a4, a5, a6]
      exact new9
    · rw [if_neg c, al_o (by omega) (by omega), al_o (by omega) (by omega), al_o (by omega) (by omega), al_o (by omega) (by omega), al_o (by omega) (by omega), al_o (by omega) (by omega), al_o (by omega) (by omega)]
      exact io _ _ (y6 j (by omega))
  · show Ω.2.1.heap.size ≤ e9
    rcases l8 with c | c
    · rw [c]; exact o6
    · omega
end LAWM
