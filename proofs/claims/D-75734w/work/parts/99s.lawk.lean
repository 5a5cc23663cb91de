/-! WHAT A TEXT LEAVES: the model's rows in bounds, the component's block -/
section LAWK
variable {Ω : ax_O} {h : ax_H} {w : Nat → Nat} {f g : pR} {N V A O : Nat}
theorem rI.wp (x : rI f g N V A) (c : rC f g N V A O) : pWP f N V O := by
  obtain ⟨⟨⟨a0, a1, a2, a3, a4, a6, a7, a8, a9⟩, a15⟩, x2, x3, x4, x5, x6⟩ := x
  obtain ⟨⟨c1, c2, c3, c4⟩, c5, c6, c7, c8⟩ := c
  refine ⟨⟨c1, c2, c3⟩, ⟨c5, c6, c8⟩, ⟨fun z => by rw [z] at a2; exact absurd a2.1 (by decide), fun z => by rw [z] at a8; exact absurd a8.1 (by decide)⟩, fun k hk => ?_⟩
  by_cases e : k < V
  · exact (x2 k e).1
  · exact ⟨0, by omega, x3 k (by omega) hk 0 (by omega)⟩
theorem vB_0 {a b : Int} (h1 : a ≤ 0) (h2 : 0 ≤ b) : vB 0 a b := ⟨by rw [t_0]; exact h1, by rw [t_0]; exact h2⟩
theorem rI.bp (x : rI f g N V A) : pBP f V := by
  obtain ⟨⟨⟨a0, a1, a2, a3, a4, a6, a7, a8, a9⟩, a15⟩, x2, x3, x4, x5, x6⟩ := x
  refine ⟨⟨a0, a1, a2, a3, a4, a6, a7, a8, a9⟩, fun k hk => ?_, fun k hk => (x2 k hk).2.1.2.2.1.1⟩
  by_cases e : k < V
  · obtain ⟨-, ⟨b1, b2, b3, b5, b6, b7⟩, -⟩ := x2 k e
    exact ⟨b1, b2, ⟨by have := b3.1; omega, b3.2⟩, b5, b6, b7⟩
  · have z := fun j hj => x3 k (by omega) hk j hj
    rw [z 1 (by omega), z 2 (by omega), z 3 (by omega), z 5 (by omega), z 6 (by omega), z 7 (by omega)]
    exact ⟨vB_0 (by decide) (by decide), vB_0 (by decide) (by decide), vB_0 (by decide) (by decide), vB_0 (by decide) (by decide), vB_0 (by decide) (by decide), vB_0 (by decide) (by decide)⟩
theorem rI.ws (x : rI f g N V A) (c : rC f g N V A O) : pWS g A := by
  obtain ⟨⟨c1, c2, c3, c4⟩, c5, c6, c7, c8⟩ := c
  obtain ⟨-, x2, x3, x4, x5, x6⟩ := x
  refine ⟨c4, by omega, ⟨0, by omega, x6 16 ⟨by omega, by omega, by omega, by omega, by omega, by omega⟩⟩, fun k hk => ?_⟩
  by_cases e : k < A
  · exact (x4 k e).1
  · exact ⟨0, by omega, x6 _ ⟨by omega, by omega, by omega, by omega, by omega, by omega⟩⟩
theorem rI.bs (x : rI f g N V A) (c : rC f g N V A O) : pBS f g A := by
  obtain ⟨⟨c1, c2, c3, c4⟩, c5, c6, c7, c8⟩ := c
  obtain ⟨⟨a0, a15⟩, x2, x3, x4, x5, x6⟩ := x
  have z : ∀ i, i < 14 → g i = 0 := fun i hi => x6 i ⟨by omega, by omega, by omega, by omega, by omega, by omega⟩
  refine ⟨⟨?_, ?_, ?_, ?_, ?_⟩, ⟨⟨0, by omega, z 5 (by omega)⟩, a15⟩, ⟨fun k hk => ?_, fun k hk => (x4 k hk).2.1.2.2.2.1.1⟩, fun q hq => ?_, fun k hk => ?_, fun k hk => ?_⟩
  · rw [z 0 (by omega)]; exact vB_0 (by decide) (by decide)
  · rw [z 0 (by omega), t_0]; have := a0.1.1; omega
  · rw [z 1 (by omega)]; exact vB_0 (by decide) (by decide)
  · rw [z 2 (by omega)]; exact vB_0 (by decide) (by decide)
  · rw [z 3 (by omega)]; exact vB_0 (by decide) (by decide)
  · by_cases e : k < A
    · obtain ⟨-, ⟨b1, b2, b3, b4, b5, b6⟩, -⟩ := x4 k e
      exact ⟨b1, b2, b3, ⟨by have := b4.1; omega, b4.2⟩, b5, b6⟩
    · have y : ∀ j, j < 10 → g (127 + 10 * k + j) = 0 := fun j hj => x6 _ ⟨by omega, by omega, by omega, by omega, by omega, by omega⟩
      rw [y 1 (by omega), y 2 (by omega), y 3 (by omega), y 4 (by omega), y 5 (by omega), y 6 (by omega)]
      exact ⟨vB_0 (by decide) (by decide), vB_0 (by decide) (by decide), vB_0 (by decide) (by decide), vB_0 (by decide) (by decide), vB_0 (by decide) (by decide), vB_0 (by decide) (by decide)⟩
  · rw [x6 (23 + q) ⟨by omega, by omega, by omega, by omega, by omega, by omega⟩, x6 (29 + q) ⟨by omega, by omega, by omega, by omega, by omega, by omega⟩, t_0]
    have h9 : vB (g (17 + q)) 0 9999 := by
      by_cases e : q < N
      · exact x5 q e
      · rw [x6 (17 + q) ⟨by omega, by omega, by omega, by omega, by omega, by omega⟩]; exact vB_0 (by decide) (by decide)
    exact ⟨h9, by omega, by omega, by have := h9.1; omega⟩
  · by_cases e : k < V
    · have := (x2 k e).2.2.1
      exact ⟨by have := this.1; omega, this.2⟩
    · rw [x6 (107 + k) ⟨by omega, by omega, by omega, by omega, by omega, by omega⟩]; exact vB_0 (by decide) (by decide)
  · rw [x6 (227 + 4 * k + 2) ⟨by omega, by omega, by omega, by omega, by omega, by omega⟩, x6 (227 + 4 * k + 3) ⟨by omega, by omega, by omega, by omega, by omega, by omega⟩, t_0]
    omega
theorem rI.md (x : rI f g N V A) (c : rC f g N V A O) : pMd f g V := by
  obtain ⟨⟨c1, c2, c3, c4⟩, c5, c6, c7, c8⟩ := c
  obtain ⟨-, x2, x3, x4, x5, x6⟩ := x
  intro p hp
  rw [x6 (35 + p) ⟨by omega, by omega, by omega, by omega, by omega, by omega⟩]
  have h : ∀ n, n ≤ V → cOf f g (nI p) (nI 1) n = 0 := by
    intro n
    induction n with
    | zero => exact fun _ => rfl
    | succ n ih =>
      intro hn
      rw [cOf, ih (by omega), x6 (47 + n) ⟨by omega, by omega, by omega, by omega, by omega, by omega⟩, if_neg (show ¬ ((0 : Int32) = nI 1) by decide)]
      split <;> rfl
  exact (h V (Nat.le_refl _)).symm
theorem rI.lg (x : rI f g N V A) (c : rC f g N V A O) : pLg g := by
  obtain ⟨⟨c1, c2, c3, c4⟩, c5, c6, c7, c8⟩ := c
  obtain ⟨-, x2, x3, x4, x5, x6⟩ := x
  intro n k h1 h2 h3
  rw [x6 16 ⟨by omega, by omega, by omega, by omega, by omega, by omega⟩] at h1
  have : 0 = n := (nI_eq (a := 0) (by omega) (by omega)).mp h1
  omega
theorem rI.rw (x : rI f g N V A) (c : rC f g N V A O) : xRw f g V A := ⟨x.ws c, x.bs c, x.md c, x.lg c⟩
/-! the row that begins -/
theorem pBg1_e {gg : Nat → Int32} {s : pR} : ∀ {P i : Nat}, pBg1 gg s P i = if 17 ≤ i ∧ i < 17 + P then gg (i - 17) else s i
  | 0, i => by rw [if_neg (by omega)]; rfl
  | P + 1, i => by
    rw [pBg1]
    by_cases c : i = 17 + P
    · rw [c, pu_eq, if_pos (by omega), Nat.add_sub_cancel_left]
    · rw [pu_ne c, pBg1_e]
      by_cases d : 17 ≤ i ∧ i < 17 + P
      · rw [if_pos d, if_pos (by omega)]
      · rw [if_neg d, if_neg (by omega)]
theorem pBg2_e {pr : Nat → Int32} {s : pR} : ∀ {V i : Nat}, V ≤ 20 → pBg2 pr s V i = if 107 ≤ i ∧ i < 107 + V then pr (i - 107) else if 87 ≤ i ∧ i < 87 + V then -1 else s i
  | 0, i, _ => by rw [if_neg (by omega), if_neg (by omega)]; rfl
  | V + 1, i, h => by
    rw [pBg2]
    by_cases c : i = 87 + V
    · rw [c, pu_eq, if_neg (by omega), if_pos (by omega)]
    · rw [pu_ne c]
      by_cases d : i = 107 + V
      · rw [d, pu_eq, if_pos (by omega), Nat.add_sub_cancel_left]
      · rw [pu_ne d, pBg2_e (by omega)]
        by_cases d1 : 107 ≤ i ∧ i < 107 + V
        · rw [if_pos d1, if_pos (by omega)]
        · rw [if_neg d1, if_neg (show ¬ (107 ≤ i ∧ i < 107 + (V + 1)) by omega)]
          by_cases d2 : 87 ≤ i ∧ i < 87 + V
          · rw [if_pos d2, if_pos (by omega)]
          · rw [if_neg d2, if_neg (by omega)]
theorem pBg3_e {s : pR} : ∀ {n i : Nat}, pBg3 s n i = if 127 ≤ i ∧ i < 127 + 10 * n ∧ (i - 127) % 10 = 8 then -1 else s i
  | 0, i => by rw [if_neg (by omega)]; rfl
  | n + 1, i => by
    rw [pBg3]
    by_cases c : i = 127 + 10 * n + 8
    · rw [c, pu_eq, if_pos (by omega)]
    · rw [pu_ne c, pBg3_e]
      by_cases d : 127 ≤ i ∧ i < 127 + 10 * n ∧ (i - 127) % 10 = 8
      · rw [if_pos d, if_pos (by omega)]
      · rw [if_neg d, if_neg (by omega)]
/-- what a State's block shows of its row -/
def pShow (i : Nat) : Prop := (i < 127 ∧ i ≠ 14 ∧ (i < 35 ∨ 41 ≤ i)) ∨ 227 ≤ i ∨ (127 ≤ i ∧ i < 227 ∧ ((i - 127) % 10 = 7 ∨ (i - 127) % 10 = 8))
theorem rI.row (x : rI f g N V A) (c : rC f g N V A O) {i : Nat} (hi : pShow i) : pBg (fun k => g (17 + k)) (fun k => g (107 + k)) (upd (fun _ => 0) 15 (g 15)) N V i = pF A g i := by
  obtain ⟨⟨c1, c2, c3, c4⟩, c5, c6, c7, c8⟩ := c
  obtain ⟨-, x2, x3, x4, x5, x6⟩ := x
  unfold pBg
  rw [pBg3_e, pBg2_e c6, pBg1_e]
  unfold pF
  rcases hi with ⟨h1, h2, h3⟩ | h1 | ⟨h0, h1, h2⟩
  · rw [if_neg (show ¬ (127 ≤ i ∧ i < 127 + 10 * 10 ∧ (i - 127) % 10 = 8) by omega), if_neg (show ¬ (127 + 10 * A ≤ i ∧ i < 227 ∧ (i - 127) % 10 = 7) by omega), if_neg (show ¬ (127 + 10 * A ≤ i ∧ i < 227 ∧ (i - 127) % 10 = 8) by omega)]
    by_cases d : 107 ≤ i ∧ i < 107 + V
    · rw [if_pos d]; exact congrArg g (by omega)
    rw [if_neg d]
    by_cases d2 : 87 ≤ i ∧ i < 87 + V
    · rw [if_pos d2]
      obtain ⟨k, rfl⟩ : ∃ k, i = 87 + k := ⟨i - 87, by omega⟩
      exact (x2 k (by omega)).2.2.2.symm
    rw [if_neg d2]
    by_cases d3 : 17 ≤ i ∧ i < 17 + N
    · rw [if_pos d3]; exact congrArg g (by omega)
    rw [if_neg d3]
    by_cases d4 : i = 15
    · subst d4; rw [pu_eq]
    · rw [pu_ne d4]; exact (x6 i ⟨by omega, by omega, by omega, by omega, by omega, by omega⟩).symm
  · rw [if_neg (show ¬ (127 ≤ i ∧ i < 127 + 10 * 10 ∧ (i - 127) % 10 = 8) by omega), if_neg (show ¬ (127 + 10 * A ≤ i ∧ i < 227 ∧ (i - 127) % 10 = 7) by omega), if_neg (show ¬ (127 + 10 * A ≤ i ∧ i < 227 ∧ (i - 127) % 10 = 8) by omega), if_neg (show ¬ (107 ≤ i ∧ i < 107 + V) by omega), if_neg (show ¬ (87 ≤ i ∧ i < 87 + V) by omega), if_neg (show ¬ (17 ≤ i ∧ i < 17 + N) by omega), pu_ne (by omega)]
    exact (x6 i ⟨by omega, by omega, by omega, by omega, by omega, by omega⟩).symm
  · by_cases d : (i - 127) % 10 = 8
    · rw [if_pos ⟨h0, by omega, d⟩]
      by_cases e : 127 + 10 * A ≤ i
      · rw [if_neg (show ¬ (127 + 10 * A ≤ i ∧ i < 227 ∧ (i - 127) % 10 = 7) by omega), if_pos ⟨e, h1, d⟩]
      · rw [if_neg (show ¬ (127 + 10 * A ≤ i ∧ i < 227 ∧ (i - 127) % 10 = 7) by omega), if_neg (show ¬ (127 + 10 * A ≤ i ∧ i < 227 ∧ (i - 127) % 10 = 8) by omega)]
        obtain ⟨k, rfl⟩ : ∃ k, i = 127 + 10 * k + 8 := ⟨(i - 135) / 10, by omega⟩
        exact (x4 k (by omega)).2.2.2.1.symm
    · have d7 : (i - 127) % 10 = 7 := by omega
      rw [if_neg (show ¬ (127 ≤ i ∧ i < 127 + 10 * 10 ∧ (i - 127) % 10 = 8) by omega), if_neg (show ¬ (107 ≤ i ∧ i < 107 + V) by omega), if_neg (show ¬ (87 ≤ i ∧ i < 87 + V) by omega), if_neg (show ¬ (17 ≤ i ∧ i < 17 + N) by omega), pu_ne (by omega)]
      by_cases e : 127 + 10 * A ≤ i
      · rw [if_pos ⟨e, h1, d7⟩]
      · rw [if_neg (show ¬ (127 + 10 * A ≤ i ∧ i < 227 ∧ (i - 127) % 10 = 7) by omega), if_neg (show ¬ (127 + 10 * A ≤ i ∧ i < 227 ∧ (i - 127) % 10 = 8) by omega)]
        obtain ⟨k, rfl⟩ : ∃ k, i = 127 + 10 * k + 7 := ⟨(i - 134) / 10, by omega⟩
        exact (x4 k (by omega)).2.2.1.symm
theorem sH_show {a : Nat} {s t : pR} {p : (Nat → cP) × Value × Nat} (e : ∀ i, pShow i → s i = t i) : ax_le (sH h a (s, p)) (sH h a (t, p)) := by
  refine sH_le ?_ (fun k h1 h2 j hj => ?_) (fun _ _ => rfl)
  · unfold sF
    have e0 := e 0 (by unfold pShow; omega)
    have e1 := e 1 (by unfold pShow; omega)
    have e2 := e 2 (by unfold pShow; omega)
    have e3 := e 3 (by unfold pShow; omega)
    have e4 := e 4 (by unfold pShow; omega)
    have e5 := e 5 (by unfold pShow; omega)
    have e15 := e 15 (by unfold pShow; omega)
    have e16 := e 16 (by unfold pShow; omega)
    show [p.2.1, _, _, _, _, _, _, _, _, _, _, _, _, _, _, Value.int (s 0), .int (s 1), .int (s 2), .int (s 3), .int (s 4), .int (s 15), .int (s 5), .int (s 16), _, _, _] = _
    rw [e0, e1, e2, e3, e4, e5, e15, e16]
  · have hk : k = 4 ∨ k = 5 ∨ k = 6 ∨ k = 7 ∨ k = 8 ∨ k = 9 ∨ k = 10 ∨ k = 11 ∨ k = 12 ∨ k = 13 ∨ k = 14 ∨ k = 15 := by omega
    rcases hk with rfl | rfl | rfl | rfl | rfl | rfl | rfl | rfl | rfl | rfl | rfl | rfl <;> exact e _ (by unfold pShow; simp only [sLen, sIx] at hj ⊢; omega)
/-! the block -/
/-- the addresses of what was read -/
def xDn (sc Lp Lv Lo ep ev eo ea rl : Nat) (xp xv xo xa : Nat → Nat) (Fp Fv Fo Fa : Nat → Option Nat) (kp kv ko ka : Nat) (mp mv mo ma : Int32) : cD :=
  (fun i => match i with | 0 => sc | 1 => Lp | 2 => Lv | 3 => Lo | 4 => ep | 5 => ev | 6 => eo | 7 => ea | _ => rl,
   fun j => match j with | 0 => xp | 1 => xv | 2 => xo | _ => xa, fun j => match j with | 0 => Fp | 1 => Fv | 2 => Fo | _ => Fa, fun j => match j with | 0 => kp | 1 => kv | 2 => ko | _ => ka, fun j => match j with | 0 => mp | 1 => mv | 2 => mo | _ => ma)
def xBad (e : ax_E) : Prop := (∃ ci fs, e = .inr (ci, fs) ∧ ((12 ≤ ci ∧ ci ≤ 15) ∨ ci = 19)) ∨ ∃ n f, e = .inl (.byte, n, f) ∧ n < 9
theorem xBad_o {ci : Nat} {fs : List Value} (c : (12 ≤ ci ∧ ci ≤ 15) ∨ ci = 19) : xBad (.inr (ci, fs)) := Or.inl ⟨ci, fs, rfl, c⟩
/-- what a text leaves is a State block -/
theorem ld_blk {z Lp Lv Lo sc a ep ev eo ea : Nat} {xp xv xo xa nm ln : Nat → Nat} {lt : Nat → Nat → Nat} {π : Nat → cP} (hΩ : Ω.2.1.heap.size ≤ z) (T : xTq h z Lp Lv Lo (a + 2) f g N V A O ep ev eo ea xp xv xo xa nm ln lt) (d : xLd z Lp Lv Lo (a + 2)) (wf : ax_wf h)
    (hsc : h.1 sc = some (.inr (10, [.ref Lp, .ref Lv, .ref Lo, .int (f 0), .int (f 1), .int (f 2), .int (f 3), .int (f 4), .int (f 6), .int (f 7), .int (f 8), .int (f 9)]))) (zs : z ≤ sc) (hS : sIs h a (pF A g, π, .ref sc, a + 1)) (hr : h.1 (a + 1) = some (.inr (2, []))) (c : rC f g N V A O) (x : rI f g N V A) (za : z ≤ a) (ha : a + 18 < h.2)
    (hw : ∀ q, z ≤ q → w q = if (a ≤ q ∧ q ≤ a + 18 ∧ q ≠ a + 1 ∧ q ≠ a + 3) ∨ q = ea then a + 10 else 1) (hcl : ∀ q e, q < z → h.1 q = some e → xBad e → w q = 1) : ∃ D, xBk Ω h w a f g N V O A D π 0 := by
  obtain ⟨⟨mp, kp, Fp, p1, p2, p3, p4, p5, p6, p7⟩, ⟨mv, kv, Fv, v1, v2, v3, v4, v5, v6, v7⟩, ⟨mo, ko, Fo, o1, o2, o3, o4, o5, o6, o7⟩, ⟨ma, ka, Fa, l1, l2, l3, l4, l5, l6, l7⟩, n0, ⟨t1, t2, t3⟩, ⟨⟨u1, u2, u3, u4, u5, u6⟩, u7, u8, u9, u0⟩⟩ := T
  obtain ⟨⟨d1, d2, d3, d4, d5, d6⟩, d7, d8, d9, d0⟩ := d
  -- a thing is its own for ever
  have bad : ∀ q e, h.1 q = some e → xBad e → w q = 1 := fun q e hq hb => by
    by_cases cz : q < z
    · exact hcl q e cz hq hb
    · rw [hw q (by omega)]
      refine if_neg fun y => ?_
      have hea : q ≠ ea := fun y => by
        rw [y, l2] at hq; cases hq
        rcases hb with ⟨ci, fs, y, -⟩ | ⟨n, f, y, -⟩ <;> cases y
      have k1 : ∀ fs, e ≠ .inr (1, fs) := fun fs y => by subst y; rcases hb with ⟨ci, fs, y, k⟩ | ⟨n, f, y, -⟩ <;> cases y; omega
      have k6 : ∀ fs, e ≠ .inr (6, fs) := fun fs y => by subst y; rcases hb with ⟨ci, fs, y, k⟩ | ⟨n, f, y, -⟩ <;> cases y; omega
      have ki : ∀ v, e ≠ .inl (.int, v) := fun v y => by subst y; rcases hb with ⟨ci, fs, y, k⟩ | ⟨n, f, y, -⟩ <;> cases y
      have ho := hS.out hq k1 k6 ki
      have k2 : q ≠ a + 2 := fun y => by
        rw [y, l1] at hq; cases hq
        rcases hb with ⟨ci, fs, y, k⟩ | ⟨n, f, y, -⟩ <;> cases y; omega
      omega
  have lst : ∀ q fs, z ≤ q → q ≠ a + 2 → h.1 q = some (.inr (16, fs)) ∨ h.1 q = some (.inr (10, fs)) → w q = 1 := fun q fs hz h2 hq => by
    rw [hw q hz]
    refine if_neg fun y => ?_
    have hea : q ≠ ea := fun y => by
      rw [y, l2] at hq; rcases hq with hq | hq <;> cases hq
    have ho : q < a ∨ a + 18 < q ∨ (a < q ∧ q < a + 4) := by
      rcases hq with hq | hq <;> exact hS.out hq (fun fs y => by cases y) (fun fs y => by cases y) (fun v y => by cases y)
    omega
  have arr : ∀ q e, z ≤ q → q ≠ ea → h.1 q = some (.inl (.object "java/lang/Object", e)) → w q = 1 := fun q e hz h2 hq => by
    rw [hw q hz]
    refine if_neg fun y => ?_
    have ho : q < a ∨ a + 18 < q ∨ (a < q ∧ q < a + 4) := hS.out hq (fun fs y => by cases y) (fun fs y => by cases y) (fun v y => by cases y)
    have k2 : q ≠ a + 2 := fun y => by rw [y, l1] at hq; cases hq
    omega
  have nsc : sc ≠ a + 2 := fun y => by rw [y, l1] at hsc; cases hsc
  refine ⟨xDn sc Lp Lv Lo ep ev eo ea (a + 1) xp xv xo xa Fp Fv Fo Fa kp kv ko ka mp mv mo ma, hS, ⟨xIo.i hsc (lst _ _ zs nsc (Or.inr hsc)), ⟨xIo.i p1 (lst _ _ d7 d3 (Or.inl p1)), xIo.i p2 (arr _ _ u7 u3 p2), p5, by show kp < 1000; omega, p6⟩, ⟨xIo.i v1 (lst _ _ d8 d5 (Or.inl v1)), xIo.i v2 (arr _ _ u8 u5 v2), v5, by show kv < 1000; omega, v6⟩, ⟨xIo.i o1 (lst _ _ d9 d6 (Or.inl o1)), xIo.i o2 (arr _ _ u9 u6 o2), o5, by show ko < 1000; omega, o6⟩, fun k hk => ⟨_, xIo.i (t1 k hk) (bad _ _ (t1 k hk) (xBad_o (by decide)))⟩, fun k hk => xIo.i (t3 k hk) (bad _ _ (t3 k hk) (xBad_o (by decide)))⟩, ⟨l1, l2, ⟨l3, l4, l5⟩, l6, fun i hi q hq => ?_, fun k hk => xIo.i (t2 k hk) (bad _ _ (t2 k hk) (xBad_o (by decide)))⟩, ⟨xIo.i hr ?_, by decide, x.2.2.2.2.2 5 ⟨by omega, by omega, by omega, by omega, by omega, by omega⟩⟩, ⟨nm, ln, lt, g, fun k hk => ?_⟩, ⟨fun q q1 q2 q3 => ?_, ?_, ?_, by omega, ha, by show Ω.2.1.heap.size ≤ ea; omega, ?_⟩, x.wp c, x.bp, x.rw c⟩
  · obtain ⟨fs, e⟩ := l7 i hi q hq
    exact ⟨fs, xIo.i e (bad _ _ e (xBad_o (by decide)))⟩
  · show w (a + 1) = 1
    rw [hw _ (by omega)]
    exact if_neg fun y => by
      have : a + 1 ≠ ea := fun y => by rw [← y, hr] at l2; cases l2
      omega
  · obtain ⟨a1, ⟨e, hs, hz, b, a2, a3, a4, a5⟩, a6, a7⟩ := n0 k hk
    exact ⟨xIo.i a1 (bad _ _ a1 (xBad_o (by decide))), ⟨e, hs, hz, b, xIo.i a2 (bad _ _ a2 (xBad_o (by decide))), xIo.i a3 (bad _ _ a3 (Or.inr ⟨_, _, rfl, by omega⟩)), a4, a5⟩, a6, a7⟩
  · rw [hw _ (by omega)]; exact if_pos (Or.inl ⟨q1, q2, q3⟩)
  · show w ea = a + 10
    rw [hw _ u0]; exact if_pos (Or.inr rfl)
  · show ea < a ∨ a + 18 < ea ∨ ea = a + 3
    have ho : ea < a ∨ a + 18 < ea ∨ (a < ea ∧ ea < a + 4) := hS.out l2 (fun fs y => by cases y) (fun fs y => by cases y) (fun v y => by cases y)
    have k1 : ea ≠ a + 1 := fun y => by rw [y, hr] at l2; cases l2
    have k2 : ea ≠ a + 2 := fun y => by rw [y, l1] at l2; cases l2
    omega
  · rw [hw _ (by omega)]
    by_cases y : a + 3 = ea
    · exact Or.inl (if_pos (Or.inr y))
    · exact Or.inr (if_neg (by omega))
end LAWK
