/-! THE TEXT's MAKER: what is written so far, beside the heap h -/
/-- at h1 the maker at lb holds the n letters t; e0: its array in h; all else of h stays -/
def xAp (h h1 : ax_H) (lb e0 n : Nat) (t : Nat → Nat) : Prop := ∃ e, sB h1 lb e n t ∧ (e = e0 ∨ h.2 ≤ e) ∧ (∀ q, q < h.2 → q ≠ lb → q ≠ e0 → h1.1 q = h.1 q) ∧ h.2 ≤ h1.2 ∧ ax_wf h1
/-- the tables of digits -/
def xDg (Ω : ax_O) (h : ax_H) : Prop := ∃ (dO dT : Nat) (tO tT : Nat → Int32), va_Z "java/lang/Integer" "DigitOnes" "[B" (.ref dO) (ax_A Ω) Ω.2.1 Ω.2.1.heap ∧ va_Z "java/lang/Integer" "DigitTens" "[B" (.ref dT) (ax_A Ω) Ω.2.1 Ω.2.1.heap ∧ h.1 dO = some (.inl (.byte, 100, .inl tO)) ∧ h.1 dT = some (.inl (.byte, 100, .inl tT)) ∧
  (∀ k, k < 100 → tO k = sb_b (48 + k % 10)) ∧ (∀ k, k < 100 → tT k = sb_b (48 + k / 10)) ∧ dO < Ω.2.1.heap.size ∧ dT < Ω.2.1.heap.size
section XAP
variable {Ω : ax_O} {h h1 h2 : ax_H} {lb e0 n : Nat} {t : Nat → Nat}
theorem xDg.sb {g g' : ax_H} (k : xSb g g') (x : xDg Ω g) : xDg Ω g' := by
  obtain ⟨dO, dT, tO, tT, a1, a2, a3, a4, a5⟩ := x
  exact ⟨dO, dT, tO, tT, a1, a2, k _ _ a3, k _ _ a4, a5⟩
theorem xAp.nx {e n' : Nat} {t' : Nat → Nat} (he : e = e0 ∨ h.2 ≤ e) (f : ∀ q, q < h.2 → q ≠ lb → q ≠ e0 → h1.1 q = h.1 q) (z : h.2 ≤ h1.2) (c : cApp h1 h2 lb e n' t') : xAp h h2 lb e0 n' t' := by
  obtain ⟨e', b1, b2, b3, b4⟩ := c
  refine ⟨e', b1, ?_, fun q q1 q2 q3 => (b3 q (by omega) q2 (by omega)).trans (f q q1 q2 q3), by omega, b4⟩
  rcases b2 with ⟨b2, -⟩ | ⟨b2, -⟩
  · rw [b2]; exact he
  · omega
theorem xa_0 (hA : ax_Amb Ω) (wf : ax_wf h) (hz : Ω.2.1.heap.size ≤ h.2) (hS : sB h lb e0 n t) (hb : Ω.2.1.heap.size ≤ lb) (he : Ω.2.1.heap.size ≤ e0) : ax_MetP Ω yJ8_setLength 6 1 200 [.ref lb, .int (nI 0)] h (ax_Nm fun v h2 => v = none ∧ xAp h h2 lb e0 0 t) :=
  (ct_bset08 hA wf hz hS hb he).mono fun o h2 q => by
    obtain ⟨v, rfl, rfl, c⟩ := q
    exact ⟨_, rfl, rfl, xAp.nx (Or.inl rfl) (fun _ _ _ _ => rfl) (Nat.le_refl _) c⟩
theorem xa_C (hA : ax_Amb Ω) (hz : Ω.2.1.heap.size ≤ h.2) (x : xAp h h1 lb e0 n t) (hb : Ω.2.1.heap.size ≤ lb) (he : Ω.2.1.heap.size ≤ e0) (c : Nat) (hc : c < 256) (hn : n < 60) : ax_MetP Ω yJ8_append_3 6 1 200 [.ref lb, .int (nI c)] h1 (ax_Nm fun v h2 => v = some (.ref lb) ∧ xAp h h2 lb e0 (n + 1) (sb_cat t n fun _ => c)) := by
  obtain ⟨e, x1, x2, x3, x4, x5⟩ := x
  exact (ct_bapp8C hA x5 (by omega) x1 hb (by omega) c hc hn).mono fun o h2 q => by
    obtain ⟨v, rfl, rfl, c⟩ := q
    exact ⟨_, rfl, rfl, xAp.nx x2 x3 x4 c⟩
theorem xa_I (hA : ax_Amb Ω) (wf : ax_wf h) (hz : Ω.2.1.heap.size ≤ h.2) (dg : xDg Ω h) (x : xAp h h1 lb e0 n t) (hb : Ω.2.1.heap.size ≤ lb) (he : Ω.2.1.heap.size ≤ e0) (u : Nat) (hu : u < 100000) (hn : n ≤ 50) : ax_MetP Ω yJ8_append_2 6 1 200 [.ref lb, .int (nI u)] h1 (ax_Nm fun v h2 => v = some (.ref lb) ∧ xAp h h2 lb e0 (n + sb_dg u) (sb_cat t n (sb_dec u))) := by
  obtain ⟨e, x1, x2, x3, x4, x5⟩ := x
  obtain ⟨dO, dT, tO, tT, z1, z2, z3, z4, z5, z6, z7, z8⟩ := dg
  exact (ct_bapp8I hA x5 (by omega) x1 hb (by omega) z1 z2 ((x3 _ (by omega) (by omega) (by omega)).trans z3) ((x3 _ (by omega) (by omega) (by omega)).trans z4) z5 z6 z7 z8 u hu hn).mono fun o h2 q => by
    obtain ⟨v, rfl, rfl, c⟩ := q
    exact ⟨_, rfl, rfl, xAp.nx x2 x3 x4 c⟩
/-- a string told in h is told still, and is not the maker's -/
theorem xAp.str {n0 : Nat} {t0 : Nat → Nat} (wf : ax_wf h) (x : xAp h h1 lb e0 n t) (hS : sB h lb e0 n0 t0) {w m : Nat} {s : Nat → Nat} (hs : sStr h w m s) (hm : m ≤ 10) : ∃ (e2 : Nat) (hs hz2 : Int32) (b : Nat → Int32), h1.1 w = some (.inr (19, [.ref e2, .int (nI 0), .int hs, .int hz2])) ∧ h1.1 e2 = some (.inl (.byte, m, .inl b)) ∧ sb_Lat s m b ∧ sb_Fit b ∧ e2 < h.2 ∧ e2 ≠ e0 := by
  obtain ⟨e, x1, x2, x3, x4, x5⟩ := x
  obtain ⟨m0, ml, a, y1, y2, y3, -⟩ := hS
  obtain ⟨e2, hs, hz, b, b1, b2, b3, b4⟩ := hs
  have n1 : w ≠ lb := fun z => by rw [z, y1] at b1; cases b1
  have n2 : w ≠ e0 := fun z => by rw [z, y2] at b1; cases b1
  have n3 : e2 ≠ lb := fun z => by rw [z, y1] at b2; cases b2
  have n4 : e2 ≠ e0 := fun z => by rw [z, y2] at b2; cases b2; omega
  exact ⟨e2, hs, hz, b, (x3 _ (wf.lt b1) n1 n2).trans b1, (x3 _ (wf.lt b2) n3 n4).trans b2, b4, b3, wf.lt b2, n4⟩
theorem xa_S (hA : ax_Amb Ω) (wf : ax_wf h) (hz : Ω.2.1.heap.size ≤ h.2) {n0 : Nat} {t0 : Nat → Nat} (x : xAp h h1 lb e0 n t) (hS : sB h lb e0 n0 t0) (hb : Ω.2.1.heap.size ≤ lb) (he : Ω.2.1.heap.size ≤ e0) {w m : Nat} {s : Nat → Nat} (hs : sStr h w m s) (hm : m ≤ 10) (hn : n ≤ 50) : ax_MetP Ω yJ8_append 6 1 200 [.ref lb, .ref w] h1 (ax_Nm fun v h2 => v = some (.ref lb) ∧ xAp h h2 lb e0 (n + m) (sb_cat t n s)) := by
  obtain ⟨e2, k1, k2, b, b1, b2, b3, b4, b5, b6⟩ := x.str wf hS hs hm
  obtain ⟨e, x1, x2, x3, x4, x5⟩ := x
  exact (ct_bapp8S hA x5 (by omega) x1 hb (by omega) b1 b2 b3 b4 hm (by omega) hn).mono fun o h2 q => by
    obtain ⟨v, rfl, rfl, c⟩ := q
    exact ⟨_, rfl, rfl, xAp.nx x2 x3 x4 c⟩
theorem xa_Q (hA : ax_Amb Ω) (wf : ax_wf h) (hz : Ω.2.1.heap.size ≤ h.2) {n0 : Nat} {t0 : Nat → Nat} (x : xAp h h1 lb e0 n t) (hS : sB h lb e0 n0 t0) (hb : Ω.2.1.heap.size ≤ lb) (he : Ω.2.1.heap.size ≤ e0) {w m : Nat} {s : Nat → Nat} (hs : sStr h w m s) (hm : m ≤ 10) (hn : n ≤ 50) : ax_MetP Ω yJ8_append_4 9 1 200 [.ref lb, .ref w] h1 (ax_Nm fun v h2 => v = some (.ref lb) ∧ xAp h h2 lb e0 (n + m) (sb_cat t n s)) := by
  obtain ⟨e2, k1, k2, b, b1, b2, b3, b4, b5, b6⟩ := x.str wf hS hs hm
  obtain ⟨e, x1, x2, x3, x4, x5⟩ := x
  exact (ct_bapp8Q hA x5 (by omega) x1 hb (by omega) b1 b2 b3 b4 hm (by omega) hn).mono fun o h2 q => by
    obtain ⟨v, rfl, rfl, c⟩ := q
    exact ⟨_, rfl, rfl, xAp.nx x2 x3 x4 c⟩
theorem xa_len (hA : ax_Amb Ω) (x : xAp h h1 lb e0 n t) : ax_Met Ω yJ8_length 1 0 0 [.ref lb] h1 (.inl (some (.int (nI n)))) h1 := by
  obtain ⟨e, ⟨m0, ml, a, y1, y2, -⟩, -⟩ := x
  exact ct_blen8 hA y1 y2
theorem xAp.obj (x : xAp h h1 lb e0 n t) : ∃ fs, h1.1 lb = some (.inr (18, fs)) := by
  obtain ⟨e, ⟨m0, ml, a, y1, y2, -⟩, -⟩ := x
  exact ⟨_, y1⟩
end XAP
