/-! THE PURE LAW, third part: breaks; what a step alters -/
section LAWC
variable {pl s t : pR} {P V O A : Nat}
theorem t_sub {a b : Int32} {x y u v : Int} (ha : vB a x y) (hb : vB b u v) (h1 : -2147483648 ≤ x - v) (h2 : y - u < 2147483648) : (a - b).toInt = a.toInt - b.toInt := by
  obtain ⟨a1, a2⟩ := ha
  obtain ⟨b1, b2⟩ := hb
  exact i32_sub (by omega) (by omega)
theorem t_add {a b : Int32} {x y u v : Int} (ha : vB a x y) (hb : vB b u v) (h1 : -2147483648 ≤ x + u) (h2 : y + v < 2147483648) : (a + b).toInt = a.toInt + b.toInt := by
  obtain ⟨a1, a2⟩ := ha
  obtain ⟨b1, b2⟩ := hb
  exact i32_add (by omega) (by omega)
/-- an alert breaks a visit as the component says it: its conditions -/
theorem cCb_e (hw : pWP pl P V O) (hW : pWS s A) (hp : pBP pl V) (hs : pBS pl s A) {v k : Nat} (hv : v < 20) (hk : k < 10) (h0 : s (127 + 10 * k + 7) = 0) (h1 : cStart pl s v < pFrom pl s (20 + k)) (h2 : pFrom pl s (20 + k) < cStart pl s v + pDur pl s v) :
    cCb pl s O v k (cStart pl s v) (cDump pl s v) = pReason pl (pAside pl (pComes pl s v) v (pFrom pl (pComes pl s v) (20 + k))) (20 + k) := by
  have tv := pBT.of hp hs.al (k := v) (by omega)
  have tk := pBT.of hp hs.al (k := 20 + k) (by omega)
  have hi := comes_im hw hW (k := v) (by omega)
  obtain ⟨c0, c1, c2, c3⟩ := comes_0 hw hW hp hs.r (k := v) (by omega) tv
  obtain ⟨⟨st1, st2⟩, -⟩ := cStart_b hp hs.r tv
  have hq6 := pQ_l hw hW (k := v) (by omega)
  have hE := cEnd_t hp hs.r tv tv.2.2.1
  have l1 := lt_t.mp h1
  have l2 := lt_t.mp h2
  rw [hE] at l2
  have hd := tv.2.2.1.2
  have hel : (pFrom pl s (20 + k) - cStart pl s v).toInt = (pFrom pl s (20 + k)).toInt - (cStart pl s v).toInt := t_sub tk.2.2.2.2.1 ⟨st1, st2⟩ (by decide) (by decide)
  have eb : vB (pFrom pl s (20 + k) - cStart pl s v) 0 300 := ⟨by omega, by omega⟩
  have gb := grows_b (k := v) tv eb
  rw [pFrom_im hi (by omega)]
  -- the model's row laid aside
  generalize hr : pAside pl (pComes pl s v) v (pFrom pl s (20 + k)) = r
  have r_of : ∀ i, i ≠ 0 → i ≠ 3 → i ≠ 29 + pQ pl s v → r i = pComes pl s v i := by
    intro i i0 i3 i29
    rw [← hr]
    unfold pAside
    rw [pQ_im hi (by omega)]
    simp (disch := omega) only [↓pad_ne, ↓pu_ne]
  have r0 : r 0 = pFrom pl s (20 + k) := by
    rw [← hr]
    unfold pAside
    rw [pQ_im hi (by omega)]
    simp (disch := omega) only [↓pad_ne, ↓pu_ne, ↓pu_eqq]
  have r1 : r 1 = pLon pl s v := (r_of 1 (by omega) (by omega) (by omega)).trans c1
  have r2 : r 2 = pLat pl s v := (r_of 2 (by omega) (by omega) (by omega)).trans c2
  have gi : pGrows pl (upd (pComes pl s v) 0 (pFrom pl s (20 + k))) v (pFrom pl s (20 + k) - pComes pl s v 0) = pGrows pl s v (pFrom pl s (20 + k) - cStart pl s v) := by
    rw [c0, pGrows_im (hi.up (fun _ _ _ _ => by omega)) (by omega)]
  have r3 : r 3 = (if 0 < cDump pl s v then nI 0 else s 3) + pGrows pl s v (pFrom pl s (20 + k) - cStart pl s v) := by
    rw [← hr]
    unfold pAside
    rw [pQ_im hi (by omega), gi]
    simp (disch := omega) only [↓pad_ne, ↓pad_eq, ↓pu_ne]
    rw [c3]
  have rl : r (29 + pQ pl s v) = s (29 + pQ pl s v) + (pFrom pl s (20 + k) - cStart pl s v) := by
    rw [← hr]
    unfold pAside
    rw [pQ_im hi (by omega), c0]
    simp (disch := omega) only [↓pad_ne, ↓pad_eq, ↓pu_ne]
    rw [comes_o hw hW (by omega) (by omega)]
  have ri : pIm s r := hi.trans (pIm_of fun i i1 i2 => r_of i (by omega) (by omega) (by omega))
  have rst : r (127 + 10 * k + 7) = 0 := by
    rw [r_of _ (by omega) (by omega) (by omega), comes_o hw hW (by omega) (by omega)]; exact h0
  have m3 : vB (if 0 < cDump pl s v then nI 0 else s 3) 0 9999 := by
    split
    · exact ⟨by rw [t_n0]; omega, by rw [t_n0]; omega⟩
    · exact hs.m
  have r3t := t_add m3 gb (by decide) (by decide)
  have rR : pBR r := by
    refine ⟨by rw [r0]; exact tk.2.2.2.2.1, by rw [r1]; exact tv.1, by rw [r2]; exact tv.2.1, ?_⟩
    rw [r3]
    obtain ⟨x1, x2⟩ := m3
    obtain ⟨y1, y2⟩ := gb
    exact ⟨by omega, by omega⟩
  have rT : pBT pl r (20 + k) := tk.im ri (by omega)
  rw [← cRs_e hw hp rR rT (O := O) (by rw [pSt_al]; exact rst)]
  -- the component's row
  have wi : pIm s (cRow pl s v k (cStart pl s v) (cDump pl s v)) := pIm_row
  generalize hwr : cRow pl s v k (cStart pl s v) (cDump pl s v) = w at wi
  have w0 : w 0 = r 0 := by rw [← hwr, r0]; unfold cRow; simp (disch := omega) only [↓pu_ne, ↓pu_eqq]
  have w1 : w 1 = r 1 := by rw [← hwr, r1]; unfold cRow; simp (disch := omega) only [↓pu_ne, ↓pu_eqq]
  have w2 : w 2 = r 2 := by rw [← hwr, r2]; unfold cRow; simp (disch := omega) only [↓pu_ne, ↓pu_eqq]
  have w3 : w 3 = r 3 := by rw [← hwr, r3]; unfold cRow; simp (disch := omega) only [↓pu_ne, ↓pu_eqq]
  have wr : pIm r w := fun k' hk' j hj => (wi k' hk' j hj).trans (ri k' hk' j hj).symm
  have lf : cLf pl s v k (cStart pl s v) = pLeft r (pQ pl r (20 + k)) := by
    have hq := pQ_l hw hW (k := 20 + k) (by omega)
    rw [pQ_im ri (by omega)]
    unfold cLf pLeft
    generalize pQ pl s (20 + k) = q at hq
    rw [r_of (17 + q) (by omega) (by omega) (by omega), r_of (23 + q) (by omega) (by omega) (by omega), comes_o hw hW (i := 17 + q) (by omega) (by omega), comes_o hw hW (i := 23 + q) (by omega) (by omega)]
    by_cases e : q = pQ pl s v
    · rw [if_pos e, e, rl, Int32.sub_sub]
    · rw [if_neg e, r_of (29 + q) (by omega) (by omega) (by omega), comes_o hw hW (i := 29 + q) (by omega) (by omega)]
      exact Int32.sub_zero _
  unfold cCb cRs
  rw [hwr, lf, cRsn_im wr (by omega), pDur_im wr (by omega), pGrows_im wr (by omega), cStart_im wr (by omega) w0 w1 w2 w3]
theorem cFB_e (hw : pWP pl P V O) (hW : pWS s A) (hp : pBP pl V) (hs : pBS pl s A) {v : Nat} (hv : v < 20) : ∀ {n : Nat}, n ≤ 10 → (cFB pl s O v (cStart pl s v) (cStart pl s v + pDur pl s v) (cDump pl s v) n).map (20 + ·) = pBr pl (pComes pl s v) v n
  | 0, _ => rfl
  | n + 1, h => by
    have ih := cFB_e hw hW hp hs hv (n := n) (by omega)
    have tv := pBT.of hp hs.al (k := v) (by omega)
    have hi := comes_im hw hW (k := v) (by omega)
    have hq6 := pQ_l hw hW (k := v) (by omega)
    obtain ⟨c0, -, -, -⟩ := comes_0 hw hW hp hs.r (k := v) (by omega) tv
    have hcb := cCb_e hw hW hp hs hv (k := n) (by omega)
    have est : pComes pl s v (127 + 10 * n + 7) = s (127 + 10 * n + 7) := comes_o hw hW (by omega) (by omega)
    rw [cFB, pBr, ← ih]
    unfold cFBS pBrS pBreaks pBrkNo
    rw [pSt_al, est, c0, pDur_im hi (by omega)]
    rw [pFrom_im hi (k := 20 + n) (by omega)] at hcb ⊢
    generalize hb : cFB pl s O v (cStart pl s v) (cStart pl s v + pDur pl s v) (cDump pl s v) n = b
    by_cases e : s (127 + 10 * n + 7) = 0
    · rw [if_pos e, if_pos e]
      by_cases e1 : pFrom pl s (20 + n) ≤ cStart pl s v
      · rw [if_pos e1, if_pos e1, if_pos rfl, if_neg (by decide)]
      · rw [if_neg e1, if_neg e1]
        by_cases e2 : pFrom pl s (20 + n) < cStart pl s v + pDur pl s v
        · rw [if_pos e2, decide_eq_false (Int32.not_le.mpr e2), if_neg (show ¬ (false = true) by decide), hcb e (Int32.not_le.mp e1) e2]
          by_cases e3 : pReason pl (pAside pl (pComes pl s v) v (pFrom pl s (20 + n))) (20 + n) = 0
          · rw [decide_eq_true e3, if_pos (show (true = true) from rfl)]
            cases b with
            | none => dsimp only; rw [if_pos e3]; rfl
            | some o =>
              have ho := cFB_l hb
              dsimp only [Option.map]
              rw [if_pos e3, pFrom_im hi (k := 20 + o) (by omega)]
              by_cases e4 : pFrom pl s (20 + n) < pFrom pl s (20 + o)
              · rw [if_pos e4, if_neg (Int32.not_le.mpr e4)]
              · rw [if_neg e4, if_pos (Int32.not_lt.mp e4)]
          · rw [decide_eq_false e3, if_neg (show ¬ (false = true) by decide)]
            cases b with
            | none => dsimp only; rw [if_neg e3]
            | some o =>
              dsimp only
              rw [if_neg e3]
              split <;> rfl
        · rw [if_neg e2, decide_eq_true (Int32.not_lt.mp e2), if_pos rfl, if_neg (by decide)]
    · rw [if_neg e, if_neg e, if_pos rfl, if_neg (by decide)]
theorem cFB_in {v : Nat} {st en dm : Int32} : ∀ {n k : Nat}, cFB pl s O v st en dm n = some k → st < pFrom pl s (20 + k) ∧ pFrom pl s (20 + k) < en
  | 0, k, h => by cases h
  | n + 1, k, h => by
    have h9 := h
    unfold cFB cFBS at h9
    split at h9
    · split at h9
      · exact cFB_in h9
      · rename_i e1
        split at h9
        · rename_i e2
          split at h9
          · split at h9
            · cases h9; exact ⟨Int32.not_le.mp e1, e2⟩
            · cases h9
          · rename_i o e
            have := cFB_in e
            split at h9
            · split at h9
              · cases h9; exact ⟨Int32.not_le.mp e1, e2⟩
              · cases h9; exact this
            · cases h9; exact this
        · exact cFB_in h9
    · exact cFB_in h9
/-! what a step alters -/
/-- rows that agree but for how many visits are done -/
def pEq (s t : pR) : Prop := ∀ i, (i < 35 ∨ 41 ≤ i) → s i = t i
theorem passA_im {k : Nat} {mi : Int32} : pIm s (pPassA pl s k mi) := pIm_of fun i h1 h2 => by
  unfold pPassA
  simp (disch := omega) only [↓pad_ne]
theorem pass_e {k : Nat} (hk : k < 30) {mi : Int32} {l : Bool} : pPasses pl s k mi l = pAdds (pAdd (pAdd (pAdd s 3 (pGrows pl s k mi)) 0 mi) ((if l = true then 29 else 23) + pQ pl s k) mi) (if l = true then 1 else 0) mi := by
  unfold pPasses pPassB
  rw [pQ_im passA_im hk]
  rfl
theorem car_e (hw : pWP pl P V O) (hW : pWS s A) (hp : pBP pl V) (hr : pBR s) {k : Nat} (hk : k < 30) (ht : pBT pl s k) {mi : Int32} {l : Bool} (hl : l = !decide (mi = pDur pl s k)) : cCar pl s k (cDump pl s k) (cSlw pl s k) (cStart pl s k) mi = pPasses pl (pComes pl s k) k mi l := by
  have hq6 := pQ_l hw hW hk
  have hi := comes_im hw hW hk
  obtain ⟨a0, a3, a9, a12⟩ := comesA_0 (s := s) (k := k) hp
  obtain ⟨b0, b1, b2, b3⟩ := comes_0 hw hW hp hr hk ht
  have bo := fun i hi => comes_o hw hW (k := k) (i := i) hk hi
  have A0 : ∀ i, i ≠ 3 ∧ i ≠ 9 ∧ i ≠ 12 → cCarA s (cDump pl s k) i = s i := by
    intro i h
    unfold cCarA cMd
    split
    · simp (disch := omega) only [↓pad_ne, ↓pu_ne]
    · rfl
  have A3 : cCarA s (cDump pl s k) 3 = (if 0 < cDump pl s k then nI 0 else s 3) := by
    unfold cCarA cMd
    split
    · simp (disch := omega) only [↓pad_ne, ↓pu_ne, ↓pu_eqq]
    · rfl
  have A9 : cCarA s (cDump pl s k) 9 = (if 0 < cDump pl s k then s 9 + cDump pl s k else s 9) := by
    unfold cCarA cMd
    split
    · simp (disch := omega) only [↓pad_ne, ↓pu_ne, ↓pad_eq]
    · rfl
  have A12 : cCarA s (cDump pl s k) 12 = (if 0 < cDump pl s k then s 12 + nI 1 else s 12) := by
    unfold cCarA cMd
    split
    · simp (disch := omega) only [↓pad_ne, ↓pu_ne, ↓pad_eq]
    · rfl
  have b8 : pComes pl s k 8 = s 8 + cSlw pl s k := by
    rw [comes_e hw hW hk]
    simp (disch := omega) only [↓pads_ne, ↓pad_ne, ↓pu_ne, ↓pads_eq, ↓pad_eq, ↓pu_eqq]
    rw [comesA_o (by omega), cSlw_e hr ht]
  have b41 : pComes pl s k (41 + pQ pl s k) = s (41 + pQ pl s k) + cSlw pl s k := by
    rw [comes_e hw hW hk]
    simp (disch := omega) only [↓pads_ne, ↓pad_ne, ↓pu_ne, ↓pads_eq, ↓pad_eq, ↓pu_eqq]
    rw [comesA_o (by omega), cSlw_e hr ht]
  have b9 : pComes pl s k 9 = (if 0 < cDump pl s k then s 9 + cDump pl s k else s 9) := by
    rw [comes_e hw hW hk]
    simp (disch := omega) only [↓pads_ne, ↓pad_ne, ↓pu_ne]
    exact a9
  have b12 : pComes pl s k 12 = (if 0 < cDump pl s k then s 12 + nI 1 else s 12) := by
    rw [comes_e hw hW hk]
    simp (disch := omega) only [↓pads_ne, ↓pad_ne, ↓pu_ne]
    exact a12
  rw [pass_e hk, pQ_im hi hk, pGrows_im hi hk]
  unfold cCar
  clear a0 a3 a9 a12 hi
  generalize cCarA s (cDump pl s k) = u at A0 A3 A9 A12 ⊢
  generalize pComes pl s k = c at b0 b1 b2 b3 b8 b9 b12 b41 bo ⊢
  generalize pGrows pl s k mi = g
  generalize pQ pl s k = q at hq6 b41 bo ⊢
  generalize cDump pl s k = dm at *
  funext i
  have cs : i = 0 ∨ i = 1 ∨ i = 2 ∨ i = 3 ∨ i = 8 ∨ i = 9 ∨ i = 12 ∨ i = 41 + q ∨ i = 23 + q ∨ i = 29 + q ∨ i = 6 ∨ i = 7 ∨ (i ≠ 0 ∧ i ≠ 1 ∧ i ≠ 2 ∧ i ≠ 3 ∧ i ≠ 8 ∧ i ≠ 9 ∧ i ≠ 12 ∧ i ≠ 41 + q ∧ i ≠ 23 + q ∧ i ≠ 29 + q ∧ i ≠ 6 ∧ i ≠ 7) := by omega
  cases hd : decide (mi = pDur pl s k) with
  | true =>
    rw [hd] at hl
    subst hl
    unfold cCarD cCarC cCarB
    rw [if_pos rfl, Bool.not_true, if_neg (by decide), if_neg (by decide)]
    rcases cs with rfl | rfl | rfl | rfl | rfl | rfl | rfl | rfl | rfl | rfl | rfl | rfl | hi <;> simp (disch := omega) only [↓pads_ne, ↓pad_ne, ↓pu_ne, ↓pads_eq, ↓pad_eq, ↓pu_eqq, A3, A9, A12, A0, b0, b1, b2, b3, b8, b9, b12, b41, bo]
  | false =>
    rw [hd] at hl
    subst hl
    unfold cCarD cCarC cCarB
    rw [if_neg (by decide), Bool.not_false, if_pos rfl, if_pos rfl]
    rcases cs with rfl | rfl | rfl | rfl | rfl | rfl | rfl | rfl | rfl | rfl | rfl | rfl | hi <;> simp (disch := omega) only [↓pads_ne, ↓pad_ne, ↓pu_ne, ↓pads_eq, ↓pad_eq, ↓pu_eqq, A3, A9, A12, A0, b0, b1, b2, b3, b8, b9, b12, b41, bo]
theorem pSS (k : Nat) (hk : k < 30) : 47 ≤ pStateAt k ∧ 47 ≤ pStartAt k ∧ pStateAt k ≠ pStartAt k ∧ (∀ j, j < 10 → ∀ a, a < 7 → 127 + 10 * j + a ≠ pStateAt k) ∧ (∀ j, j < 10 → ∀ a, a < 7 → 127 + 10 * j + a ≠ pStartAt k) := by
  unfold pStateAt pStartAt
  by_cases h : k < 20
  · simp only [if_pos h]; exact ⟨by omega, by omega, by omega, fun _ _ _ _ => by omega, fun _ _ _ _ => by omega⟩
  · simp only [if_neg h]; exact ⟨by omega, by omega, by omega, fun _ _ _ _ => by omega, fun _ _ _ _ => by omega⟩
theorem fin_e (hw : pWP pl P V O) (hW : pWS t A) {k : Nat} (hk : k < 30) : pFinishes pl t k = upd (upd (pPasses pl t k (pDur pl t k) false) (pStartAt k) (t 0)) (pStateAt k) 1 := by
  have hq6 := pQ_l hw hW hk
  obtain ⟨x1, y1, xy, xi, yi⟩ := pSS k hk
  have fi : pIm t (pFinA t k) := ((pIm.refl t).up yi).up xi
  unfold pFinishes
  rw [pDur_im fi hk, pass_e hk, pass_e hk, pQ_im fi hk, pGrows_im fi hk]
  unfold pFinA
  generalize pStateAt k = x at *
  generalize pStartAt k = y at *
  generalize pQ pl t k = q at *
  rw [if_neg (by decide), if_neg (by decide)]
  funext i
  by_cases h1 : i = x
  · subst h1
    simp (disch := omega) only [↓pads_ne, ↓pad_ne, ↓pu_ne, ↓pu_eqq]
  · by_cases h2 : i = y
    · subst h2
      simp (disch := omega) only [↓pads_ne, ↓pad_ne, ↓pu_ne, ↓pu_eqq]
    · have cs : i = 0 ∨ i = 3 ∨ i = 23 + q ∨ i = 6 ∨ (i ≠ 0 ∧ i ≠ 3 ∧ i ≠ 23 + q ∧ i ≠ 6) := by omega
      rcases cs with rfl | rfl | rfl | rfl | hi <;> simp (disch := omega) only [↓pads_ne, ↓pad_ne, ↓pu_ne, ↓pads_eq, ↓pad_eq]
theorem upd_c {f : pR} {x y : Nat} {a b : Int32} (h : x ≠ y) : upd (upd f x a) y b = upd (upd f y b) x a := by
  funext i
  by_cases h1 : i = x
  · subst h1; simp (disch := omega) only [↓pu_ne, ↓pu_eqq]
  · by_cases h2 : i = y
    · subst h2; simp (disch := omega) only [↓pu_ne, ↓pu_eqq]
    · simp (disch := omega) only [↓pu_ne]
theorem cMA_e (hw : pWP pl P V O) (hW : pWS s A) (hp : pBP pl V) (hs : pBS pl s A) {k : Nat} (hk : k < 10) : cMA pl s k = pMA pl s (20 + k) := by
  have tk := pBT.of hp hs.al (k := 20 + k) (by omega)
  have hi := comes_im hw hW (k := 20 + k) (by omega)
  obtain ⟨c0, -, -, -⟩ := comes_0 hw hW hp hs.r (k := 20 + k) (by omega) tk
  unfold cMA pMA
  rw [fin_e hw (hW.comes hw (by omega)) (by omega), pDur_im hi (by omega), c0, car_e hw hW hp hs.r (by omega) tk (l := false) (by simp), pSt_al]
  have e : pStartAt (20 + k) = 127 + 10 * k + 8 := by unfold pStartAt; rw [if_neg (by omega), Nat.add_sub_cancel_left]
  rw [e]
  exact upd_c (by omega)
theorem cMV_e (hw : pWP pl P V O) (hW : pWS s A) (hp : pBP pl V) (hs : pBS pl s A) {v : Nat} (hv : v < 20) : pEq (cMV pl s O A v).1 (pMV pl s v A).1 ∧ (cMV pl s O A v).2 = (pMV pl s v A).2 := by
  have tv := pBT.of hp hs.al (k := v) (by omega)
  have hi := comes_im hw hW (k := v) (by omega)
  have hq6 := pQ_l hw hW (k := v) (by omega)
  obtain ⟨c0, -, -, -⟩ := comes_0 hw hW hp hs.r (k := v) (by omega) tv
  have hb := cFB_e hw hW hp hs hv (n := A) hW.lA
  obtain ⟨⟨st1, st2⟩, -⟩ := cStart_b hp hs.r tv
  unfold cMV pMV
  rw [← hb]
  cases hc : cFB pl s O v (cStart pl s v) (cStart pl s v + pDur pl s v) (cDump pl s v) A with
  | some k =>
    have hk := cFB_l hc
    have hA := hW.lA
    obtain ⟨z1, z2⟩ := cFB_in hc
    dsimp only [Option.map]
    rw [pFrom_im hi (by omega), c0]
    have tk := pBT.of hp hs.al (k := 20 + k) (by omega)
    have hE := cEnd_t hp hs.r tv tv.2.2.1
    have l1 := lt_t.mp z1
    have l2 := lt_t.mp z2
    rw [hE] at l2
    have hel : (pFrom pl s (20 + k) - cStart pl s v).toInt = (pFrom pl s (20 + k)).toInt - (cStart pl s v).toInt := t_sub tk.2.2.2.2.1 ⟨st1, st2⟩ (by decide) (by decide)
    have hne : ¬ pFrom pl s (20 + k) - cStart pl s v = pDur pl s v := fun z => by
      rw [z] at hel; omega
    rw [car_e hw hW hp hs.r (by omega) tv (l := true) (by rw [decide_eq_false hne]; rfl)]
    exact ⟨fun _ _ => rfl, rfl⟩
  | none =>
    dsimp only [Option.map]
    have hq : pQ pl (pFinishes pl (pComes pl s v) v) v = pQ pl s v := by
      have f1 : pIm (pComes pl s v) (pFinishes pl (pComes pl s v) v) := by
        rw [fin_e hw (hW.comes hw (by omega)) (by omega)]
        obtain ⟨x1, y1, xy, xi, yi⟩ := pSS v (by omega)
        have f2 : pIm (pComes pl s v) (pPasses pl (pComes pl s v) v (pDur pl (pComes pl s v) v) false) := pIm_of fun i i1 i2 => by
          rw [pass_e (by omega), pQ_im hi (by omega), if_neg (by decide), if_neg (by decide)]
          simp (disch := omega) only [↓pads_ne, ↓pad_ne]
        exact (f2.up yi).up xi
      rw [pQ_im f1 (by omega), pQ_im hi (by omega)]
    rw [hq, fin_e hw (hW.comes hw (by omega)) (by omega), pDur_im hi (by omega), c0, car_e hw hW hp hs.r (by omega) tv (l := false) (by simp)]
    refine ⟨fun i h => ?_, rfl⟩
    rw [pad_ne (by omega), pSt_v hv, show pStartAt v = 87 + v by unfold pStartAt; rw [if_pos hv], upd_c (by omega)]
    rfl
end LAWC
