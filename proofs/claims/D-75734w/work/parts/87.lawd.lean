/-! THE PURE LAW, fourth part: a step keeps bounds, goes on in time, and is the component's -/
/-- places that no bound speaks of -/
def pFree (i : Nat) : Prop := i = 4 ∨ (6 ≤ i ∧ i < 15) ∨ i = 16 ∨ (35 ≤ i ∧ i < 107) ∨ (127 ≤ i ∧ i < 227 ∧ 7 ≤ (i - 127) % 10)
section LAWD
variable {pl s t : pR} {P V O A : Nat}
theorem pBS.same (h : pBS pl s A) (hA : A ≤ 10) (e : ∀ i, i < 627 → ¬ pFree i → t i = s i) : pBS pl t A := by
  have al : ∀ k, k < 10 → ∀ j, 1 ≤ j → j < 7 → t (127 + 10 * k + j) = s (127 + 10 * k + j) := fun k hk j h1 h2 => e _ (by omega) (by unfold pFree; omega)
  have nf : ∀ i, i < 4 ∨ i = 5 ∨ i = 15 ∨ (17 ≤ i ∧ i < 35) ∨ (107 ≤ i ∧ i < 127) ∨ (227 ≤ i ∧ i < 627) → t i = s i := fun i hi => e i (by omega) (by unfold pFree; omega)
  refine ⟨⟨?_, ?_, ?_, ?_, ?_⟩, ⟨?_, ?_⟩, ⟨fun k hk => ?_, fun k hk => ?_⟩, fun q hq => ?_, fun k hk => ?_, fun k hk => ?_⟩
  · rw [nf 0 (by omega)]; exact h.t0
  · rw [nf 0 (by omega)]; exact h.th
  · rw [nf 1 (by omega)]; exact h.1.2.2.1
  · rw [nf 2 (by omega)]; exact h.1.2.2.2.1
  · rw [nf 3 (by omega)]; exact h.m
  · rw [nf 5 (by omega)]; exact h.pol
  · rw [nf 15 (by omega)]; exact h.cad
  · rw [al k hk 1 (by omega) (by omega), al k hk 2 (by omega) (by omega), al k hk 3 (by omega) (by omega), al k hk 4 (by omega) (by omega), al k hk 5 (by omega) (by omega), al k hk 6 (by omega) (by omega)]
    exact h.al.1 k hk
  · rw [al k (by omega) 4 (by omega) (by omega)]; exact h.al.2 k hk
  · rw [nf (17 + q) (by omega), nf (23 + q) (by omega), nf (29 + q) (by omega)]; exact h.g q hq
  · rw [nf (107 + k) (by omega)]; exact h.pri k hk
  · rw [nf (227 + 4 * k + 2) (by omega), nf (227 + 4 * k + 3) (by omega)]; exact h.lg k hk
theorem exp_o {n i : Nat} (hn : n ≤ 10) (hi : ∀ k, k < n → i ≠ 127 + 10 * k + 7) : pExp pl s n i = s i := by
  induction n with
  | zero => rfl
  | succ n ih =>
    have h1 := ih (by omega) (fun k hk => hi k (by omega))
    rw [pExp]
    unfold pExpS
    rw [pSt_al]
    split
    · split
      · exact h1
      · rw [pu_ne (hi n (by omega))]; exact h1
    · exact h1
theorem pBS.exp (h : pBS pl s A) (hA : A ≤ 10) {n : Nat} (hn : n ≤ 10) : pBS pl (pExp pl s n) A :=
  h.same hA fun i h1 h2 => exp_o hn fun k hk z => h2 (by unfold pFree; omega)
/-- a thing that can be begun, for some minutes of it -/
theorem pBS.pass (hw : pWP pl P V O) (hW : pWS s A) (hp : pBP pl V) (hs : pBS pl s A) {k : Nat} (hk : k < 30) (hr : pReason pl s k = 0) {mi : Int32} {l : Bool} (m0 : 0 ≤ mi.toInt) (m1 : mi.toInt ≤ (pDur pl s k).toInt) :
    pBS pl (pPasses pl (pComes pl s k) k mi l) A ∧ (pPasses pl (pComes pl s k) k mi l 0).toInt = (cStart pl s k).toInt + mi.toInt := by
  have tk := pBT.of hp hs.al (k := k) hk
  have hq6 := pQ_l hw hW hk
  have hi := comes_im hw hW hk
  obtain ⟨b0, b1, b2, b3⟩ := comes_0 hw hW hp hs.r hk tk
  have bo := fun i hi => comes_o hw hW (k := k) (i := i) hk hi
  obtain ⟨r1, r2, -, r4⟩ := pReason_0 hr
  obtain ⟨⟨st1, st2⟩, -⟩ := cStart_b hp hs.r tk
  obtain ⟨d1, d2⟩ := tk.2.2.1
  have hE := cEnd_t hp hs.r tk tk.2.2.1
  rw [← cStart_e hs.r tk] at r4
  have r4' : ¬ (pl 0).toInt < (cStart pl s k).toInt + (pDur pl s k).toInt := fun z => r4 (lt_t.mpr (by rw [hE]; exact z))
  have hm := cEnd_t hp hs.r tk (d := mi) ⟨m0, by omega⟩
  have gb := grows_b (k := k) tk (mi := mi) ⟨m0, by omega⟩
  have gl := grows_le (k := k) tk (mi := mi) (mj := pDur pl s k) ⟨m0, by omega⟩ ⟨d1, d2⟩ m1
  have gd := grows_b (k := k) tk (mi := pDur pl s k) ⟨d1, d2⟩
  have r1' : ¬ (pl 3).toInt < (pGrows pl s k (pDur pl s k)).toInt := fun z => r1 (lt_t.mpr z)
  obtain ⟨c1, c2⟩ := hp.b3
  have mom : vB ((if 0 < cDump pl s k then nI 0 else s 3) + pGrows pl s k mi) 0 9999 := by
    obtain ⟨x1, x2⟩ := hs.m
    obtain ⟨g1, g2⟩ := gb
    by_cases e : 0 < cDump pl s k
    · rw [if_pos e]
      have h1 : (nI 0 + pGrows pl s k mi).toInt = (pGrows pl s k mi).toInt := by rw [i32_add (by rw [t_n0]; omega) (by rw [t_n0]; omega), t_n0]; omega
      unfold vB; omega
    · rw [if_neg e]
      have h1 : (s 3 + pGrows pl s k mi).toInt = (s 3).toInt + (pGrows pl s k mi).toInt := i32_add (by omega) (by omega)
      have h2 : (s 3 + pGrows pl s k (pDur pl s k)).toInt = (s 3).toInt + (pGrows pl s k (pDur pl s k)).toInt := t_add ⟨x1, x2⟩ gd (by decide) (by decide)
      have h3 : ¬ pDumpsFor pl s k = true := fun z => e ((dump_pos hp).mpr z)
      have h4 : ¬ (pl 3).toInt < (s 3).toInt + (pGrows pl s k (pDur pl s k)).toInt := fun z => h3 (by
        unfold pDumpsFor; rw [decide_eq_true_iff, lt_t, h2]; exact z)
      unfold vB; omega
  rw [pass_e hk, pQ_im hi hk, pGrows_im hi hk]
  generalize hg : pGrows pl s k mi = g at *
  have lq := hs.g _ hq6
  have r2' : ¬ (pLeft s (pQ pl s k)).toInt < (pDur pl s k).toInt := fun z => r2 (lt_t.mpr z)
  generalize pQ pl s k = q at *
  obtain ⟨⟨q1, q2⟩, q3, q4, q5⟩ := lq
  have lf : (pLeft s q).toInt = (s (17 + q)).toInt - (s (23 + q)).toInt - (s (29 + q)).toInt := by
    unfold pLeft
    have h1 : (s (17 + q) - s (23 + q)).toInt = (s (17 + q)).toInt - (s (23 + q)).toInt := i32_sub (by omega) (by omega)
    rw [i32_sub (by rw [h1]; omega) (by rw [h1]; omega), h1]
  generalize pComes pl s k = c at *
  obtain ⟨w, hwq⟩ : ∃ w : Nat, w = (if l = true then 29 else 23) := ⟨_, rfl⟩
  obtain ⟨x, hx⟩ : ∃ x : Nat, x = (if l = true then 1 else 0) := ⟨_, rfl⟩
  have hwx : (w = 29 ∧ x = 1) ∨ (w = 23 ∧ x = 0) := by cases l <;> simp_all
  rw [← hwq, ← hx]
  have T0 : pAdds (pAdd (pAdd (pAdd c 3 g) 0 mi) (w + q) mi) x mi 0 = cStart pl s k + mi := by
    simp (disch := omega) only [↓pads_ne, ↓pad_ne, ↓pad_eq, b0]
  have T1 : pAdds (pAdd (pAdd (pAdd c 3 g) 0 mi) (w + q) mi) x mi 1 = pLon pl s k := by
    simp (disch := omega) only [↓pads_ne, ↓pad_ne, ↓pad_eq, b1]
  have T2 : pAdds (pAdd (pAdd (pAdd c 3 g) 0 mi) (w + q) mi) x mi 2 = pLat pl s k := by
    simp (disch := omega) only [↓pads_ne, ↓pad_ne, ↓pad_eq, b2]
  have T3 : pAdds (pAdd (pAdd (pAdd c 3 g) 0 mi) (w + q) mi) x mi 3 = (if 0 < cDump pl s k then nI 0 else s 3) + g := by
    simp (disch := omega) only [↓pads_ne, ↓pad_ne, ↓pad_eq, b3]
  have Tq : pAdds (pAdd (pAdd (pAdd c 3 g) 0 mi) (w + q) mi) x mi (w + q) = s (w + q) + mi := by
    simp (disch := omega) only [↓pads_ne, ↓pad_ne, ↓pad_eq, bo]
  have To : ∀ i, i ≠ 0 ∧ i ≠ 1 ∧ i ≠ 2 ∧ i ≠ 3 ∧ i ≠ w + q ∧ ¬ (6 ≤ i ∧ i < 15) ∧ ¬ (41 ≤ i ∧ i < 47) → pAdds (pAdd (pAdd (pAdd c 3 g) 0 mi) (w + q) mi) x mi i = s i := by
    intro i h
    simp (disch := omega) only [↓pads_ne, ↓pad_ne, bo]
  generalize pAdds (pAdd (pAdd (pAdd c 3 g) 0 mi) (w + q) mi) x mi = T at *
  have hT0 : (T 0).toInt = (cStart pl s k).toInt + mi.toInt := by rw [T0]; exact hm
  obtain ⟨z1, z2⟩ := hp.b0
  refine ⟨⟨⟨⟨?_, ?_⟩, ?_, ?_, ?_, ?_⟩, ⟨?_, ?_⟩, ⟨fun j hj => ?_, fun j hj => ?_⟩, fun p hp6 => ?_, fun j hj => ?_, fun j hj => ?_⟩, hT0⟩
  · omega
  · omega
  · omega
  · rw [T1]; exact tk.1
  · rw [T2]; exact tk.2.1
  · rw [T3]; exact mom
  · rw [To 5 (by omega)]; exact hs.pol
  · rw [To 15 (by omega)]; exact hs.cad
  · rw [To _ (by omega), To _ (by omega), To _ (by omega), To _ (by omega), To _ (by omega), To _ (by omega)]
    exact hs.al.1 j hj
  · have := hW.lA
    rw [To _ (by omega)]; exact hs.al.2 j hj
  · rw [To (17 + p) (by omega)]
    obtain ⟨p1, p3, p4, p5⟩ := hs.g p hp6
    by_cases e : p = q
    · subst e
      rcases hwx with ⟨rfl, -⟩ | ⟨rfl, -⟩
      · rw [Tq, To (23 + p) (by omega)]
        have h1 : (s (29 + p) + mi).toInt = (s (29 + p)).toInt + mi.toInt := i32_add (by omega) (by omega)
        exact ⟨p1, p3, by omega, by omega⟩
      · rw [Tq, To (29 + p) (by omega)]
        have h1 : (s (23 + p) + mi).toInt = (s (23 + p)).toInt + mi.toInt := i32_add (by omega) (by omega)
        exact ⟨p1, by omega, p4, by omega⟩
    · rw [To (23 + p) (by omega), To (29 + p) (by omega)]; exact ⟨p1, p3, p4, p5⟩
  · rw [To _ (by omega)]; exact hs.pri j hj
  · rw [To _ (by omega), To _ (by omega)]; exact hs.lg j hj
theorem pBS.logs (hW : pWS s A) (hs : pBS pl s A) {k v b : Int32} (b0 : 0 ≤ b.toInt) (b1 : b.toInt ≤ (s 0).toInt) : pBS pl (pLogs s k v b) A := by
  obtain ⟨n, hn, e⟩ := hW.hN
  unfold pLogs
  split
  · exact hs
  · rename_i h9
    have hne : n ≠ 100 := fun z => h9 (by rw [e, z]; rfl)
    rw [e, pN_nI (by omega)]
    have h0 : pLogA s n k v b 0 = s 0 := by unfold pLogA; simp (disch := omega) only [↓pu_ne]
    rw [h0]
    have L2 : pAdd (upd (pLogA s n k v b) (227 + 4 * n + 3) (s 0)) 16 1 (227 + 4 * n + 2) = b := by
      unfold pLogA; simp (disch := omega) only [↓pad_ne, ↓pu_ne, ↓pu_eqq]
    have L3 : pAdd (upd (pLogA s n k v b) (227 + 4 * n + 3) (s 0)) 16 1 (227 + 4 * n + 3) = s 0 := by
      unfold pLogA; simp (disch := omega) only [↓pad_ne, ↓pu_ne, ↓pu_eqq]
    have Lo : ∀ i, i ≠ 16 ∧ ¬ (227 + 4 * n ≤ i ∧ i < 227 + 4 * n + 4) → pAdd (upd (pLogA s n k v b) (227 + 4 * n + 3) (s 0)) 16 1 i = s i := by
      intro i h
      unfold pLogA; simp (disch := omega) only [↓pad_ne, ↓pu_ne]
    generalize pAdd (upd (pLogA s n k v b) (227 + 4 * n + 3) (s 0)) 16 1 = T at *
    have hA := hW.lA
    refine ⟨⟨?_, ?_, ?_, ?_, ?_⟩, ⟨?_, ?_⟩, ⟨fun j hj => ?_, fun j hj => ?_⟩, fun p hp6 => ?_, fun j hj => ?_, fun j hj => ?_⟩
    · rw [Lo 0 (by omega)]; exact hs.t0
    · rw [Lo 0 (by omega)]; exact hs.th
    · rw [Lo 1 (by omega)]; exact hs.1.2.2.1
    · rw [Lo 2 (by omega)]; exact hs.1.2.2.2.1
    · rw [Lo 3 (by omega)]; exact hs.m
    · rw [Lo 5 (by omega)]; exact hs.pol
    · rw [Lo 15 (by omega)]; exact hs.cad
    · rw [Lo _ (by omega), Lo _ (by omega), Lo _ (by omega), Lo _ (by omega), Lo _ (by omega), Lo _ (by omega)]
      exact hs.al.1 j hj
    · rw [Lo _ (by omega)]; exact hs.al.2 j hj
    · rw [Lo _ (by omega), Lo _ (by omega), Lo _ (by omega)]; exact hs.g p hp6
    · rw [Lo _ (by omega)]; exact hs.pri j hj
    · by_cases ej : j = n
      · subst ej
        rw [L2, L3]
        exact ⟨b0, b1, hs.t0.2⟩
      · rw [Lo _ (by omega), Lo _ (by omega)]; exact hs.lg j hj
theorem logs_0 (hW : pWS s A) {k v b : Int32} : pLogs s k v b 0 = s 0 := by
  obtain ⟨n, hn, e⟩ := hW.hN
  unfold pLogs
  split
  · rfl
  · rw [e, pN_nI (by omega)]
    unfold pLogA
    simp (disch := omega) only [↓pad_ne, ↓pu_ne]
/-- a new time, all bounds speak of else as it was -/
theorem pBS.time (hs : pBS pl s A) (hA : A ≤ 10) {x : Int32} (h0 : 0 ≤ x.toInt) (h1 : x.toInt ≤ (pl 0).toInt) (hp : pBP pl V) (e0 : t 0 = x) (e : ∀ i, i < 627 → i ≠ 0 → ¬ pFree i → t i = s i) : pBS pl t A := by
  have h2 : pBS pl (upd s 0 x) A := by
    obtain ⟨z1, z2⟩ := hp.b0
    have U : ∀ i, i ≠ 0 → upd s 0 x i = s i := fun i hi => pu_ne hi
    refine ⟨⟨?_, ?_, ?_, ?_, ?_⟩, ⟨?_, ?_⟩, ⟨fun j hj => ?_, fun j hj => ?_⟩, fun p hp6 => ?_, fun j hj => ?_, fun j hj => ?_⟩
    · rw [pu_eqq rfl]; exact ⟨h0, by omega⟩
    · rw [pu_eqq rfl]; exact h1
    · rw [U 1 (by omega)]; exact hs.1.2.2.1
    · rw [U 2 (by omega)]; exact hs.1.2.2.2.1
    · rw [U 3 (by omega)]; exact hs.m
    · rw [U 5 (by omega)]; exact hs.pol
    · rw [U 15 (by omega)]; exact hs.cad
    · rw [U _ (by omega), U _ (by omega), U _ (by omega), U _ (by omega), U _ (by omega), U _ (by omega)]
      exact hs.al.1 j hj
    · rw [U _ (by omega)]; exact hs.al.2 j hj
    · rw [U _ (by omega), U _ (by omega), U _ (by omega)]; exact hs.g p hp6
    · rw [U _ (by omega)]; exact hs.pri j hj
    · rw [U _ (by omega), U _ (by omega)]; exact hs.lg j hj
  refine h2.same hA fun i hi hf => ?_
  by_cases z : i = 0
  · subst z; rw [pu_eqq rfl]; exact e0
  · rw [pu_ne z]; exact e i hi z hf
theorem idle_b (hp : pBP pl V) (hs : pBS pl s A) (h0 : (s 0).toInt < (pl 0).toInt) : ∀ {n : Nat}, n ≤ 10 → (s 0).toInt < (pIdleTo pl s n).toInt ∧ (pIdleTo pl s n).toInt ≤ (pl 0).toInt
  | 0, _ => by
    obtain ⟨z1, z2⟩ := hs.t0
    have e10 : (10 : Int32).toInt = 10 := by decide
    have h1 : (s 0 + 10).toInt = (s 0).toInt + 10 := by rw [i32_add (by omega) (by omega), e10]
    have h2 := iMin_t (s 0 + 10) (pl 0)
    show (s 0).toInt < (iMin (s 0 + 10) (pl 0)).toInt ∧ (iMin (s 0 + 10) (pl 0)).toInt ≤ (pl 0).toInt
    omega
  | n + 1, h => by
    have ih := idle_b hp hs h0 (n := n) (by omega)
    rw [pIdleTo]
    split
    · split
      · exact ih
      · rename_i h3
        have h4 := lt_t.mp (Int32.not_le.mp h3)
        have h2 := iMin_t (pIdleTo pl s n) (pFrom pl s (20 + n))
        omega
    · exact ih
theorem pCh_r : ∀ {n v : Nat}, pCh pl s n = some v → pReason pl s v = 0
  | 0, v, h => by cases h
  | n + 1, v, h => by
    have h9 := h
    unfold pCh pChS at h9
    split at h9
    · rename_i e0
      split at h9
      · cases h9; exact e0
      · rename_i o e
        have := pCh_r e
        split at h9
        · cases h9; exact e0
        · cases h9; exact this
    · exact pCh_r h9
theorem pAl_r : ∀ {n v : Nat}, pAl pl s n = some v → pReason pl s v = 0
  | 0, v, h => by cases h
  | n + 1, v, h => by
    have h9 := h
    unfold pAl pAlS at h9
    split at h9
    · exact pAl_r h9
    · split at h9
      · rename_i e0
        split at h9
        · cases h9; exact e0
        · rename_i o e
          have := pAl_r e
          split at h9
          · cases h9; exact this
          · cases h9; exact e0
      · exact pAl_r h9
/-- a step, behind what expires -/
theorem pMA_b (hw : pWP pl P V O) (hW : pWS s A) (hp : pBP pl V) (hs : pBS pl s A) {k : Nat} (hk : k < 10) (hkA : k < A) (hr : pReason pl s (20 + k) = 0) : pBS pl (pMA pl s (20 + k)) A ∧ (s 0).toInt < (pMA pl s (20 + k) 0).toInt := by
  have tk := pBT.of hp hs.al (k := 20 + k) (by omega)
  have hi := comes_im hw hW (k := 20 + k) (by omega)
  obtain ⟨h1, h2⟩ := pBS.pass hw hW hp hs (k := 20 + k) (by omega) hr (mi := pDur pl s (20 + k)) (l := false) tk.2.2.1.1 (Int.le_refl _)
  obtain ⟨-, h3⟩ := cStart_b hp hs.r tk
  have h4 : 1 ≤ (pDur pl s (20 + k)).toInt := by
    have := hs.al.2 k hkA
    unfold pDur pOf
    rw [if_neg (by omega), Nat.add_sub_cancel_left]
    exact this
  unfold pMA
  rw [fin_e hw (hW.comes hw (by omega)) (by omega), pDur_im hi (by omega)]
  obtain ⟨x1, y1, xy, xi, yi⟩ := pSS (20 + k) (by omega)
  constructor
  · refine h1.same hW.lA fun i i1 i2 => ?_
    have e1 : pStateAt (20 + k) = 127 + 10 * k + 7 := pSt_al
    have e2 : pStartAt (20 + k) = 127 + 10 * k + 8 := by unfold pStartAt; rw [if_neg (by omega), Nat.add_sub_cancel_left]
    rw [e1, e2, pu_ne (fun z => i2 (by unfold pFree; omega)), pu_ne (fun z => i2 (by unfold pFree; omega))]
  · rw [pu_ne (by omega), pu_ne (by omega)]; omega
theorem pMV_b (hw : pWP pl P V O) (hW : pWS s A) (hp : pBP pl V) (hs : pBS pl s A) {v : Nat} (hv : v < 20) (hvV : v < V) (hr : pReason pl s v = 0) : pBS pl (pMV pl s v A).1 A ∧ (s 0).toInt < ((pMV pl s v A).1 0).toInt := by
  have tv := pBT.of hp hs.al (k := v) (by omega)
  have hi := comes_im hw hW (k := v) (by omega)
  have hq6 := pQ_l hw hW (k := v) (by omega)
  obtain ⟨c0, -, -, -⟩ := comes_0 hw hW hp hs.r (k := v) (by omega) tv
  have hb := cFB_e hw hW hp hs hv (n := A) hW.lA
  obtain ⟨⟨st1, st2⟩, st3⟩ := cStart_b hp hs.r tv
  have hd : 1 ≤ (pDur pl s v).toInt := by
    have := hp.2.2 v hvV
    unfold pDur pOf
    rw [if_pos hv]
    exact this
  unfold pMV
  rw [← hb]
  cases hc : cFB pl s O v (cStart pl s v) (cStart pl s v + pDur pl s v) (cDump pl s v) A with
  | some k =>
    have hk := cFB_l hc
    have hA := hW.lA
    obtain ⟨z1, z2⟩ := cFB_in hc
    dsimp only [Option.map]
    rw [pFrom_im hi (by omega), c0]
    have tk := pBT.of hp hs.al (k := 20 + k) (by omega)
    have hE := cEnd_t hp hs.r tv tv.2.2.1
    have l1 := lt_t.mp z1
    have l2 := lt_t.mp z2
    rw [hE] at l2
    have hel : (pFrom pl s (20 + k) - cStart pl s v).toInt = (pFrom pl s (20 + k)).toInt - (cStart pl s v).toInt := t_sub tk.2.2.2.2.1 ⟨st1, st2⟩ (by decide) (by decide)
    obtain ⟨h1, h2⟩ := pBS.pass hw hW hp hs (k := v) (by omega) hr (mi := pFrom pl s (20 + k) - cStart pl s v) (l := true) (by omega) (by omega)
    constructor
    · exact h1.same hW.lA fun i i1 i2 => pad_ne (fun z => i2 (by unfold pFree; omega))
    · rw [pad_ne (by omega)]; omega
  | none =>
    dsimp only [Option.map]
    obtain ⟨h1, h2⟩ := pBS.pass hw hW hp hs (k := v) (by omega) hr (mi := pDur pl s v) (l := false) tv.2.2.1.1 (Int.le_refl _)
    have hf := fin_e hw (hW.comes hw (k := v) (by omega)) (k := v) (by omega)
    rw [pDur_im hi (by omega)] at hf
    have hq : pQ pl (pFinishes pl (pComes pl s v) v) v < 6 := pQ_l hw ((hW.comes hw (by omega)).finishes hw (by omega)) (by omega)
    generalize pQ pl (pFinishes pl (pComes pl s v) v) v = q at hq
    rw [hf, pSt_v hv, show pStartAt v = 87 + v by unfold pStartAt; rw [if_pos hv]]
    constructor
    · refine h1.same hW.lA fun i i1 i2 => ?_
      have hn : ¬ (35 ≤ i ∧ i < 107) := fun z => i2 (by unfold pFree; omega)
      rw [pad_ne (by omega), pu_ne (by omega), pu_ne (by omega)]
    · rw [pad_ne (by omega), pu_ne (by omega), pu_ne (by omega)]; omega
theorem cal_b (hp : pBP pl V) (hs : pBS pl s A) (hA : A ≤ 10) (hc : pCalDue pl s = true) : pBS pl (pCalibrates pl s) A ∧ (s 0).toInt < (pCalibrates pl s 0).toInt := by
  obtain ⟨c1, c2⟩ := hp.b6
  obtain ⟨z1, z2⟩ := hs.t0
  have h1 : (s 0 + pl 6).toInt = (s 0).toInt + (pl 6).toInt := i32_add (by omega) (by omega)
  have h2 : (s 0 + pl 6).toInt ≤ (pl 0).toInt := by
    unfold pCalDue at hc
    split at hc
    · cases hc
    · rw [decide_eq_true_iff, le_t] at hc; exact hc
  have e0 : pCalibrates pl s 0 = s 0 + pl 6 := by
    unfold pCalibrates
    simp (disch := omega) only [↓pads_ne, ↓pad_ne, ↓pu_ne, ↓pad_eq]
  refine ⟨hs.time hA (x := s 0 + pl 6) (by omega) h2 hp e0 fun i i1 i2 i3 => ?_, by rw [e0]; omega⟩
  have n1 : ¬ (i = 4 ∨ (6 ≤ i ∧ i < 15)) := fun z => i3 (by unfold pFree; omega)
  unfold pCalibrates
  simp (disch := omega) only [↓pads_ne, ↓pad_ne, ↓pu_ne]
theorem idles_b (hp : pBP pl V) (hs : pBS pl s A) (hA : A ≤ 10) (h0 : (s 0).toInt < (pl 0).toInt) : pBS pl (pIdles pl s A) A ∧ (s 0).toInt < (pIdles pl s A 0).toInt := by
  obtain ⟨h1, h2⟩ := idle_b hp hs h0 hA
  obtain ⟨z1, z2⟩ := hs.t0
  have e0 : pIdles pl s A 0 = pIdleTo pl s A := pu_eqq rfl
  refine ⟨hs.time hA (x := pIdleTo pl s A) (by omega) h2 hp e0 fun i i1 i2 i3 => ?_, by rw [e0]; exact h1⟩
  have n1 : ¬ (6 ≤ i ∧ i < 15) := fun z => i3 (by unfold pFree; omega)
  unfold pIdles
  simp (disch := omega) only [↓pads_ne, ↓pad_ne, ↓pu_ne]
theorem pEq.rfl' (s : pR) : pEq s s := fun _ _ => rfl
theorem pEq.logs {a b c : Int32} (h : pEq s t) (hW : pWS t A) : pEq (pLogs s a b c) (pLogs t a b c) := by
  obtain ⟨n, hn, e⟩ := hW.hN
  have e2 : s 16 = nI n := (h 16 (by omega)).trans e
  have e0 : s 0 = t 0 := h 0 (by omega)
  intro i hi
  unfold pLogs
  rw [e2, e, pN_nI (by omega)]
  split
  · exact h i hi
  · unfold pLogA
    by_cases z : i = 16
    · subst z
      simp (disch := omega) only [↓pad_eq, ↓pad_ne, ↓pu_ne]
      rw [e2, e]
    · by_cases z3 : i = 227 + 4 * n + 3
      · subst z3
        simp (disch := omega) only [↓pad_ne, ↓pu_ne, ↓pu_eqq]
        exact e0
      · by_cases z2 : i = 227 + 4 * n + 2
        · subst z2; simp (disch := omega) only [↓pad_ne, ↓pu_ne, ↓pu_eqq]
        · by_cases z1 : i = 227 + 4 * n + 1
          · subst z1; simp (disch := omega) only [↓pad_ne, ↓pu_ne, ↓pu_eqq]
          · by_cases z0 : i = 227 + 4 * n
            · subst z0; simp (disch := omega) only [↓pad_ne, ↓pu_ne, ↓pu_eqq]
            · simp (disch := omega) only [↓pad_ne, ↓pu_ne]
              exact h i hi
/-- A STEP: the component's is the model's; bounds stay; time goes on -/
theorem step_e (hw : pWP pl P V O) (hW : pWS s A) (hp : pBP pl V) (hs : pBS pl s A) (h0 : (s 0).toInt < (pl 0).toInt) {pol : Nat} (hpol : pol < 4) (h5 : s 5 = nI pol) :
    pEq (cSt pl s V O A pol) (pStep pl s V A).1 ∧ pBS pl (pStep pl s V A).1 A ∧ (s 0).toInt < ((pStep pl s V A).1 0).toInt := by
  have hA := hW.lA
  have hV := hw.lV
  have hX : pWS (pExp pl s A) A := hW.exp hA
  have hB : pBS pl (pExp pl s A) A := hs.exp hA hA
  have x0 : pExp pl s A 0 = s 0 := exp_o hA fun k hk => by omega
  have x5 : pExp pl s A 5 = nI pol := (exp_o hA fun k hk => by omega).trans h5
  have hb0 := hs.t0.1
  unfold cSt cStB pStep
  rw [← cFA_e hw hp hB hA, cCh_e hw hX hp hB hpol x5 hV]
  have lg : ∀ {r r' : pR} {k v : Int32}, pEq r r' → pWS r' A → pBS pl r' A ∧ (pExp pl s A 0).toInt < (r' 0).toInt → pEq (pLogs r k v (s 0)) (pLogs r' k v (s 0)) ∧ pBS pl (pLogs r' k v (s 0)) A ∧ (s 0).toInt < (pLogs r' k v (s 0) 0).toInt := by
    intro r r' k v h1 h2 h3
    obtain ⟨h3, h4⟩ := h3
    rw [x0] at h4
    exact ⟨h1.logs h2, h3.logs h2 hb0 (by omega), by rw [logs_0 h2]; exact h4⟩
  cases hc : cFA pl (pExp pl s A) O A with
  | some k =>
    have hk := cFA_l hc
    have hr : pReason pl (pExp pl s A) (20 + k) = 0 := pAl_r (n := A) (by rw [← cFA_e hw hp hB hA, hc]; rfl)
    dsimp only [Option.map]
    rw [cMA_e hw hX hp hB (by omega), Nat.add_sub_cancel_left]
    exact lg (pEq.rfl' _) (hX.ma hw (by omega)) (pMA_b hw hX hp hB (by omega) hk hr)
  | none =>
    dsimp only [Option.map]
    by_cases h9 : pCalDue pl (pExp pl s A) = true
    · rw [if_pos h9, if_pos h9]
      exact lg (pEq.rfl' _) hX.calibrates (cal_b hp hB hA h9)
    · rw [if_neg h9, if_neg h9]
      cases hd : pCh pl (pExp pl s A) V with
      | some v =>
        have hv := pCh_l hd
        obtain ⟨e1, e2⟩ := cMV_e hw hX hp hB (v := v) (by omega)
        dsimp only
        rw [e2]
        exact lg e1 (hX.mv hw (by omega)) (pMV_b hw hX hp hB (by omega) hv (pCh_r hd))
      | none =>
        dsimp only
        exact lg (pEq.rfl' _) hX.idles (idles_b hp hB hA (by rw [x0]; exact h0))
end LAWD
