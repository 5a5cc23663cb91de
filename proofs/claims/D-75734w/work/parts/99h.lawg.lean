/-! PLAIN LAW: how many visits are done, and of what kind the entries are, stays told right -/
theorem pProp_v {pl s t : pR} {n : Nat} (h : n < 20) : pProp pl t n = pProp pl s n := by
  unfold pProp pOf; rw [if_pos h, if_pos h]
theorem cOf_cg {pl s t : pR} {p st : Int32} : ∀ {n : Nat}, n ≤ 20 → (∀ k, k < n → t (47 + k) = s (47 + k)) → cOf pl t p st n = cOf pl s p st n
  | 0, _, _ => rfl
  | n + 1, hn, h => by
    rw [cOf, cOf, cOf_cg (by omega) (fun k hk => h k (by omega)), h n (by omega), pProp_v (s := s) (by omega)]
theorem cOf_do {pl s t : pR} {p : Int32} {v : Nat} (h0 : ¬ s (47 + v) = nI 1) (h1 : t (47 + v) = nI 1) (ho : ∀ k, k ≠ v → k < 20 → t (47 + k) = s (47 + k)) : ∀ {n : Nat}, n ≤ 20 → cOf pl t p (nI 1) n = cOf pl s p (nI 1) n + (if v < n then (if pProp pl s v = p then nI 1 else nI 0) else nI 0)
  | 0, _ => by rw [cOf, cOf, if_neg (by omega)]; decide
  | n + 1, hn => by
    rw [cOf, cOf, cOf_do h0 h1 ho (by omega), pProp_v (s := s) (t := t) (n := n) (by omega)]
    by_cases e : n = v
    · subst e
      rw [if_neg (Nat.lt_irrefl _), if_pos (Nat.lt_succ_self _), h1, if_pos rfl, if_neg h0]
      by_cases c : pProp pl s n = p
      · rw [if_pos c, if_pos c]
      · rw [if_neg c, if_neg c]
    · rw [ho n e (by omega)]
      by_cases c : v < n
      · rw [if_pos c, if_pos (show v < n + 1 by omega)]
        rw [Int32.add_assoc, Int32.add_assoc]
        congr 1
        exact Int32.add_comm _ _
      · rw [if_neg c, if_neg (show ¬ v < n + 1 by omega)]
        rw [show cOf pl s p (nI 1) n + nI 0 = cOf pl s p (nI 1) n from Int32.add_zero _, show ∀ x : Int32, x + nI 0 = x from Int32.add_zero]
section LAWG
variable {pl s t : pR} {P V O A : Nat}
theorem pMd.cg (h : pMd pl s V) (hV : V ≤ 20) (e : ∀ i, (35 ≤ i ∧ i < 41) ∨ (47 ≤ i ∧ i < 67) → t i = s i) : pMd pl t V := fun p hp => by
  rw [e _ (by omega), h p hp, cOf_cg hV (fun k hk => e _ (by omega))]
theorem pMd.done (h : pMd pl s V) (hV : V ≤ 20) {v q : Nat} (hv : v < V) (hq : q < 6) (ep : pProp pl s v = nI q) (h0 : ¬ s (47 + v) = nI 1) (h1 : t (47 + v) = nI 1) (ho : ∀ k, k ≠ v → k < 20 → t (47 + k) = s (47 + k)) (hm : t (35 + q) = s (35 + q) + 1) (hn : ∀ p, p < 6 → p ≠ q → t (35 + p) = s (35 + p)) : pMd pl t V := fun p hp => by
  rw [cOf_do h0 h1 ho hV, if_pos hv, ep]
  by_cases e : p = q
  · subst e
    rw [hm, h p hp, if_pos rfl]; rfl
  · rw [hn p hp e, h p hp, if_neg (fun z => e ((nI_eq (by omega) (by omega)).mp z).symm)]
    exact (Int32.add_zero _).symm
theorem fin_g (hw : pWP pl P V O) (hW : pWS s A) {k i : Nat} (hk : k < 30) (h : 16 ≤ i ∧ (i < 23 ∨ 34 < i) ∧ (i < 41 ∨ 46 < i) ∧ i ≠ pStartAt k ∧ i ≠ pStateAt k) : pFinishes pl (pComes pl s k) k i = s i := by
  have hq := pQ_l hw (hW.comes hw hk) hk
  have hq6 := pQ_l hw hW hk
  obtain ⟨h1, h2, h3, h4, h5⟩ := h
  rw [fin_e hw (hW.comes hw hk) hk, pu_ne h5, pu_ne h4, pass_e hk, if_neg (by decide), if_neg (by decide)]
  simp (disch := omega) only [↓pads_ne, ↓pad_ne]
  exact comes_o hw hW hk (by omega)
theorem fin_st (hw : pWP pl P V O) (hW : pWS s A) {k : Nat} (hk : k < 30) : pFinishes pl (pComes pl s k) k (pStateAt k) = 1 := by
  rw [fin_e hw (hW.comes hw hk) hk, pu_eq]
theorem pass_g (hw : pWP pl P V O) (hW : pWS s A) {k i : Nat} {mi : Int32} {l : Bool} (hk : k < 30) (h : 16 ≤ i ∧ (i < 23 ∨ 34 < i) ∧ (i < 41 ∨ 46 < i)) : pPasses pl (pComes pl s k) k mi l i = s i := by
  have hq := pQ_l hw (hW.comes hw hk) hk
  have hq6 := pQ_l hw hW hk
  have e1 : (if l = true then 29 else 23) + pQ pl (pComes pl s k) k < 35 ∧ 23 ≤ (if l = true then 29 else 23) + pQ pl (pComes pl s k) k := by split <;> omega
  have e2 : (if l = true then 1 else 0) < 2 := by split <;> omega
  rw [pass_e hk]
  simp (disch := omega) only [↓pads_ne, ↓pad_ne]
  exact comes_o hw hW hk (by omega)
/-- what a visit that is made leaves -/
theorem mv_g (hw : pWP pl P V O) (hW : pWS s A) {v i : Nat} (hv : v < 20) (h : i = 16 ∨ 227 ≤ i) : (pMV pl s v A).1 i = s i := by
  have hq := pQ_l hw ((hW.comes hw (k := v) (by omega)).finishes hw (k := v) (by omega)) (k := v) (by omega)
  have s1 : pStartAt v = 87 + v := if_pos hv
  have s2 : pStateAt v = 47 + v := if_pos hv
  unfold pMV
  split
  · dsimp only
    rw [pad_ne (by omega)]
    exact pass_g hw hW (by omega) (by omega)
  · dsimp only
    rw [pad_ne (by omega)]
    exact fin_g hw hW (by omega) (by omega)
theorem pMd.mv (h : pMd pl s V) (hw : pWP pl P V O) (hW : pWS s A) {v : Nat} (hv : v < V) (h0 : s (47 + v) = 0) : pMd pl (pMV pl s v A).1 V := by
  have hV := hw.lV
  have hv20 : v < 20 := by omega
  have hF := (hW.comes hw (k := v) (by omega)).finishes hw (k := v) (by omega)
  have hq := pQ_l hw hF (k := v) (by omega)
  have s1 : pStartAt v = 87 + v := if_pos hv20
  have s2 : pStateAt v = 47 + v := if_pos hv20
  unfold pMV
  split
  · dsimp only
    refine h.cg hV fun i hi => ?_
    rw [pad_ne (by omega)]
    exact pass_g hw hW (by omega) (by omega)
  · dsimp only
    refine h.done hV hv hq ((pProp_v hv20).trans (pQ_e hw hF (by omega))) (by rw [h0]; decide) ?_ (fun k hk hk2 => ?_) ?_ (fun p hp hne => ?_)
    · rw [pad_ne (by omega), ← s2]; exact fin_st hw hW (by omega)
    · rw [pad_ne (by omega)]; exact fin_g hw hW (by omega) (by omega)
    · rw [pad_eq rfl]; rw [fin_g hw hW (by omega) (by omega)]
    · rw [pad_ne (by omega)]; exact fin_g hw hW (by omega) (by omega)
theorem pMd.ma (h : pMd pl s V) (hw : pWP pl P V O) (hW : pWS s A) {k : Nat} (hk : k < 10) : pMd pl (pMA pl s (20 + k)) V := by
  have s1 : pStartAt (20 + k) = 127 + 10 * k + 8 := by rw [pStartAt, if_neg (by omega), Nat.add_sub_cancel_left]
  have s2 : pStateAt (20 + k) = 127 + 10 * k + 7 := by rw [pStateAt, if_neg (by omega), Nat.add_sub_cancel_left]
  exact h.cg hw.lV fun i hi => fin_g hw hW (by omega) (by omega)
theorem ma_g (hw : pWP pl P V O) (hW : pWS s A) {k i : Nat} (hk : k < 10) (h : i = 16 ∨ 227 ≤ i) : pMA pl s (20 + k) i = s i := by
  have s1 : pStartAt (20 + k) = 127 + 10 * k + 8 := by rw [pStartAt, if_neg (by omega), Nat.add_sub_cancel_left]
  have s2 : pStateAt (20 + k) = 127 + 10 * k + 7 := by rw [pStateAt, if_neg (by omega), Nat.add_sub_cancel_left]
  exact fin_g hw hW (by omega) (by omega)
theorem cal_g {i : Nat} (h : 16 ≤ i) : pCalibrates pl s i = s i := by
  unfold pCalibrates
  simp (disch := omega) only [↓pads_ne, ↓pad_ne, ↓pu_ne]
theorem idles_g {i : Nat} (h : 16 ≤ i) : pIdles pl s A i = s i := by
  unfold pIdles
  simp (disch := omega) only [↓pads_ne, ↓pad_ne, ↓pu_ne]
theorem logs_g (hW : pWS s A) {k v b : Int32} {i : Nat} (h : i ≠ 16 ∧ i < 227) : pLogs s k v b i = s i := by
  obtain ⟨n, hn, e⟩ := hW.hN
  unfold pLogs
  split
  · rfl
  · rw [e, pN_nI (by omega)]
    unfold pLogA
    simp (disch := omega) only [↓pad_ne, ↓pu_ne]
theorem pMd.logs (h : pMd pl s V) (hV : V ≤ 20) (hW : pWS s A) {k v b : Int32} : pMd pl (pLogs s k v b) V := h.cg hV fun i hi => logs_g hW (by omega)
theorem pMd.exp (h : pMd pl s V) (hV : V ≤ 20) {n : Nat} (hn : n ≤ 10) : pMd pl (pExp pl s n) V := h.cg hV fun i hi => exp_lo hn (by omega)
theorem pMd.step (h : pMd pl s V) (hw : pWP pl P V O) (hW : pWS s A) : pMd pl (pStep pl s V A).1 V := by
  have hA := hW.lA
  have hV := hw.lV
  have hX : pWS (pExp pl s A) A := hW.exp hA
  have hE := h.exp (pl := pl) hV hA
  unfold pStep
  split
  · rename_i a e
    have := pAl_l e
    obtain ⟨k, rfl⟩ : ∃ k, a = 20 + k := ⟨a - 20, by omega⟩
    exact (hE.ma hw hX (by omega)).logs hV (hX.ma hw (by omega))
  · by_cases h9 : pCalDue pl (pExp pl s A) = true
    · rw [if_pos h9]
      exact (hE.cg hV fun i hi => cal_g (by omega)).logs hV hX.calibrates
    · rw [if_neg h9]
      split
      · rename_i v e
        have := pCh_l e
        have hr := pCh_r e
        have h0 : pExp pl s A (47 + v) = 0 := by
          have s2 : pStateAt v = 47 + v := if_pos (by omega)
          refine Decidable.byContradiction fun z => ?_
          unfold pReason at hr
          rw [s2, if_pos z] at hr
          exact absurd hr (by decide)
        exact (hE.mv hw hX this h0).logs hV (hX.mv hw (by omega))
      · exact (hE.cg hV fun i hi => idles_g (by omega)).logs hV hX.idles
theorem pLg.cg (h : pLg s) (e : ∀ i, i = 16 ∨ 227 ≤ i → t i = s i) : pLg t := fun n k h1 h2 h3 => by
  rw [e _ (by omega)] at h1
  rw [e _ (by omega), e _ (by omega)]
  exact h n k h1 h2 h3
theorem pLg.logs (h : pLg s) (hW : pWS s A) {v b : Int32} {kd : Nat} (hk : kd < 5) (hv : kd ≤ 2 → ∃ j, j < 20 ∧ v = nI j) : pLg (pLogs s (nI kd) v b) := by
  obtain ⟨m, hm, e⟩ := hW.hN
  unfold pLogs
  split
  · exact h
  · rename_i c
    have hm2 : m < 100 := Nat.lt_of_le_of_ne hm (fun z => c (by rw [e, z]; rfl))
    rw [e, pN_nI (by omega)]
    intro n k h1 h2 h3
    unfold pLogA at h1 ⊢
    rw [pad_eq rfl] at h1
    simp (disch := omega) only [↓pad_ne, ↓pu_ne] at h1
    rw [e, show (1 : Int32) = nI 1 from rfl, nI_add] at h1
    have hn := (nI_eq (by omega) (by omega)).mp h1
    by_cases ck : k = m
    · subst ck
      refine ⟨kd, hk, ?_, fun z => ?_⟩
      · simp (disch := omega) only [↓pad_ne, ↓pu_ne, ↓pu_eqq]
      · obtain ⟨j, hj, ej⟩ := hv z
        exact ⟨j, hj, by simp (disch := omega) only [↓pad_ne, ↓pu_ne, ↓pu_eqq]; exact ej⟩
    · simp (disch := omega) only [↓pad_ne, ↓pu_ne]
      exact h m k e hm (by omega)
theorem pLg.step (h : pLg s) (hw : pWP pl P V O) (hW : pWS s A) : pLg (pStep pl s V A).1 := by
  have hA := hW.lA
  have hV := hw.lV
  have hX : pWS (pExp pl s A) A := hW.exp hA
  have hE : pLg (pExp pl s A) := h.cg fun i hi => exp_o hA fun k hk => by omega
  unfold pStep
  split
  · rename_i a e
    have := pAl_l e
    obtain ⟨k, rfl⟩ : ∃ k, a = 20 + k := ⟨a - 20, by omega⟩
    exact (hE.cg fun i hi => ma_g hw hX (by omega) hi).logs (hX.ma hw (by omega)) (kd := 2) (by omega) (fun _ => ⟨k, by omega, by rw [Nat.add_sub_cancel_left]⟩)
  · by_cases h9 : pCalDue pl (pExp pl s A) = true
    · rw [if_pos h9]
      exact (hE.cg fun i hi => cal_g (by omega)).logs hX.calibrates (kd := 3) (by omega) (fun z => absurd z (by omega))
    · rw [if_neg h9]
      split
      · rename_i v e
        have := pCh_l e
        have hk : (pMV pl (pExp pl s A) v A).2 = nI 0 ∨ (pMV pl (pExp pl s A) v A).2 = nI 1 := by
          unfold pMV
          split
          · exact Or.inr rfl
          · exact Or.inl rfl
        have q := hE.cg (t := (pMV pl (pExp pl s A) v A).1) fun i hi => mv_g hw hX (by omega) hi
        rcases hk with hk | hk
        · dsimp only
          rw [hk]
          exact q.logs (hX.mv hw (by omega)) (by omega) (fun _ => ⟨v, by omega, rfl⟩)
        · dsimp only
          rw [hk]
          exact q.logs (hX.mv hw (by omega)) (by omega) (fun _ => ⟨v, by omega, rfl⟩)
      · exact (hE.cg fun i hi => idles_g (by omega)).logs hX.idles (kd := 4) (by omega) (fun z => absurd z (by omega))
theorem xRw.many (hw : pWP pl P V O) (hp : pBP pl V) {pol : Nat} (hpol : pol < 4) (h : xRw pl s V A) (h5 : s 5 = nI pol) : ∀ {n : Nat}, xRw pl (pMany pl V A n s).1 V A := by
  intro n
  refine ⟨h.1.many hw, (many_b hw hp hpol h.1 h.2.1 h5).1, ?_⟩
  obtain ⟨a1, -, a3, a4⟩ := h
  revert s
  induction n with
  | zero => intro s _ _ a3 a4; exact ⟨a3, a4⟩
  | succ n ih =>
    intro s h5 a1 a3 a4
    rw [pMany_s]
    split
    · exact ⟨a3, a4⟩
    · exact ih ((step_5 hw a1).trans h5) (a1.step hw) (a3.step hw a1) (a4.step hw a1)
theorem pIm.many (hw : pWP pl P V O) (hp : pBP pl V) {pol : Nat} (hpol : pol < 4) : ∀ {n : Nat} {s : pR}, pWS s A → pBS pl s A → s 5 = nI pol → pIm s (pMany pl V A n s).1
  | 0, s, _, _, _ => pIm.refl s
  | n + 1, s, a1, a2, h5 => by
    rw [pMany_s]
    split
    · exact pIm.refl s
    · rename_i c
      have h0 : (s 0).toInt < (pl 0).toInt := Int.not_le.mp (fun z => c (le_t.mpr z))
      exact (pIm_stepP hw a1 hp a2 h0 hpol h5).trans (pIm.many hw hp hpol (a1.step hw) (step_e hw a1 hp a2 h0 hpol h5).2.1 ((step_5 hw a1).trans h5))
end LAWG
