/-! THE PURE LAW, fifth part: the kind of the next step; many steps -/
section LAWE
variable {pl s t : pR} {P V O A : Nat}
/-- rows that agree but for what a step can alter behind place 127 -/
theorem pLeft_im {q : Nat} (e : ∀ i, i < 127 → t i = s i) (hq : q < 6) : pLeft t q = pLeft s q := by unfold pLeft; rw [e _ (by omega), e _ (by omega), e _ (by omega)]
theorem cRs_im {k : Nat} (e : ∀ i, i < 127 → t i = s i) (hi : pIm s t) (hk : k < 30) (hq : pQ pl s k < 6) : cRs pl t O k = cRs pl s O k := by
  unfold cRs
  rw [cRsn_im hi hk, pQ_im hi hk, pLeft_im e hq, pGrows_im hi hk, pDur_im hi hk, cStart_im hi hk (e 0 (by omega)) (e 1 (by omega)) (e 2 (by omega)) (e 3 (by omega))]
theorem cRul_im {pol k o : Nat} (e : ∀ i, i < 127 → t i = s i) (hi : pIm s t) (hk : k < 20) (ho : o < 20) (hq : pQ pl s k < 6) (hq2 : pQ pl s o < 6) : cRul pl t pol k o = cRul pl s pol k o := by
  have e0 := e 0 (by omega)
  have e1 := e 1 (by omega)
  have e2 := e 2 (by omega)
  have e3 := e 3 (by omega)
  unfold cRul cPri cShr cDiv
  rw [cStart_im hi (by omega) e0 e1 e2 e3, cStart_im hi (by omega) e0 e1 e2 e3, cSlw_im hi (by omega) e1 e2, cSlw_im hi (by omega) e1 e2, pTo_im hi (by omega), pTo_im hi (by omega), pQ_im hi (by omega), pQ_im hi (by omega),
    e (107 + o) (by omega), e (107 + k) (by omega), e _ (by omega), e _ (by omega), e _ (by omega), e _ (by omega)]
theorem cCh_im (hw : pWP pl P V O) (hW : pWS s A) {pol : Nat} (e : ∀ i, i < 127 → t i = s i) (hi : pIm s t) : ∀ {n : Nat}, n ≤ 20 → cCh pl t O pol n = cCh pl s O pol n
  | 0, _ => rfl
  | n + 1, h => by
    have ih := cCh_im hw hW (pol := pol) e hi (n := n) (by omega)
    rw [cCh, cCh, ih]
    unfold cChS
    rw [e _ (by omega), cRs_im e hi (by omega) (pQ_l hw hW (by omega))]
    cases hc : cCh pl s O pol n with
    | none => rfl
    | some o =>
      have ho := cCh_l hc
      dsimp only
      rw [cRul_im e hi (by omega) (by omega) (pQ_l hw hW (by omega)) (pQ_l hw hW (by omega))]
theorem exp_lo {n i : Nat} (hn : n ≤ 10) (hi : i < 127) : pExp pl s n i = s i := exp_o hn fun k hk => by omega
theorem exp_st {n k : Nat} (hn : n ≤ 10) : pExp pl s n (127 + 10 * k + 7) = if k < n ∧ s (127 + 10 * k + 7) = 0 ∧ ¬ s 0 ≤ pTo pl s (20 + k) then 2 else s (127 + 10 * k + 7) := by
  induction n with
  | zero => rw [if_neg (by omega)]; rfl
  | succ n ih =>
    have h1 := ih (by omega)
    have hx : pIm s (pExp pl s n) := pIm_exp (by omega)
    have x0 : pExp pl s n 0 = s 0 := exp_lo (by omega) (by omega)
    have xn : pExp pl s n (127 + 10 * n + 7) = s (127 + 10 * n + 7) := exp_o (by omega) fun j hj => by omega
    rw [pExp]
    unfold pExpS
    rw [pSt_al, xn, x0, pTo_im hx (by omega)]
    by_cases e : k = n
    · subst e
      by_cases e1 : s (127 + 10 * k + 7) = 0
      · rw [if_pos e1]
        by_cases e2 : s 0 ≤ pTo pl s (20 + k)
        · rw [if_pos e2, if_neg (fun z => z.2.2 e2)]; exact xn
        · rw [if_neg e2, if_pos ⟨by omega, e1, e2⟩, pu_eqq rfl]
      · rw [if_neg e1, if_neg (fun z => e1 z.2.1)]; exact xn
    · have hne : (127 + 10 * k + 7) ≠ 127 + 10 * n + 7 := by omega
      have hc : (k < n + 1 ∧ s (127 + 10 * k + 7) = 0 ∧ ¬ s 0 ≤ pTo pl s (20 + k)) ↔ (k < n ∧ s (127 + 10 * k + 7) = 0 ∧ ¬ s 0 ≤ pTo pl s (20 + k)) := by
        constructor
        · intro z; exact ⟨by omega, z.2⟩
        · intro z; exact ⟨by omega, z.2⟩
      have h1' : pExp pl s n (127 + 10 * k + 7) = if k < n + 1 ∧ s (127 + 10 * k + 7) = 0 ∧ ¬ s 0 ≤ pTo pl s (20 + k) then 2 else s (127 + 10 * k + 7) := by
        rw [h1]
        by_cases z : k < n ∧ s (127 + 10 * k + 7) = 0 ∧ ¬ s 0 ≤ pTo pl s (20 + k)
        · rw [if_pos z, if_pos (hc.mpr z)]
        · rw [if_neg z, if_neg (fun y => z (hc.mp y))]
      rw [← h1']
      split
      · split
        · rfl
        · rw [pu_ne hne]
      · rfl
theorem exp_FA (hw : pWP pl P V O) (hW : pWS s A) {n : Nat} (h : n ≤ A) : cFA pl (pExp pl s A) O n = cFA pl s O n := by
  induction n with
  | zero => rfl
  | succ n ih0 =>
    have ih := ih0 (by omega)
    have hA := hW.lA
    have hx : pIm s (pExp pl s A) := pIm_exp hA
    have lo : ∀ i, i < 127 → pExp pl s A i = s i := fun i hi => exp_lo hA hi
    rw [cFA, cFA, ih]
    unfold cFAS
    rw [lo 0 (by omega), pTo_im hx (by omega), pFrom_im hx (by omega), cRs_im lo hx (by omega) (pQ_l hw hW (by omega)), exp_st hA]
    have hb : ∀ o, cFA pl s O n = some o → pTo pl (pExp pl s A) (20 + o) = pTo pl s (20 + o) := fun o ho => by
      have := cFA_l ho
      rw [pTo_im hx (by omega)]
    by_cases e : n < A ∧ s (127 + 10 * n + 7) = 0 ∧ ¬ s 0 ≤ pTo pl s (20 + n)
    · rw [if_pos e, decide_eq_false e.2.2, Bool.and_false, Bool.and_false, if_neg (show ¬ (false = true) by decide), if_neg (show ¬ (false = true) by decide)]
    · rw [if_neg e]
      cases hc : cFA pl s O n with
      | none => rfl
      | some o => dsimp only; rw [hb o hc]
theorem cCb_im (hw : pWP pl P V O) (hW : pWS s A) {v k : Nat} {st dm : Int32} (e : ∀ i, i < 127 → t i = s i) (hi : pIm s t) (hv : v < 20) (hk : k < 10) : cCb pl t O v k st dm = cCb pl s O v k st dm := by
  have wi : pIm s (cRow pl s v k st dm) := pIm_row
  have ti : pIm t (cRow pl t v k st dm) := pIm_row
  have wt : pIm (cRow pl s v k st dm) (cRow pl t v k st dm) := fun j hj b hb => (ti j hj b hb).trans ((hi j hj b hb).trans (wi j hj b hb).symm)
  have r0 : cRow pl t v k st dm 0 = cRow pl s v k st dm 0 := by
    unfold cRow; simp (disch := omega) only [↓pu_ne, ↓pu_eqq]; rw [pFrom_im hi (by omega)]
  have r1 : cRow pl t v k st dm 1 = cRow pl s v k st dm 1 := by
    unfold cRow; simp (disch := omega) only [↓pu_ne, ↓pu_eqq]; rw [pLon_im hi (by omega)]
  have r2 : cRow pl t v k st dm 2 = cRow pl s v k st dm 2 := by
    unfold cRow; simp (disch := omega) only [↓pu_ne, ↓pu_eqq]; rw [pLat_im hi (by omega)]
  have r3 : cRow pl t v k st dm 3 = cRow pl s v k st dm 3 := by
    unfold cRow; simp (disch := omega) only [↓pu_ne, ↓pu_eqq]; rw [pFrom_im hi (by omega), pGrows_im hi (by omega), e 3 (by omega)]
  have lf : cLf pl t v k st = cLf pl s v k st := by
    unfold cLf
    rw [pQ_im hi (by omega), pQ_im hi (by omega), pLeft_im e (pQ_l hw hW (by omega)), pFrom_im hi (by omega)]
  unfold cCb
  rw [lf, cRsn_im wt (by omega), pDur_im wt (by omega), pGrows_im wt (by omega), cStart_im wt (by omega) r0 r1 r2 r3]
theorem exp_FB (hw : pWP pl P V O) (hW : pWS s A) (hp : pBP pl V) (hs : pBS pl s A) {v : Nat} (hv : v < 20) {st en dm : Int32} (hst : (s 0).toInt ≤ st.toInt) {n : Nat} (h : n ≤ A) : cFB pl (pExp pl s A) O v st en dm n = cFB pl s O v st en dm n := by
  induction n with
  | zero => rfl
  | succ n ih0 =>
    have ih := ih0 (by omega)
    have hA := hW.lA
    have hx : pIm s (pExp pl s A) := pIm_exp hA
    have lo : ∀ i, i < 127 → pExp pl s A i = s i := fun i hi => exp_lo hA hi
    rw [cFB, cFB, ih]
    unfold cFBS
    rw [pFrom_im hx (by omega), cCb_im hw hW lo hx hv (by omega), exp_st hA]
    have hb : ∀ o, cFB pl s O v st en dm n = some o → pFrom pl (pExp pl s A) (20 + o) = pFrom pl s (20 + o) := fun o ho => by
      have := cFB_l ho
      rw [pFrom_im hx (by omega)]
    by_cases e : n < A ∧ s (127 + 10 * n + 7) = 0 ∧ ¬ s 0 ≤ pTo pl s (20 + n)
    · have tn := pBT.of hp hs.al (k := 20 + n) (by omega)
      have hto : (pFrom pl s (20 + n)).toInt ≤ (pTo pl s (20 + n)).toInt := by
        obtain ⟨a1, a2⟩ := tn.2.2.2.2.1
        obtain ⟨b1, b2⟩ := (hs.al.1 n (by omega)).2.2.2.2.2
        have h2 : pTo pl s (20 + n) = pFrom pl s (20 + n) + s (127 + 10 * n + 6) := by
          unfold pTo; rw [if_neg (by omega), Nat.add_sub_cancel_left]
        rw [h2, i32_add (by omega) (by omega)]; omega
      have h3 : ¬ (s 0).toInt ≤ (pTo pl s (20 + n)).toInt := fun z => e.2.2 (le_t.mpr z)
      have h4 : pFrom pl s (20 + n) ≤ st := le_t.mpr (by omega)
      rw [if_pos e, if_neg (by decide), if_pos e.2.1, if_pos h4]
    · rw [if_neg e]
      cases hc : cFB pl s O v st en dm n with
      | none => rfl
      | some o => dsimp only; rw [hb o hc]
theorem nk_e (hw : pWP pl P V O) (hW : pWS s A) (hp : pBP pl V) (hs : pBS pl s A) {pol : Nat} (hpol : pol < 4) (h5 : s 5 = nI pol) (h0 : ¬ s 0 = pl 0) : cNK pl s V O A pol = (pStep pl s V A).2 := by
  have hA := hW.lA
  have hV := hw.lV
  have hX : pWS (pExp pl s A) A := hW.exp hA
  have hB : pBS pl (pExp pl s A) A := hs.exp hA hA
  have hx : pIm s (pExp pl s A) := pIm_exp hA
  have lo : ∀ i, i < 127 → pExp pl s A i = s i := fun i hi => exp_lo hA hi
  have x5 : pExp pl s A 5 = nI pol := (lo 5 (by omega)).trans h5
  have hcd : pCalDue pl (pExp pl s A) = pCalDue pl s := by unfold pCalDue; rw [lo 0 (by omega), lo 4 (by omega), lo 15 (by omega)]
  unfold cNK pStep
  rw [if_neg h0, ← cFA_e hw hp hB hA, ← cCh_e hw hX hp hB hpol x5 hV, exp_FA hw hW (Nat.le_refl _), cCh_im hw hW lo hx hV, hcd]
  cases hc : cFA pl s O A with
  | some k => rfl
  | none =>
    dsimp only [Option.map]
    by_cases h9 : pCalDue pl s = true
    · rw [if_pos h9, if_pos h9]; rfl
    · rw [if_neg h9, if_neg h9]
      cases hd : cCh pl s O pol V with
      | none => rfl
      | some v =>
        have hv := cCh_l hd
        dsimp only
        have tv := pBT.of hp hB.al (k := v) (by omega)
        have tv0 := pBT.of hp hs.al (k := v) (by omega)
        have e1 := cFB_e hw hX hp hB (v := v) (by omega) (n := A) hA
        have sx : cStart pl (pExp pl s A) v = cStart pl s v := cStart_im hx (by omega) (lo 0 (by omega)) (lo 1 (by omega)) (lo 2 (by omega)) (lo 3 (by omega))
        rw [sx, pDur_im hx (by omega), cDump_im hx (by omega) (lo 3 (by omega)), exp_FB hw hW hp hs (by omega) (cStart_b hp hs.r tv0).2 (Nat.le_refl _)] at e1
        unfold pMV
        rw [← e1]
        cases cFB pl s O v (cStart pl s v) (cStart pl s v + pDur pl s v) (cDump pl s v) A <;> rfl
theorem fin_o (hw : pWP pl P V O) (hW : pWS s A) {k i : Nat} (hk : k < 30) (h : i = 5 ∨ i = 15) : pFinishes pl (pComes pl s k) k i = s i := by
  have hq := pQ_l hw (hW.comes hw hk) hk
  have hq6 := pQ_l hw hW hk
  obtain ⟨x1, y1, -, -, -⟩ := pSS k hk
  rw [fin_e hw (hW.comes hw hk) hk, pu_ne (by omega), pu_ne (by omega), pass_e hk, if_neg (by decide), if_neg (by decide)]
  simp (disch := omega) only [↓pads_ne, ↓pad_ne]
  exact comes_o hw hW hk (by omega)
theorem mv_o (hw : pWP pl P V O) (hW : pWS s A) {v i : Nat} (hv : v < 20) (h : i = 5 ∨ i = 15) : (pMV pl s v A).1 i = s i := by
  have hq := pQ_l hw (hW.comes hw (k := v) (by omega)) (k := v) (by omega)
  have hq6 := pQ_l hw hW (k := v) (by omega)
  unfold pMV
  split
  · dsimp only
    rw [pad_ne (by omega), pass_e (by omega), if_pos rfl, if_pos rfl]
    simp (disch := omega) only [↓pads_ne, ↓pad_ne]
    exact comes_o hw hW (by omega) (by omega)
  · dsimp only
    rw [pad_ne (by omega)]
    exact fin_o hw hW (by omega) h
theorem logs_o (hW : pWS s A) {k v b : Int32} {i : Nat} (h : i < 16) : pLogs s k v b i = s i := by
  obtain ⟨n, hn, e⟩ := hW.hN
  unfold pLogs
  split
  · rfl
  · rw [e, pN_nI (by omega)]
    unfold pLogA
    simp (disch := omega) only [↓pad_ne, ↓pu_ne]
/-- policy and cadence stay -/
theorem step_o (hw : pWP pl P V O) (hW : pWS s A) {i : Nat} (h : i = 5 ∨ i = 15) : (pStep pl s V A).1 i = s i := by
  have hA := hW.lA
  have hV := hw.lV
  have hX : pWS (pExp pl s A) A := hW.exp hA
  have lo : pExp pl s A i = s i := exp_lo hA (by omega)
  unfold pStep
  split
  · rename_i a e
    have := pAl_l e
    dsimp only
    rw [logs_o (hX.ma hw (by omega)) (by omega)]
    exact (fin_o hw hX (by omega) h).trans lo
  · by_cases h9 : pCalDue pl (pExp pl s A) = true
    · rw [if_pos h9]
      dsimp only
      rw [logs_o hX.calibrates (by omega)]
      unfold pCalibrates
      simp (disch := omega) only [↓pads_ne, ↓pad_ne, ↓pu_ne]
      exact lo
    · rw [if_neg h9]
      split
      · rename_i v e
        have := pCh_l e
        dsimp only
        rw [logs_o (hX.mv hw (by omega)) (by omega)]
        exact (mv_o hw hX (by omega) h).trans lo
      · dsimp only
        rw [logs_o hX.idles (by omega)]
        unfold pIdles
        simp (disch := omega) only [↓pads_ne, ↓pad_ne, ↓pu_ne]
        exact lo
theorem step_5 (hw : pWP pl P V O) (hW : pWS s A) : (pStep pl s V A).1 5 = s 5 := step_o hw hW (Or.inl rfl)
/-- many steps keep bounds -/
theorem many_b (hw : pWP pl P V O) (hp : pBP pl V) {pol : Nat} (hpol : pol < 4) : ∀ {n : Nat} {s : pR}, pWS s A → pBS pl s A → s 5 = nI pol → pBS pl (pMany pl V A n s).1 A ∧ ((pl 0).toInt ≤ ((pMany pl V A n s).1 0).toInt ∨ (s 0).toInt + n ≤ ((pMany pl V A n s).1 0).toInt) ∧ (pMany pl V A n s).1 5 = nI pol
  | 0, s, hW, hs, h5 => ⟨hs, Or.inr (by show (s 0).toInt + ((0 : Nat) : Int) ≤ (s 0).toInt; omega), h5⟩
  | n + 1, s, hW, hs, h5 => by
    rw [pMany_s]
    by_cases h9 : pl 0 ≤ s 0
    · rw [if_pos h9]; exact ⟨hs, Or.inl (le_t.mp h9), h5⟩
    · rw [if_neg h9]
      have h0 : (s 0).toInt < (pl 0).toInt := by have := mt le_t.mpr h9; omega
      obtain ⟨-, b, c⟩ := step_e hw hW hp hs h0 hpol h5
      have h5' : (pStep pl s V A).1 5 = nI pol := (step_5 hw hW).trans h5
      obtain ⟨i1, i2, i3⟩ := many_b hw hp hpol (n := n) (hW.step hw) b h5'
      refine ⟨i1, ?_, i3⟩
      dsimp only
      omega
end LAWE
