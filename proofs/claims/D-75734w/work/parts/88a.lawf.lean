/-! THE PURE LAW, sixth part: the component's row beside the model's: alerts that aren't there are laid out in another way -/
/-- places of states and starts of alerts from A on -/
def pX (A i : Nat) : Prop := 127 + 10 * A ≤ i ∧ i < 227 ∧ ((i - 127) % 10 = 7 ∨ (i - 127) % 10 = 8)
/-- rows that agree elsewhere -/
def pR' (A : Nat) (s t : pR) : Prop := ∀ i, ¬ pX A i → t i = s i
/-- the component's row for the model's row s -/
def pF (A : Nat) (s : pR) : pR := fun i => if 127 + 10 * A ≤ i ∧ i < 227 ∧ (i - 127) % 10 = 7 then 0 else if 127 + 10 * A ≤ i ∧ i < 227 ∧ (i - 127) % 10 = 8 then -1 else s i
theorem pF_o {A i : Nat} {s : pR} (h : ¬ pX A i) : pF A s i = s i := by
  unfold pF
  rw [if_neg (fun z => h ⟨z.1, z.2.1, Or.inl z.2.2⟩), if_neg (fun z => h ⟨z.1, z.2.1, Or.inr z.2.2⟩)]
theorem pF_R {A : Nat} {s : pR} : pR' A s (pF A s) := fun _ h => pF_o h
theorem pX_lo {A i : Nat} (h : i < 127 ∨ 227 ≤ i) : ¬ pX A i := by unfold pX; omega
section LAWF
variable {pl s t : pR} {P V O A : Nat}
theorem pR'.lo (h : pR' A s t) : ∀ i, i < 127 → t i = s i := fun i hi => h i (pX_lo (Or.inl hi))
theorem pR'.im (h : pR' A s t) : pIm s t := fun k hk j hj => h _ (by unfold pX; omega)
theorem pR'.st (h : pR' A s t) {k : Nat} (hk : k < A) (hA : A ≤ 10) : t (127 + 10 * k + 7) = s (127 + 10 * k + 7) := h _ (by unfold pX; omega)
theorem pR'.up (h : pR' A s t) {i : Nat} {v : Int32} : pR' A (upd s i v) (upd t i v) := fun j hj => by
  unfold upd
  by_cases e : j = i
  · rw [if_pos e, if_pos e]
  · rw [if_neg e, if_neg e]; exact h j hj
theorem pR'.add (h : pR' A s t) {i : Nat} {v : Int32} : pR' A (pAdd s i v) (pAdd t i v) := fun j hj => by
  by_cases e : j = i
  · subst e; rw [pad_eq rfl, pad_eq rfl, h j hj]
  · rw [pad_ne e, pad_ne e]; exact h j hj
theorem pR'.adds (h : pR' A s t) {i : Nat} {v : Int32} : pR' A (pAdds s i v) (pAdds t i v) := h.add
/-- what a write elsewhere leaves -/
def pSame (A : Nat) (t u : pR) : Prop := ∀ i, pX A i → u i = t i
theorem pSame.rfl' : pSame A t t := fun _ _ => rfl
theorem pSame.trans {u w : pR} (a : pSame A t u) (b : pSame A u w) : pSame A t w := fun i hi => (b i hi).trans (a i hi)
theorem pSame.up {u : pR} (a : pSame A t u) {i : Nat} {v : Int32} (h : ¬ pX A i) : pSame A t (upd u i v) := fun j hj => by
  rw [pu_ne (fun e => h (by rw [← e]; exact hj))]; exact a j hj
theorem pSame.add {u : pR} (a : pSame A t u) {i : Nat} {v : Int32} (h : ¬ pX A i) : pSame A t (pAdd u i v) := a.up h
theorem pX_st {k : Nat} (hk : k < A) : ¬ pX A (127 + 10 * k + 7) ∧ ¬ pX A (127 + 10 * k + 8) := by unfold pX; omega
/-- both, at once: s and t agree, and t is as t0 where alerts aren't -/
def pB (A : Nat) (t0 s t : pR) : Prop := pR' A s t ∧ pSame A t0 t
theorem pB.up {t0 : pR} (h : pB A t0 s t) {i : Nat} {v w : Int32} (e : v = w) (hx : ¬ pX A i) : pB A t0 (upd s i v) (upd t i w) := by subst e; exact ⟨h.1.up, h.2.up hx⟩
theorem pB.add {t0 : pR} (h : pB A t0 s t) {i : Nat} {v w : Int32} (e : v = w) (hx : ¬ pX A i) : pB A t0 (pAdd s i v) (pAdd t i w) := by subst e; exact ⟨h.1.add, h.2.add hx⟩
theorem pB.ite {t0 s' t' : pR} {c d : Prop} [Decidable c] [Decidable d] (e : c ↔ d) (h : pB A t0 s t) (h2 : pB A t0 s' t') : pB A t0 (if c then s else s') (if d then t else t') := by
  by_cases z : c
  · rw [if_pos z, if_pos (e.mp z)]; exact h
  · rw [if_neg z, if_neg (fun y => z (e.mpr y))]; exact h2
theorem pB.exp {t0 : pR} (h : pB A t0 s t) (hA : A ≤ 10) {n : Nat} (hn : n ≤ A) : pB A t0 (pExp pl s n) (pExp pl t n) := by
  induction n with
  | zero => exact h
  | succ n ih0 =>
    have ih := ih0 (by omega)
    rw [pExp, pExp]
    unfold pExpS
    rw [pSt_al, ih.1.st (by omega) hA, ih.1.lo 0 (by omega), pTo_im ih.1.im (by omega)]
    exact pB.ite Iff.rfl (pB.ite Iff.rfl ih (ih.up rfl (pX_st (by omega)).1)) ih
theorem cFA_R (hw : pWP pl P V O) (hW : pWS s A) (h : pR' A s t) {n : Nat} (hn : n ≤ A) : cFA pl t O n = cFA pl s O n := by
  induction n with
  | zero => rfl
  | succ n ih0 =>
    have hA := hW.lA
    rw [cFA, cFA, ih0 (by omega)]
    unfold cFAS
    rw [h.lo 0 (by omega), pTo_im h.im (by omega), pFrom_im h.im (by omega), cRs_im h.lo h.im (by omega) (pQ_l hw hW (by omega)), h.st (by omega) hA]
    have hb : ∀ o, cFA pl s O n = some o → pTo pl t (20 + o) = pTo pl s (20 + o) := fun o ho => by
      have := cFA_l ho
      rw [pTo_im h.im (by omega)]
    cases hc : cFA pl s O n with
    | none => rfl
    | some o => dsimp only; rw [hb o hc]
theorem cFB_R (hw : pWP pl P V O) (hW : pWS s A) (h : pR' A s t) {v : Nat} (hv : v < 20) {st en dm : Int32} {n : Nat} (hn : n ≤ A) : cFB pl t O v st en dm n = cFB pl s O v st en dm n := by
  induction n with
  | zero => rfl
  | succ n ih0 =>
    have hA := hW.lA
    rw [cFB, cFB, ih0 (by omega)]
    unfold cFBS
    rw [pFrom_im h.im (by omega), cCb_im hw hW h.lo h.im hv (by omega), h.st (by omega) hA]
    have hb : ∀ o, cFB pl s O v st en dm n = some o → pFrom pl t (20 + o) = pFrom pl s (20 + o) := fun o ho => by
      have := cFB_l ho
      rw [pFrom_im h.im (by omega)]
    cases hc : cFB pl s O v st en dm n with
    | none => rfl
    | some o => dsimp only; rw [hb o hc]
theorem pB.car {t0 : pR} (hw : pWP pl P V O) (hW : pWS s A) (h : pB A t0 s t) {k : Nat} (hk : k < 30) {dm sl st mi : Int32} : pB A t0 (cCar pl s k dm sl st mi) (cCar pl t k dm sl st mi) := by
  have hq := pQ_l hw hW hk
  unfold cCar cCarD cCarC cCarB cCarA cMd
  rw [pQ_im h.1.im hk, pGrows_im h.1.im hk, pLon_im h.1.im hk, pLat_im h.1.im hk, pDur_im h.1.im hk]
  have lo : ∀ i, i < 127 → ¬ pX A i := fun i hi => pX_lo (Or.inl hi)
  have h1 := pB.ite (A := A) (c := 0 < dm) (d := 0 < dm) Iff.rfl (((h.up (i := 3) (v := nI 0) rfl (lo _ (by omega))).add (i := 9) (v := dm) rfl (lo _ (by omega))).add (i := 12) (v := nI 1) rfl (lo _ (by omega))) h
  have h2 := ((((((h1.add (i := 8) (v := sl) rfl (lo _ (by omega))).add (i := 41 + pQ pl s k) (v := sl) rfl (lo _ (by omega))).add (i := 3) (v := pGrows pl s k mi) rfl (lo _ (by omega))).up (i := 1) (v := pLon pl s k) rfl (lo _ (by omega))).up (i := 2) (v := pLat pl s k) rfl (lo _ (by omega))).up (i := 0) (v := st + mi) rfl (lo _ (by omega)))
  exact pB.ite Iff.rfl ((h2.add rfl (lo _ (by omega))).add rfl (lo _ (by omega))) ((h2.add rfl (lo _ (by omega))).add rfl (lo _ (by omega)))
theorem pB.logs {t0 : pR} {a b c : Int32} (hW : pWS s A) (h : pB A t0 s t) : pB A t0 (pLogs s a b c) (pLogs t a b c) := by
  obtain ⟨n, hn, e⟩ := hW.hN
  have e2 : t 16 = nI n := (h.1.lo 16 (by omega)).trans e
  have hi : ∀ i, 227 ≤ i → ¬ pX A i := fun i hi => pX_lo (Or.inr hi)
  have l0 : ∀ r : pR, pLogA r n a b c 0 = r 0 := fun r => by unfold pLogA; simp (disch := omega) only [↓pu_ne]
  unfold pLogs
  rw [e2, e, pN_nI (by omega), l0, l0]
  refine pB.ite Iff.rfl h ?_
  refine pB.add (pB.up ?_ (h.1.lo 0 (by omega)).symm (hi _ (by omega))) rfl (pX_lo (by omega))
  exact (((h.up rfl (hi _ (by omega))).up rfl (hi _ (by omega))).up rfl (hi _ (by omega)))
theorem pIdleTo_R (hA : A ≤ 10) (h : pR' A s t) {n : Nat} (hn : n ≤ A) : pIdleTo pl t n = pIdleTo pl s n := by
  induction n with
  | zero => show iMin (t 0 + 10) (pl 0) = iMin (s 0 + 10) (pl 0); rw [h.lo 0 (by omega)]
  | succ n ih0 =>
    rw [pIdleTo, pIdleTo, ih0 (by omega), pSt_al, h.st (by omega) hA, pFrom_im h.im (by omega), h.lo 0 (by omega)]
/-- a step of the component's row -/
theorem pB.st (hw : pWP pl P V O) (hW : pWS s A) {t0 : pR} (h : pB A t0 s t) {pol : Nat} : pB A t0 (cSt pl s V O A pol) (cSt pl t V O A pol) := by
  have hA := hW.lA
  have hV := hw.lV
  have hx := h.exp (pl := pl) hA (Nat.le_refl A)
  have hX : pWS (pExp pl s A) A := hW.exp hA
  have lo := hx.1.lo
  have im := hx.1.im
  have nx : ∀ i, i < 127 → ¬ pX A i := fun i hi => pX_lo (Or.inl hi)
  have hcd : pCalDue pl (pExp pl t A) = pCalDue pl (pExp pl s A) := by unfold pCalDue; rw [lo 0 (by omega), lo 4 (by omega), lo 15 (by omega)]
  unfold cSt cStB
  rw [h.1.lo 0 (by omega), cFA_R hw hX hx.1 (Nat.le_refl _), cCh_im hw hX lo im hV, hcd]
  cases hc : cFA pl (pExp pl s A) O A with
  | some k =>
    have hk := cFA_l hc
    dsimp only
    unfold cMA
    rw [cDump_im im (by omega) (lo 3 (by omega)), cSlw_im im (by omega) (lo 1 (by omega)) (lo 2 (by omega)), cStart_im im (by omega) (lo 0 (by omega)) (lo 1 (by omega)) (lo 2 (by omega)) (lo 3 (by omega)), pDur_im im (by omega)]
    exact pB.logs (hX.cma hw (by omega)) (((hx.car hw hX (by omega)).up rfl (pX_st hk).1).up rfl (pX_st hk).2)
  | none =>
    dsimp only
    by_cases h9 : pCalDue pl (pExp pl s A) = true
    · rw [if_pos h9, if_pos h9]
      refine pB.logs hX.calibrates ?_
      unfold pCalibrates
      refine pB.add (pB.add (pB.up (hx.add rfl (nx _ (by omega))) ?_ (nx _ (by omega))) rfl (nx _ (by omega))) rfl (nx _ (by omega))
      rw [pad_eq rfl, pad_eq rfl, lo 0 (by omega)]
    · rw [if_neg h9, if_neg h9]
      cases hd : cCh pl (pExp pl s A) O pol V with
      | some v =>
        have hv := cCh_l hd
        dsimp only
        have e1 := cDump_im (pl := pl) im (k := v) (by omega) (lo 3 (by omega))
        have e2 := cSlw_im (pl := pl) im (k := v) (by omega) (lo 1 (by omega)) (lo 2 (by omega))
        have e3 := cStart_im (pl := pl) im (k := v) (by omega) (lo 0 (by omega)) (lo 1 (by omega)) (lo 2 (by omega)) (lo 3 (by omega))
        have e4 := pDur_im (pl := pl) im (k := v) (by omega)
        have e5 := cFB_R hw hX hx.1 (v := v) (by omega) (st := cStart pl (pExp pl s A) v) (en := cStart pl (pExp pl s A) v + pDur pl (pExp pl s A) v) (dm := cDump pl (pExp pl s A) v) (Nat.le_refl A)
        have hcm := hX.cmv hw (v := v) (by omega)
        unfold cMV at hcm ⊢
        rw [e1, e2, e3, e4, e5]
        cases hf : cFB pl (pExp pl s A) O v (cStart pl (pExp pl s A) v) (cStart pl (pExp pl s A) v + pDur pl (pExp pl s A) v) (cDump pl (pExp pl s A) v) A with
        | some k =>
          have hk := cFB_l hf
          rw [hf] at hcm
          dsimp only at hcm ⊢
          rw [pFrom_im im (by omega)]
          exact pB.logs hcm ((hx.car hw hX (by omega)).add rfl (nx _ (by omega)))
        | none =>
          rw [hf] at hcm
          dsimp only at hcm ⊢
          exact pB.logs hcm (((hx.car hw hX (by omega)).up rfl (nx _ (by omega))).up rfl (nx _ (by omega)))
      | none =>
        dsimp only
        refine pB.logs hX.idles ?_
        unfold pIdles
        rw [pIdleTo_R hA hx.1 (Nat.le_refl _), lo 0 (by omega)]
        exact (hx.add rfl (nx _ (by omega))).up rfl (nx _ (by omega))
theorem pF_B : pB A (pF A s) s (pF A s) := ⟨pF_R, pSame.rfl'⟩
/-- A STEP on the component's row -/
theorem stepF_e (hw : pWP pl P V O) (hW : pWS s A) (hp : pBP pl V) (hs : pBS pl s A) (h0 : (s 0).toInt < (pl 0).toInt) {pol : Nat} (hpol : pol < 4) (h5 : s 5 = nI pol) : pEq (cSt pl (pF A s) V O A pol) (pF A (pStep pl s V A).1) := by
  have h1 := (step_e hw hW hp hs h0 hpol h5).1
  have hb := pB.st (pl := pl) hw hW (pF_B (A := A) (s := s)) (pol := pol)
  intro i hi
  by_cases e : pX A i
  · rw [hb.2 i e]
    obtain ⟨e1, e2, e3⟩ := e
    unfold pF
    rcases e3 with e3 | e3
    · rw [if_pos ⟨e1, e2, e3⟩, if_pos ⟨e1, e2, e3⟩]
    · rw [if_neg (fun z => by omega), if_pos ⟨e1, e2, e3⟩, if_neg (fun z => by omega), if_pos ⟨e1, e2, e3⟩]
  · rw [hb.1 i e, pF_o e]; exact h1 i hi
/-- the kind of the next step on the component's row -/
theorem nkF_e (hw : pWP pl P V O) (hW : pWS s A) (hp : pBP pl V) (hs : pBS pl s A) {pol : Nat} (hpol : pol < 4) (h5 : s 5 = nI pol) (h0 : ¬ s 0 = pl 0) : cNK pl (pF A s) V O A pol = (pStep pl s V A).2 := by
  have h : pR' A s (pF A s) := pF_R
  have lo := h.lo
  have im := h.im
  rw [← nk_e hw hW hp hs hpol h5 h0]
  unfold cNK
  rw [lo 0 (by omega), cFA_R hw hW h (Nat.le_refl _), cCh_im hw hW lo im hw.lV, show pCalDue pl (pF A s) = pCalDue pl s by unfold pCalDue; rw [lo 0 (by omega), lo 4 (by omega), lo 15 (by omega)]]
  cases cFA pl s O A with
  | some k => rfl
  | none =>
    dsimp only
    cases hd : cCh pl s O pol V with
    | none => rfl
    | some v =>
      have hv := cCh_l hd
      have hV := hw.lV
      dsimp only
      rw [cStart_im im (by omega) (lo 0 (by omega)) (lo 1 (by omega)) (lo 2 (by omega)) (lo 3 (by omega)), pDur_im im (by omega), cDump_im im (by omega) (lo 3 (by omega)), cFB_R hw hW h (by omega) (Nat.le_refl _)]
theorem pWS.F (h : pWS s A) : pWS (pF A s) A := by
  refine ⟨(pF_o (pX_lo (by omega))).trans h.hA, h.lA, ?_, fun k hk => ?_⟩
  · obtain ⟨n, hn, e⟩ := h.hN
    exact ⟨n, hn, (pF_o (pX_lo (by omega))).trans e⟩
  · obtain ⟨q, hq, e⟩ := h.pr k hk
    exact ⟨q, hq, (pF_o (by unfold pX; omega)).trans e⟩
end LAWF
