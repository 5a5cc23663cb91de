/-! THE PURE LAW, second part: rules, choices, breaks: the component's and the model's -/
/-- a row in its bounds -/
def pBS (pl s : pR) (A : Nat) : Prop :=
  (vB (s 0) 0 2000 ∧ (s 0).toInt ≤ (pl 0).toInt ∧ vB (s 1) 0 359 ∧ vB (s 2) (-90) 90 ∧ vB (s 3) 0 9999) ∧ ((∃ p, p < 4 ∧ s 5 = nI p) ∧ vB (s 15) 10 2000) ∧ pBA s A ∧
  (∀ q, q < 6 → vB (s (17 + q)) 0 9999 ∧ 0 ≤ (s (23 + q)).toInt ∧ 0 ≤ (s (29 + q)).toInt ∧ (s (23 + q)).toInt + (s (29 + q)).toInt ≤ (s (17 + q)).toInt) ∧ (∀ k, k < 20 → vB (s (107 + k)) 0 9) ∧
  ∀ k, k < 100 → 0 ≤ (s (227 + 4 * k + 2)).toInt ∧ (s (227 + 4 * k + 2)).toInt ≤ (s (227 + 4 * k + 3)).toInt ∧ (s (227 + 4 * k + 3)).toInt ≤ 2000
section LAWB
variable {pl s t : pR} {P V O A : Nat}
theorem pBS.t0 (h : pBS pl s A) : vB (s 0) 0 2000 := h.1.1
theorem pBS.th (h : pBS pl s A) : (s 0).toInt ≤ (pl 0).toInt := h.1.2.1
theorem pBS.m (h : pBS pl s A) : vB (s 3) 0 9999 := h.1.2.2.2.2
theorem pBS.pol (h : pBS pl s A) : ∃ p, p < 4 ∧ s 5 = nI p := h.2.1.1
theorem pBS.cad (h : pBS pl s A) : vB (s 15) 10 2000 := h.2.1.2
theorem pBS.al (h : pBS pl s A) : pBA s A := h.2.2.1
theorem pBS.g (h : pBS pl s A) : ∀ q, q < 6 → vB (s (17 + q)) 0 9999 ∧ 0 ≤ (s (23 + q)).toInt ∧ 0 ≤ (s (29 + q)).toInt ∧ (s (23 + q)).toInt + (s (29 + q)).toInt ≤ (s (17 + q)).toInt := h.2.2.2.1
theorem pBS.pri (h : pBS pl s A) : ∀ k, k < 20 → vB (s (107 + k)) 0 9 := h.2.2.2.2.1
theorem pBS.lg (h : pBS pl s A) : ∀ k, k < 100 → 0 ≤ (s (227 + 4 * k + 2)).toInt ∧ (s (227 + 4 * k + 2)).toInt ≤ (s (227 + 4 * k + 3)).toInt ∧ (s (227 + 4 * k + 3)).toInt ≤ 2000 := h.2.2.2.2.2
theorem pBS.r (h : pBS pl s A) : pBR s := ⟨h.1.1, h.1.2.2.1, h.1.2.2.2.1, ⟨h.m.1, by have := h.m.2; omega⟩⟩
theorem cCmp_l {a b : Int32} : cCmp a b < 0 ↔ a < b := by
  unfold cCmp
  by_cases h : a < b
  · rw [if_pos h]; exact ⟨fun _ => h, fun _ => by decide⟩
  · rw [if_neg h]
    by_cases e : a = b
    · rw [if_pos e]; exact ⟨fun z => absurd z (by decide), fun z => absurd z h⟩
    · rw [if_neg e]; exact ⟨fun z => absurd z (by decide), fun z => absurd z h⟩
theorem cCmp_e {a b : Int32} : cCmp a b = 0 ↔ a = b := by
  unfold cCmp
  by_cases h : a < b
  · rw [if_pos h]; exact ⟨fun z => absurd z (by decide), fun z => absurd h (by rw [z]; exact Int32.lt_irrefl)⟩
  · rw [if_neg h]
    by_cases e : a = b
    · rw [if_pos e]; exact ⟨fun _ => e, fun _ => rfl⟩
    · rw [if_neg e]; exact ⟨fun z => absurd z (by decide), fun z => absurd z e⟩
theorem cCmpL_l {a b : Int64} : cCmpL a b < 0 ↔ a < b := by
  unfold cCmpL
  by_cases h : a < b
  · rw [if_pos h]; exact ⟨fun _ => h, fun _ => by decide⟩
  · rw [if_neg h]
    by_cases e : a = b
    · rw [if_pos e]; exact ⟨fun z => absurd z (by decide), fun z => absurd z h⟩
    · rw [if_neg e]; exact ⟨fun z => absurd z (by decide), fun z => absurd z h⟩
theorem cCmpL_e {a b : Int64} : cCmpL a b = 0 ↔ a = b := by
  unfold cCmpL
  by_cases h : a < b
  · rw [if_pos h]; exact ⟨fun z => absurd z (by decide), fun z => absurd h (by rw [z]; exact Int64.lt_irrefl)⟩
  · rw [if_neg h]
    by_cases e : a = b
    · rw [if_pos e]; exact ⟨fun _ => e, fun _ => rfl⟩
    · rw [if_neg e]; exact ⟨fun z => absurd z (by decide), fun z => absurd z e⟩
theorem sub_s {a b : Int32} (ha : vB a (-100000) 100000) (hb : vB b (-100000) 100000) : (0 < a - b ↔ b < a) ∧ (a - b = 0 ↔ a = b) := by
  obtain ⟨a1, a2⟩ := ha
  obtain ⟨b1, b2⟩ := hb
  have h : (a - b).toInt = a.toInt - b.toInt := i32_sub (by omega) (by omega)
  rw [lt_t, lt_t, eq_t, eq_t, h, t_0]
  omega
theorem vB.w {x : Int32} {a b c d : Int} (h : vB x a b) (h1 : c ≤ a) (h2 : b ≤ d) : vB x c d := ⟨Int.le_trans h1 h.1, Int.le_trans h.2 h2⟩
/-- a first compare, then another one: as the model says it -/
theorem cOr_by {f g by' more : Int32} (h1 : f < 0 ↔ 0 < by') (h2 : f = 0 ↔ by' = 0) (h3 : g < 0 ↔ 0 < more) : (cOr f g < 0) ↔ (if by' = 0 then decide (0 < more) else decide (0 < by')) = true := by
  unfold cOr
  by_cases e : f = 0
  · rw [if_pos e, if_pos (h2.mp e), h3, decide_eq_true_iff]
  · rw [if_neg e, if_neg (fun z => e (h2.mpr z)), h1, decide_eq_true_iff]
theorem cPri_e (hs : pBS pl s A) {k o : Nat} (hk : k < 20) (ho : o < 20) : (cPri s k o < 0 ↔ 0 < pMore s k o) ∧ (cPri s k o = 0 ↔ pMore s k o = 0) := by
  have h1 := (hs.pri k hk).w (c := -100000) (d := 100000) (by decide) (by decide)
  have h2 := (hs.pri o ho).w (c := -100000) (d := 100000) (by decide) (by decide)
  have h3 := sub_s h1 h2
  unfold cPri pMore
  rw [cCmp_l, cCmp_e, h3.1, h3.2]
  exact ⟨Iff.rfl, eq_comm⟩
theorem pShare_e (hs : pBS pl s A) {a b : Nat} (ha : a < 6) : pShare s a b = (s (23 + a)).toInt64 * (cDiv s b).toInt64 := by
  unfold pShare cDiv
  by_cases e : s (17 + a) = 0
  · rw [if_pos e]
    obtain ⟨-, h2, h3, h4⟩ := hs.g a ha
    rw [e, t_0] at h4
    have e2 : s (23 + a) = 0 := eq_t.mpr (by rw [t_0]; omega)
    rw [e2, show (0 : Int32).toInt64 = 0 by decide, Int64.zero_mul]
  · rw [if_neg e]
theorem cRul_e (hw : pWP pl P V O) (hW : pWS s A) (hp : pBP pl V) (hs : pBS pl s A) {pol k o : Nat} (hpol : pol < 4) (h5 : s 5 = nI pol) (hk : k < 20) (ho : o < 20) : (cRul pl s pol k o < 0) ↔ pAhead pl s k o = true := by
  have hP := cPri_e hs hk ho
  have tk := pBT.of hp hs.al (k := k) (by omega)
  have to' := pBT.of hp hs.al (k := o) (by omega)
  have sk := cStart_e hs.r tk
  have so := cStart_e hs.r to'
  have c : pol = 0 ∨ pol = 1 ∨ pol = 2 ∨ pol = 3 := by omega
  unfold pAhead cRul
  rcases c with rfl | rfl | rfl | rfl
  · rw [if_pos rfl, if_pos (show s 5 = 0 from h5), sk, so]
    unfold cOr
    by_cases e : cPri s k o = 0
    · rw [if_pos e, if_pos (hP.2.mp e), cCmp_l, decide_eq_true_iff]
    · rw [if_neg e, if_neg (fun z => e (hP.2.mpr z)), hP.1, decide_eq_true_iff]
  · have hb : pBy pl s k o = pSharesBy s (pQ pl s o) (pQ pl s k) := by unfold pBy; rw [if_pos h5]
    rw [if_neg (show ¬ (1 : Nat) = 0 by decide), if_pos rfl, if_neg (show ¬ s 5 = 0 by rw [h5]; decide), hb]
    refine cOr_by ?_ ?_ hP.1
    · unfold cShr pSharesBy
      rw [cCmpL_l, pShare_e hs (pQ_l hw hW (by omega)), pShare_e hs (pQ_l hw hW (by omega))]
      by_cases c1 : (s (23 + pQ pl s k)).toInt64 * (cDiv s (pQ pl s o)).toInt64 < (s (23 + pQ pl s o)).toInt64 * (cDiv s (pQ pl s k)).toInt64
      · rw [if_pos c1]; exact ⟨fun _ => by decide, fun _ => c1⟩
      · rw [if_neg c1]
        by_cases c2 : (s (23 + pQ pl s o)).toInt64 * (cDiv s (pQ pl s k)).toInt64 < (s (23 + pQ pl s k)).toInt64 * (cDiv s (pQ pl s o)).toInt64
        · rw [if_pos c2]; exact ⟨fun z => absurd z c1, fun z => absurd z (by decide)⟩
        · rw [if_neg c2]; exact ⟨fun z => absurd z c1, fun z => absurd z (by decide)⟩
    · unfold cShr pSharesBy
      rw [cCmpL_e, pShare_e hs (pQ_l hw hW (by omega)), pShare_e hs (pQ_l hw hW (by omega))]
      by_cases c1 : (s (23 + pQ pl s k)).toInt64 * (cDiv s (pQ pl s o)).toInt64 < (s (23 + pQ pl s o)).toInt64 * (cDiv s (pQ pl s k)).toInt64
      · rw [if_pos c1]; exact ⟨fun z => absurd c1 (by rw [z]; exact Int64.lt_irrefl), fun z => absurd z (by decide)⟩
      · rw [if_neg c1]
        by_cases c2 : (s (23 + pQ pl s o)).toInt64 * (cDiv s (pQ pl s k)).toInt64 < (s (23 + pQ pl s k)).toInt64 * (cDiv s (pQ pl s o)).toInt64
        · rw [if_pos c2]; exact ⟨fun z => absurd c2 (by rw [z]; exact Int64.lt_irrefl), fun z => absurd z (by decide)⟩
        · rw [if_neg c2]; exact ⟨fun _ => rfl, fun _ => Int64.le_antisymm (Int64.not_lt.mp c2) (Int64.not_lt.mp c1)⟩
  · have hb : pBy pl s k o = pTo pl s o - pTo pl s k := by unfold pBy; rw [if_neg (show ¬ s 5 = nI 1 by rw [h5]; decide), if_pos h5]
    rw [if_neg (show ¬ (2 : Nat) = 0 by decide), if_neg (show ¬ (2 : Nat) = 1 by decide), if_pos rfl, if_neg (show ¬ s 5 = 0 by rw [h5]; decide), hb]
    have h := sub_s (to'.2.2.2.2.2.w (c := -100000) (d := 100000) (by decide) (by decide)) (tk.2.2.2.2.2.w (c := -100000) (d := 100000) (by decide) (by decide))
    exact cOr_by (by rw [cCmp_l, h.1]) (by rw [cCmp_e, h.2]; exact eq_comm) hP.1
  · have hb : pBy pl s k o = pMinutes pl s (pLon pl s o) (pLat pl s o) - pMinutes pl s (pLon pl s k) (pLat pl s k) := by unfold pBy; rw [if_neg (show ¬ s 5 = nI 1 by rw [h5]; decide), if_neg (show ¬ s 5 = nI 2 by rw [h5]; decide)]
    rw [if_neg (show ¬ (3 : Nat) = 0 by decide), if_neg (show ¬ (3 : Nat) = 1 by decide), if_neg (show ¬ (3 : Nat) = 2 by decide), if_neg (show ¬ s 5 = 0 by rw [h5]; decide), hb]
    have bk := (min_b hp hs.r tk.1 tk.2.1).w (c := -100000) (d := 100000) (by decide) (by decide)
    have bo := (min_b hp hs.r to'.1 to'.2.1).w (c := -100000) (d := 100000) (by decide) (by decide)
    have h := sub_s bo bk
    refine cOr_by ?_ ?_ hP.1
    · rw [cCmp_l, cSlw_e hs.r tk, cSlw_e hs.r to', h.1]
    · rw [cCmp_e, cSlw_e hs.r tk, cSlw_e hs.r to', h.2]; exact eq_comm
theorem pSt_v {k : Nat} (h : k < 20) : pStateAt k = 47 + k := by unfold pStateAt; rw [if_pos h]
theorem cCh_e (hw : pWP pl P V O) (hW : pWS s A) (hp : pBP pl V) (hs : pBS pl s A) {pol : Nat} (hpol : pol < 4) (h5 : s 5 = nI pol) : ∀ {n : Nat}, n ≤ 20 → cCh pl s O pol n = pCh pl s n
  | 0, _ => rfl
  | n + 1, h => by
    have ih := cCh_e hw hW hp hs hpol h5 (n := n) (by omega)
    have tn := pBT.of hp hs.al (k := n) (by omega)
    rw [cCh, pCh, ih]
    unfold cChS pChS
    by_cases e : s (47 + n) = 0
    · rw [if_pos e, cRs_e hw hp hs.r tn (by rw [pSt_v (by omega)]; exact e)]
      by_cases e2 : pReason pl s n = 0
      · rw [if_pos e2, if_pos e2]
        cases e3 : pCh pl s n with
        | none => rfl
        | some o =>
          have hl := pCh_l e3
          have hr := cRul_e hw hW hp hs hpol h5 (k := n) (o := o) (by omega) (by omega)
          dsimp only
          by_cases e4 : cRul pl s pol n o < 0
          · rw [if_pos e4, if_pos (hr.mp e4)]
          · rw [if_neg e4, if_neg (fun z => e4 (hr.mpr z))]
      · rw [if_neg e2, if_neg e2]
    · rw [if_neg e, if_neg (fun z => e (by have := pReason_st z; rw [pSt_v (by omega)] at this; exact this))]
theorem cFA_e (hw : pWP pl P V O) (hp : pBP pl V) (hs : pBS pl s A) : ∀ {n : Nat}, n ≤ 10 → (cFA pl s O n).map (20 + ·) = pAl pl s n
  | 0, _ => rfl
  | n + 1, h => by
    have ih := cFA_e hw hp hs (n := n) (by omega)
    have tn := pBT.of hp hs.al (k := 20 + n) (by omega)
    rw [cFA, pAl, ← ih]
    unfold cFAS pAlS
    generalize cFA pl s O n = b
    have hb := cStart_b hp hs.r tn
    rw [cStart_e hs.r tn] at hb
    have key : pReason pl s (20 + n) = 0 → (decide (s (127 + 10 * n + 7) = 0) && decide (s 0 ≤ pTo pl s (20 + n))) = true := by
      intro z
      have h1 := pReason_st z
      rw [pSt_al] at h1
      have h2 := (pReason_0 z).2.2.1
      unfold pIn at h2
      rw [Bool.and_eq_true, decide_eq_true_iff, decide_eq_true_iff, le_t, le_t] at h2
      rw [decide_eq_true h1, Bool.true_and, decide_eq_true_iff, le_t]
      omega
    by_cases e : (decide (s (127 + 10 * n + 7) = 0) && decide (s 0 ≤ pTo pl s (20 + n))) = true
    · rw [if_pos e]
      by_cases e1 : s 0 < pFrom pl s (20 + n)
      · rw [if_pos e1, if_pos e1]
      · rw [if_neg e1, if_neg e1]
        have h1 : s (127 + 10 * n + 7) = 0 := by rw [Bool.and_eq_true, decide_eq_true_iff] at e; exact e.1
        rw [cRs_e hw hp hs.r tn (by rw [pSt_al]; exact h1)]
        by_cases e2 : pReason pl s (20 + n) = 0
        · rw [if_pos e2, if_pos e2]
          cases b with
          | none => rfl
          | some o =>
            dsimp only [Option.map]
            by_cases e3 : pTo pl s (20 + n) < pTo pl s (20 + o)
            · rw [if_pos e3, if_neg (Int32.not_le.mpr e3)]
            · rw [if_neg e3, if_pos (Int32.not_lt.mp e3)]
        · rw [if_neg e2, if_neg e2]
    · rw [if_neg e]
      by_cases e1 : s 0 < pFrom pl s (20 + n)
      · rw [if_pos e1]
      · rw [if_neg e1, if_neg (fun z => e (key z))]
/-! what rows tell when they agree on the alerts -/
theorem pOf_im {k v a : Nat} (h : pIm s t) (hk : k < 30) (ha : a < 7) : pOf pl t k v a = pOf pl s k v a := by
  unfold pOf
  by_cases e : k < 20
  · rw [if_pos e, if_pos e]
  · rw [if_neg e, if_neg e]; exact h (k - 20) (by omega) a ha
theorem pQ_im {k : Nat} (h : pIm s t) (hk : k < 30) : pQ pl t k = pQ pl s k := by unfold pQ pProp; rw [pOf_im h hk (by omega)]
theorem pLon_im {k : Nat} (h : pIm s t) (hk : k < 30) : pLon pl t k = pLon pl s k := by unfold pLon; rw [pOf_im h hk (by omega)]
theorem pLat_im {k : Nat} (h : pIm s t) (hk : k < 30) : pLat pl t k = pLat pl s k := by unfold pLat; rw [pOf_im h hk (by omega)]
theorem pDur_im {k : Nat} (h : pIm s t) (hk : k < 30) : pDur pl t k = pDur pl s k := by unfold pDur; rw [pOf_im h hk (by omega)]
theorem pFrom_im {k : Nat} (h : pIm s t) (hk : k < 30) : pFrom pl t k = pFrom pl s k := by unfold pFrom; rw [pOf_im h hk (by omega)]
theorem pTo_im {k : Nat} (h : pIm s t) (hk : k < 30) : pTo pl t k = pTo pl s k := by
  unfold pTo
  rw [pFrom_im h hk]
  by_cases e : k < 20
  · rw [if_pos e, if_pos e]
  · rw [if_neg e, if_neg e, h (k - 20) (by omega) 6 (by omega)]
theorem pGrows_im {k : Nat} {mi : Int32} (h : pIm s t) (hk : k < 30) : pGrows pl t k mi = pGrows pl s k mi := by unfold pGrows; rw [pOf_im h hk (by omega)]
theorem pBA.im (h : pIm s t) (hs : pBA s A) (hA : A ≤ 10) : pBA t A := by
  refine ⟨fun k hk => ?_, fun k hk => ?_⟩
  · rw [h k hk 1 (by omega), h k hk 2 (by omega), h k hk 3 (by omega), h k hk 4 (by omega), h k hk 5 (by omega), h k hk 6 (by omega)]
    exact hs.1 k hk
  · rw [h k (by omega) 4 (by omega)]; exact hs.2 k hk
theorem pBT.im {k : Nat} (h : pIm s t) (hk : k < 30) (ht : pBT pl s k) : pBT pl t k := by
  unfold pBT
  rw [pLon_im h hk, pLat_im h hk, pDur_im h hk, pOf_im h hk (by omega), pFrom_im h hk, pTo_im h hk]
  exact ht
/-- rows that agree on alerts and on where the telescope is -/
theorem cDump_im {k : Nat} (h : pIm s t) (hk : k < 30) (h3 : t 3 = s 3) : cDump pl t k = cDump pl s k := by unfold cDump; rw [h3, pGrows_im h hk, pDur_im h hk]
theorem cSlw_im {k : Nat} (h : pIm s t) (hk : k < 30) (h1 : t 1 = s 1) (h2 : t 2 = s 2) : cSlw pl t k = cSlw pl s k := by unfold cSlw cAng; rw [h1, h2, pLon_im h hk, pLat_im h hk]
theorem cStart_im {k : Nat} (h : pIm s t) (hk : k < 30) (h0 : t 0 = s 0) (h1 : t 1 = s 1) (h2 : t 2 = s 2) (h3 : t 3 = s 3) : cStart pl t k = cStart pl s k := by unfold cStart; rw [h0, cDump_im h hk h3, cSlw_im h hk h1 h2]
theorem cRsn_im {k O' : Nat} {a b c d : Int32} (h : pIm s t) (hk : k < 30) : cRsn pl t k O' a b c d = cRsn pl s k O' a b c d := by
  unfold cRsn; rw [pDur_im h hk, pFrom_im h hk, pTo_im h hk, pLon_im h hk]
/-! reading rows that were written -/
theorem pu_eqq {f : pR} {i j : Nat} {v : Int32} (h : j = i) : upd f i v j = v := if_pos h
theorem pad_ne {f : pR} {i j : Nat} {v : Int32} (h : j ≠ i) : pAdd f i v j = f j := if_neg h
theorem pad_eq {f : pR} {i j : Nat} {v : Int32} (h : j = i) : pAdd f i v j = f j + v := by subst h; exact if_pos rfl
theorem pads_ne {f : pR} {i j : Nat} {v : Int32} (h : j ≠ 6 + i) : pAdds f i v j = f j := if_neg h
theorem pads_eq {f : pR} {i j : Nat} {v : Int32} (h : j = 6 + i) : pAdds f i v j = f j + v := by subst h; exact if_pos rfl
theorem pIm_of (h : ∀ i, 127 ≤ i → i < 227 → t i = s i) : pIm s t := fun k hk j hj => h _ (by omega) (by omega)
/-- what comes ahead of a thing, place by place -/
theorem comes_q (hw : pWP pl P V O) (hW : pWS s A) {k : Nat} (hk : k < 30) : pQ pl (pAdd (pComesA pl s k) 0 (pMinutes pl (pComesA pl s k) (pLon pl (pComesA pl s k) k) (pLat pl (pComesA pl s k) k))) k = pQ pl s k := by
  refine pQ_im (pIm_of fun i h1 h2 => ?_) hk
  rw [pad_ne (by omega)]
  unfold pComesA pDumps
  split
  · simp (disch := omega) only [↓pads_ne, ↓pad_ne, ↓pu_ne]
  · rfl
theorem comesA_o {k i : Nat} (h : i ≠ 0 ∧ i ≠ 3 ∧ i ≠ 9 ∧ i ≠ 12) : pComesA pl s k i = s i := by
  unfold pComesA pDumps
  split
  · simp (disch := omega) only [↓pads_ne, ↓pad_ne, ↓pu_ne]
  · rfl
theorem comesA_im {k : Nat} : pIm s (pComesA pl s k) := pIm_of fun i h1 h2 => comesA_o (by omega)
theorem comes_sl {k : Nat} (hk : k < 30) : pMinutes pl (pComesA pl s k) (pLon pl (pComesA pl s k) k) (pLat pl (pComesA pl s k) k) = pMinutes pl s (pLon pl s k) (pLat pl s k) := by
  rw [pLon_im comesA_im hk, pLat_im comesA_im hk]
  unfold pMinutes pAngle
  rw [comesA_o (i := 1) (by omega), comesA_o (i := 2) (by omega)]
theorem dump_pos {k : Nat} (hp : pBP pl V) : (0 < cDump pl s k) ↔ pDumpsFor pl s k = true := by
  rw [cDump_e]
  have h4 := hp.b4.1
  by_cases e : pDumpsFor pl s k = true
  · rw [if_pos e]; exact ⟨fun _ => e, fun _ => lt_t.mpr (by rw [t_0]; omega)⟩
  · rw [if_neg e]; exact ⟨fun z => absurd z (by decide), fun z => absurd z e⟩
theorem comesA_0 {k : Nat} (hp : pBP pl V) : pComesA pl s k 0 = s 0 + cDump pl s k ∧ pComesA pl s k 3 = (if 0 < cDump pl s k then nI 0 else s 3) ∧ pComesA pl s k 9 = (if 0 < cDump pl s k then s 9 + cDump pl s k else s 9) ∧ pComesA pl s k 12 = (if 0 < cDump pl s k then s 12 + nI 1 else s 12) := by
  have hd := dump_pos (s := s) (k := k) hp
  have he := cDump_e (pl := pl) (s := s) (k := k)
  unfold pComesA pDumps
  by_cases e : pDumpsFor pl s k = true
  · rw [if_pos e, if_pos (hd.mpr e), if_pos (hd.mpr e), if_pos (hd.mpr e), he, if_pos e]
    refine ⟨?_, ?_, ?_, ?_⟩
    · simp (disch := omega) only [↓pads_ne, ↓pad_ne, ↓pu_ne, ↓pads_eq, ↓pad_eq, ↓pu_eqq]
    · simp (disch := omega) only [↓pads_ne, ↓pad_ne, ↓pu_ne, ↓pads_eq, ↓pad_eq, ↓pu_eqq]; rfl
    · simp (disch := omega) only [↓pads_ne, ↓pad_ne, ↓pu_ne, ↓pads_eq, ↓pad_eq, ↓pu_eqq]
    · simp (disch := omega) only [↓pads_ne, ↓pad_ne, ↓pu_ne, ↓pads_eq, ↓pad_eq, ↓pu_eqq]; rfl
  · rw [if_neg e, if_neg (fun z => e (hd.mp z)), if_neg (fun z => e (hd.mp z)), if_neg (fun z => e (hd.mp z)), he, if_neg e, Int32.add_zero]
    exact ⟨rfl, rfl, rfl, rfl⟩
theorem comes_e (hw : pWP pl P V O) (hW : pWS s A) {k : Nat} (hk : k < 30) : pComes pl s k = upd (upd (pAdds (pAdd (pAdd (pComesA pl s k) 0 (pMinutes pl s (pLon pl s k) (pLat pl s k))) (41 + pQ pl s k) (pMinutes pl s (pLon pl s k) (pLat pl s k))) 2 (pMinutes pl s (pLon pl s k) (pLat pl s k))) 1 (pLon pl s k)) 2 (pLat pl s k) := by
  have hq := comes_q hw hW hk
  have hq6 := pQ_l hw hW hk
  unfold pComes pComesD pComesC pComesB
  rw [comes_sl hk] at hq ⊢
  rw [hq]
  have hi : pIm s (pAdds (pAdd (pAdd (pComesA pl s k) 0 (pMinutes pl s (pLon pl s k) (pLat pl s k))) (41 + pQ pl s k) (pMinutes pl s (pLon pl s k) (pLat pl s k))) 2 (pMinutes pl s (pLon pl s k) (pLat pl s k))) := pIm_of fun i h1 h2 => by
    simp (disch := omega) only [↓pads_ne, ↓pad_ne]
    exact comesA_o (by omega)
  have hi2 := hi.up (i := 1) (v := pLon pl s k) (fun _ _ _ _ => by omega)
  rw [pLon_im hi hk, pLat_im hi2 hk]
theorem comes_o (hw : pWP pl P V O) (hW : pWS s A) {k i : Nat} (hk : k < 30) (hi : i ≠ 0 ∧ i ≠ 1 ∧ i ≠ 2 ∧ i ≠ 3 ∧ i ≠ 8 ∧ i ≠ 9 ∧ i ≠ 12 ∧ i ≠ 41 + pQ pl s k) : pComes pl s k i = s i := by
  rw [comes_e hw hW hk]
  simp (disch := omega) only [↓pads_ne, ↓pad_ne, ↓pu_ne]
  exact comesA_o (by omega)
theorem comes_im (hw : pWP pl P V O) (hW : pWS s A) {k : Nat} (hk : k < 30) : pIm s (pComes pl s k) := pIm_of fun i h1 h2 => comes_o hw hW hk (by have := pQ_l hw hW hk; omega)
theorem comes_0 (hw : pWP pl P V O) (hW : pWS s A) (hp : pBP pl V) (hr : pBR s) {k : Nat} (hk : k < 30) (ht : pBT pl s k) : pComes pl s k 0 = cStart pl s k ∧ pComes pl s k 1 = pLon pl s k ∧ pComes pl s k 2 = pLat pl s k ∧ pComes pl s k 3 = (if 0 < cDump pl s k then nI 0 else s 3) := by
  have hq6 := pQ_l hw hW hk
  obtain ⟨a0, a3, -, -⟩ := comesA_0 (s := s) (k := k) hp
  rw [comes_e hw hW hk]
  refine ⟨?_, ?_, ?_, ?_⟩
  · simp (disch := omega) only [↓pads_ne, ↓pad_ne, ↓pu_ne, ↓pads_eq, ↓pad_eq, ↓pu_eqq]
    rw [a0, ← cSlw_e hr ht]; rfl
  · simp (disch := omega) only [↓pads_ne, ↓pad_ne, ↓pu_ne, ↓pads_eq, ↓pad_eq, ↓pu_eqq]
  · simp (disch := omega) only [↓pads_ne, ↓pad_ne, ↓pu_ne, ↓pads_eq, ↓pad_eq, ↓pu_eqq]
  · simp (disch := omega) only [↓pads_ne, ↓pad_ne, ↓pu_ne, ↓pads_eq, ↓pad_eq, ↓pu_eqq]
    exact a3
end LAWB
