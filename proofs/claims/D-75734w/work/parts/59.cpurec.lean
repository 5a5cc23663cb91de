/-! WHAT THE STATE's CHOICES COMPUTE (as the component's code says it) -/
theorem cWk.im {g : ax_H} {w : Nat} {pl s r : pR} {k : Nat} (h : cWk g w pl s k) (hi : pIm s r) (hk : k < 30) : cWk g w pl r k := by
  rcases h with ⟨h20, pr, h1⟩ | ⟨h20, re, h1, h2⟩
  · refine Or.inl ⟨h20, pr, ?_⟩
    simp only [pProp, pLon, pLat, pDur, pFrom, pTo, pOf, if_pos h20] at h1 ⊢
    exact h1
  · have h9 : ¬ k < 20 := by omega
    have := fun j hj => hi (k - 20) (by omega) j hj
    refine Or.inr ⟨h20, re, ?_, ?_⟩
    · simp only [pProp, pLon, pLat, pDur, pFrom, pTo, pOf, if_neg h9] at h1 ⊢
      rw [this 0 (by omega), this 1 (by omega), this 2 (by omega), this 3 (by omega), this 4 (by omega), this 5 (by omega)]
      exact h1
    · simp only [pTo, pFrom, pOf, if_neg h9] at h2 ⊢
      rw [this 6 (by omega), this 1 (by omega)]; exact h2
/-- why a thing can't be begun now -/
def cRs (pl s : pR) (O k : Nat) : Int32 := cRsn pl s k O (pLeft s (pQ pl s k)) (pGrows pl s k (pDur pl s k)) (cStart pl s k) (cStart pl s k + pDur pl s k)
/-- visit v's plan -/
def cPV (pl s : pR) (O : Nat) (D : cD) (v : Nat) : cP := cPl pl s v O (D.2.1 1 v) (nI v) (decide (s (47 + v) = 0)) (pLeft s (pQ pl s v))
/-- alert k's plan, taken as open -/
def cPA (pl s : pR) (O : Nat) (D : cD) (k : Nat) : cP := cPl pl s (20 + k) O (D.2.1 3 k) (nI k) true (pLeft s (pQ pl s (20 + k)))
def cRul (pl s : pR) (pol k o : Nat) : Int32 :=
  if pol = 0 then cOr (cPri s k o) (cCmp (cStart pl s k) (cStart pl s o))
  else if pol = 1 then cOr (cShr s (pQ pl s k) (pQ pl s o)) (cPri s k o)
  else if pol = 2 then cOr (cCmp (pTo pl s k) (pTo pl s o)) (cPri s k o)
  else cOr (cCmp (cSlw pl s k) (cSlw pl s o)) (cPri s k o)
def cChS (pl s : pR) (O pol k : Nat) (b : Option Nat) : Option Nat :=
  if s (47 + k) = 0 then (if cRs pl s O k = 0 then (match b with | none => some k | some o => if cRul pl s pol k o < 0 then some k else some o) else b) else b
/-- the visit chosen among n -/
def cCh (pl s : pR) (O pol : Nat) : Nat → Option Nat
  | 0 => none
  | n + 1 => cChS pl s O pol n (cCh pl s O pol n)
def cFAS (pl s : pR) (O k : Nat) (b : Option Nat) : Option Nat :=
  if (decide (s (127 + 10 * k + 7) = 0) && decide (s 0 ≤ pTo pl s (20 + k))) = true then (if s 0 < pFrom pl s (20 + k) then b else if cRs pl s O (20 + k) = 0 then (match b with | none => some k | some o => if pTo pl s (20 + k) < pTo pl s (20 + o) then some k else some o) else b) else b
/-- the alert begun now, among n -/
def cFA (pl s : pR) (O : Nat) : Nat → Option Nat
  | 0 => none
  | n + 1 => cFAS pl s O n (cFA pl s O n)
/-- the row in which an alert would break visit v, whose start is st -/
def cRow (pl s : pR) (v k : Nat) (st dm : Int32) : pR := upd (upd (upd (upd s 0 (pFrom pl s (20 + k))) 3 ((if 0 < dm then nI 0 else s 3) + pGrows pl s v (pFrom pl s (20 + k) - st))) 1 (pLon pl s v)) 2 (pLat pl s v)
def cLf (pl s : pR) (v k : Nat) (st : Int32) : Int32 := pLeft s (pQ pl s (20 + k)) - (if pQ pl s (20 + k) = pQ pl s v then pFrom pl s (20 + k) - st else nI 0)
def cCb (pl s : pR) (O v k : Nat) (st dm : Int32) : Int32 := cRsn pl (cRow pl s v k st dm) (20 + k) O (cLf pl s v k st) (pGrows pl (cRow pl s v k st dm) (20 + k) (pDur pl (cRow pl s v k st dm) (20 + k))) (cStart pl (cRow pl s v k st dm) (20 + k)) (cStart pl (cRow pl s v k st dm) (20 + k) + pDur pl (cRow pl s v k st dm) (20 + k))
def cFBS (pl s : pR) (O v : Nat) (st en dm : Int32) (k : Nat) (b : Option Nat) : Option Nat :=
  if s (127 + 10 * k + 7) = 0 then (if pFrom pl s (20 + k) ≤ st then b else if pFrom pl s (20 + k) < en then
    (match b with
    | none => if cCb pl s O v k st dm = 0 then some k else none
    | some o => if pFrom pl s (20 + k) < pFrom pl s (20 + o) then (if cCb pl s O v k st dm = 0 then some k else some o) else some o) else b) else b
/-- the alert that breaks visit v, among n -/
def cFB (pl s : pR) (O v : Nat) (st en dm : Int32) : Nat → Option Nat
  | 0 => none
  | n + 1 => cFBS pl s O v st en dm n (cFB pl s O v st en dm n)
theorem cCh_l {pl s : pR} {O pol : Nat} : ∀ {n v : Nat}, cCh pl s O pol n = some v → v < n
  | 0, v, h => by cases h
  | n + 1, v, h => by
    have h9 := h
    unfold cCh cChS at h9
    split at h9
    · split at h9
      · split at h9
        · cases h9; omega
        · rename_i o e
          have := cCh_l e
          split at h9 <;> (cases h9; omega)
      · have := cCh_l h9; omega
    · have := cCh_l h9; omega
theorem cFA_l {pl s : pR} {O : Nat} : ∀ {n v : Nat}, cFA pl s O n = some v → v < n
  | 0, v, h => by cases h
  | n + 1, v, h => by
    have h9 := h
    unfold cFA cFAS at h9
    split at h9
    · split at h9
      · have := cFA_l h9; omega
      · split at h9
        · split at h9
          · cases h9; omega
          · rename_i o e
            have := cFA_l e
            split at h9 <;> (cases h9; omega)
        · have := cFA_l h9; omega
    · have := cFA_l h9; omega
theorem cFB_l {pl s : pR} {O w : Nat} {st en dm : Int32} : ∀ {n v : Nat}, cFB pl s O w st en dm n = some v → v < n
  | 0, v, h => by cases h
  | n + 1, v, h => by
    have h9 := h
    unfold cFB cFBS at h9
    split at h9
    · split at h9
      · have := cFB_l h9; omega
      · split at h9
        · split at h9
          · split at h9 <;> cases h9; omega
          · rename_i o e
            have := cFB_l e
            split at h9
            · split at h9 <;> (cases h9; omega)
            · cases h9; omega
        · have := cFB_l h9; omega
    · have := cFB_l h9; omega
/-! plans of a state: laid, become -/
section CPS
variable {Ω : ax_O} {h : ax_H} {a : Nat} {pl s : pR} {N V O A : Nat} {D : cD}
theorem pH_S {σ : cS} {i : Nat} {P : cP} (hi : i < 3) : pH (sH h a σ) (a + 16 + i) P = sH h a (σ.1, cU σ.2.1 i P, σ.2.2) := sH_setP hi
theorem pH_S0 {σ : cS} {i : Nat} (hi : i < 3) : pH (sH h a σ) (a + 16 + i) (σ.2.1 i) = sH h a σ := by
  rw [pH_S hi, cU_s]
theorem ct_layS (hA : ax_Amb Ω) {w k : Nat} {r : pR} {σ : cS} {i : Nat} (hi : i < 3) (hp : pWP pl N V O) (hE : cEn h a pl s N V O A D) (hW : ∀ σ, cWk (sH h a σ) w pl r k) (ha : Ω.2.1.heap.size ≤ a) (num : Int32) (op : Bool) (lf : Int32) :
    ax_Met Ω yX8_lay 7 0 0 [.ref (a + 16 + i), .ref (D.1 0), .ref w, .int num, .int (bI op), .int (r 0), .int (r 3), .int (r 1), .int (r 2), .int lf] (sH h a σ) (.inl (some (.ref (a + 16 + i)))) (sH h a (σ.1, cU σ.2.1 i (cPl pl r k O w num op lf), σ.2.2)) := by
  have M := ct_lay hA (h := sH h a σ) (p := a + 16 + i) (w := w) (k := k) (pl := pl) (r := r) (N := N) (V := V) (O := O) (D := D) (n := (σ.2.1 i).2) (W0 := (σ.2.1 i).1) hp
    (fun P => by rw [pH_S hi]; exact (hE _).1) (fun P => by rw [pH_S hi]; exact hW _) (by omega) num op lf
  rw [show ((σ.2.1 i).1, (σ.2.1 i).2) = σ.2.1 i from rfl, pH_S0 hi, pH_S hi] at M
  exact M
theorem ct_becomeS (hA : ax_Amb Ω) {σ : cS} {w : Nat} {n : Nat → Int32} (ha : Ω.2.1.heap.size ≤ a) (h0 : σ.2.1 0 = (.ref w, n)) : ax_Met Ω yX8_become 1 0 0 [.ref (a + 17), .ref (a + 16)] (sH h a σ) (.inl none) (sH h a (σ.1, cU σ.2.1 1 (.ref w, n), σ.2.2)) := by
  have M := ct_become hA (h := sH h a σ) (p := a + 16 + 1) (q := a + 16) (w := w) (P0 := σ.2.1 1) (n := n) (by omega) (fun P => by
    rw [pH_S (by decide)]
    exact sH_pe (k := 16) (by decide) (by decide) ((cU_n (π := σ.2.1) (i := 1) (j := 0) (P := P) (by decide)).trans h0))
  rw [pH_S0 (by decide), pH_S (by decide)] at M
  exact M
end CPS
