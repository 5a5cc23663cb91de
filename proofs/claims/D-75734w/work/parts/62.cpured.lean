/-! WHAT THE STATE's CHANGES COMPUTE (as the component's code says it) -/
theorem pSt_al {k : Nat} : pStateAt (20 + k) = 127 + 10 * k + 7 := by
  unfold pStateAt; rw [if_neg (by omega), Nat.add_sub_cancel_left]
theorem pIm_row {pl s : pR} {v k : Nat} {st dm : Int32} : pIm s (cRow pl s v k st dm) :=
  (((pIm.refl s).up (fun _ _ _ _ => by omega)).up (fun _ _ _ _ => by omega)).up (fun _ _ _ _ => by omega) |>.up (fun _ _ _ _ => by omega)
theorem pIm_expS {pl t s : pR} {k : Nat} (h : pIm s t) (hk : k < 10) : pIm s (pExpS pl t (20 + k)) := by
  unfold pExpS
  rw [pSt_al]
  by_cases h1 : t (127 + 10 * k + 7) = 0
  · rw [if_pos h1]
    by_cases h2 : t 0 ≤ pTo pl t (20 + k)
    · rw [if_pos h2]; exact h
    · rw [if_neg h2]; exact h.up (fun _ _ _ _ => by omega)
  · rw [if_neg h1]; exact h
theorem pIm_exp {pl s : pR} : ∀ {n : Nat}, n ≤ 10 → pIm s (pExp pl s n)
  | 0, _ => pIm.refl s
  | n + 1, h => pIm_expS (pIm_exp (n := n) (by omega)) (by omega)
def cMd (s : pR) (mi : Int32) : pR := pAdd (pAdd (upd s 3 (nI 0)) 9 mi) 12 (nI 1)
def cCarA (s : pR) (dm : Int32) : pR := if 0 < dm then cMd s dm else s
def cCarB (t : pR) (q : Nat) (sl : Int32) : pR := pAdd (pAdd t 8 sl) (41 + q) sl
def cCarC (t : pR) (g lo la tm : Int32) : pR := upd (upd (upd (pAdd t 3 g) 1 lo) 2 la) 0 tm
def cCarD (t : pR) (w : Bool) (q : Nat) (mi : Int32) : pR := if w = true then pAdd (pAdd t 6 mi) (23 + q) mi else pAdd (pAdd t 7 mi) (29 + q) mi
/-- the plan of the k-th thing (its dump, slew, start) is carried out for so many minutes -/
def cCar (pl s : pR) (k : Nat) (dm sl st mi : Int32) : pR := cCarD (cCarC (cCarB (cCarA s dm) (pQ pl s k) sl) (pGrows pl s k mi) (pLon pl s k) (pLat pl s k) (st + mi)) (decide (mi = pDur pl s k)) (pQ pl s k) mi
def cMV (pl s : pR) (O A v : Nat) : pR × Int32 :=
  match cFB pl s O v (cStart pl s v) (cStart pl s v + pDur pl s v) (cDump pl s v) A with
  | some k => (pAdd (cCar pl s v (cDump pl s v) (cSlw pl s v) (cStart pl s v) (pFrom pl s (20 + k) - cStart pl s v)) (67 + v) (nI 1), nI 1)
  | none => (upd (upd (cCar pl s v (cDump pl s v) (cSlw pl s v) (cStart pl s v) (pDur pl s v)) (47 + v) (nI 1)) (87 + v) (cStart pl s v), nI 0)
def cMA (pl s : pR) (k : Nat) : pR := upd (upd (cCar pl s (20 + k) (cDump pl s (20 + k)) (cSlw pl s (20 + k)) (cStart pl s (20 + k)) (pDur pl s (20 + k))) (127 + 10 * k + 7) (nI 1)) (127 + 10 * k + 8) (cStart pl s (20 + k))
/-- the kind of the next step -/
def cNK (pl s : pR) (V O A pol : Nat) : Int32 :=
  if s 0 = pl 0 then -1 else match cFA pl s O A with
  | some _ => nI 2
  | none => if pCalDue pl s = true then nI 3 else match cCh pl s O pol V with
    | none => nI 4
    | some v => match cFB pl s O v (cStart pl s v) (cStart pl s v + pDur pl s v) (cDump pl s v) A with
      | none => nI 0
      | some _ => nI 1
/-- a step, behind what expires -/
def cStB (pl s : pR) (V O A pol : Nat) (b : Int32) : pR :=
  match cFA pl s O A with
  | some k => pLogs (cMA pl s k) (nI 2) (nI k) b
  | none => if pCalDue pl s = true then pLogs (pCalibrates pl s) (nI 3) (-1) b else match cCh pl s O pol V with
    | some v => pLogs (cMV pl s O A v).1 (cMV pl s O A v).2 (nI v) b
    | none => pLogs (pIdles pl s A) (nI 4) (-1) b
def cSt (pl s : pR) (V O A pol : Nat) : pR := cStB pl (pExp pl s A) V O A pol (s 0)
/-! bounds are kept -/
theorem pWS.md {s : pR} {A : Nat} (h : pWS s A) {mi : Int32} : pWS (cMd s mi) A := ((h.up _ (by omega) (by omega) (fun k _ => by omega)).add _ (by omega) (by omega) (fun k _ => by omega)).add _ (by omega) (by omega) (fun k _ => by omega)
theorem pWS.carA {s : pR} {A : Nat} (h : pWS s A) {dm : Int32} : pWS (cCarA s dm) A := pWS.ite h.md h
theorem pWS.carB {t : pR} {A q : Nat} (h : pWS t A) (hq : q < 6) {sl : Int32} : pWS (cCarB t q sl) A := (h.add _ (by omega) (by omega) (fun k _ => by omega)).add _ (by omega) (by omega) (fun k _ => by omega)
theorem pWS.carC {t : pR} {A : Nat} (h : pWS t A) {g lo la tm : Int32} : pWS (cCarC t g lo la tm) A := (((h.add _ (by omega) (by omega) (fun k _ => by omega)).up _ (by omega) (by omega) (fun k _ => by omega)).up _ (by omega) (by omega) (fun k _ => by omega)).up _ (by omega) (by omega) (fun k _ => by omega)
theorem pWS.carD {t : pR} {A q : Nat} (h : pWS t A) (hq : q < 6) {w : Bool} {mi : Int32} : pWS (cCarD t w q mi) A :=
  pWS.ite ((h.add _ (by omega) (by omega) (fun k _ => by omega)).add _ (by omega) (by omega) (fun k _ => by omega)) ((h.add _ (by omega) (by omega) (fun k _ => by omega)).add _ (by omega) (by omega) (fun k _ => by omega))
theorem pWS.car {pl s : pR} {N V O A k : Nat} (hp : pWP pl N V O) (h : pWS s A) (hk : k < 30) {dm sl st mi : Int32} : pWS (cCar pl s k dm sl st mi) A := (((h.carA).carB (pQ_l hp h hk)).carC).carD (pQ_l hp h hk)
theorem pWS.cmv {pl s : pR} {N V O A v : Nat} (hp : pWP pl N V O) (h : pWS s A) (hv : v < 20) : pWS (cMV pl s O A v).1 A := by
  unfold cMV
  split
  · exact (h.car hp (by omega)).add _ (by omega) (by omega) (fun k _ => by omega)
  · exact ((h.car hp (by omega)).up _ (by omega) (by omega) (fun k _ => by omega)).up _ (by omega) (by omega) (fun k _ => by omega)
theorem pWS.cma {pl s : pR} {N V O A k : Nat} (hp : pWP pl N V O) (h : pWS s A) (hk : k < 10) : pWS (cMA pl s k) A :=
  ((h.car hp (by omega)).up _ (by omega) (by omega) (fun j _ => by omega)).up _ (by omega) (by omega) (fun j _ => by omega)
theorem pWS.stB {pl s : pR} {N V O A pol : Nat} (hp : pWP pl N V O) (hs : pWS s A) {b : Int32} : pWS (cStB pl s V O A pol b) A := by
  have := hs.lA
  have := hp.lV
  unfold cStB
  split
  · rename_i k e
    have := cFA_l e
    exact (hs.cma hp (by omega)).logs _ _ _
  · by_cases h9 : pCalDue pl s = true
    · rw [if_pos h9]; exact hs.calibrates.logs _ _ _
    · rw [if_neg h9]
      split
      · rename_i v e
        have := cCh_l e
        exact (hs.cmv hp (by omega)).logs _ _ _
      · exact hs.idles.logs _ _ _
theorem pWS.st {pl s : pR} {N V O A pol : Nat} (hp : pWP pl N V O) (hs : pWS s A) : pWS (cSt pl s V O A pol) A := (hs.exp hs.lA).stB hp
/-! what is told of the alerts stays -/
theorem pIm.add {s t : pR} (h : pIm s t) {i : Nat} {v : Int32} (hi : ∀ k, k < 10 → ∀ j, j < 7 → 127 + 10 * k + j ≠ i) : pIm s (pAdd t i v) := h.up hi
theorem pIm.ite {s t u : pR} {c : Prop} [Decidable c] (h : pIm s t) (h2 : pIm s u) : pIm s (if c then t else u) := by
  by_cases h9 : c
  · rw [if_pos h9]; exact h
  · rw [if_neg h9]; exact h2
theorem pIm.car {pl s : pR} {N V O A k : Nat} (hp : pWP pl N V O) (h : pWS s A) (hk : k < 30) {dm sl st mi : Int32} : pIm s (cCar pl s k dm sl st mi) := by
  have hq := pQ_l hp h hk
  unfold cCar cCarD cCarC cCarB cCarA cMd
  have h1 : pIm s (if 0 < dm then pAdd (pAdd (upd s 3 (nI 0)) 9 dm) 12 (nI 1) else s) :=
    pIm.ite ((((pIm.refl s).up (fun _ _ _ _ => by omega)).add (fun _ _ _ _ => by omega)).add (fun _ _ _ _ => by omega)) (pIm.refl s)
  have h2 := ((((((h1.add (i := 8) (v := sl) (fun _ _ _ _ => by omega)).add (i := 41 + pQ pl s k) (v := sl) (fun _ _ _ _ => by omega)).add (i := 3) (v := pGrows pl s k mi) (fun _ _ _ _ => by omega)).up (i := 1) (v := pLon pl s k) (fun _ _ _ _ => by omega)).up (i := 2) (v := pLat pl s k) (fun _ _ _ _ => by omega)).up (i := 0) (v := st + mi) (fun _ _ _ _ => by omega))
  exact pIm.ite ((h2.add (fun _ _ _ _ => by omega)).add (fun _ _ _ _ => by omega)) ((h2.add (fun _ _ _ _ => by omega)).add (fun _ _ _ _ => by omega))
theorem pIm.cmv {pl s : pR} {N V O A v : Nat} (hp : pWP pl N V O) (h : pWS s A) (hv : v < 20) : pIm s (cMV pl s O A v).1 := by
  unfold cMV
  split
  · exact (pIm.car hp h (by omega)).add (fun _ _ _ _ => by omega)
  · exact ((pIm.car hp h (by omega)).up (fun _ _ _ _ => by omega)).up (fun _ _ _ _ => by omega)
theorem pIm.cma {pl s : pR} {N V O A k : Nat} (hp : pWP pl N V O) (h : pWS s A) (hk : k < 10) : pIm s (cMA pl s k) :=
  ((pIm.car hp h (by omega)).up (fun _ _ _ _ => by omega)).up (fun _ _ _ _ => by omega)
theorem pIm.logs {s t : pR} {A : Nat} (h : pIm s t) (ht : pWS t A) {k v b : Int32} : pIm s (pLogs t k v b) := by
  obtain ⟨n, hn, e⟩ := ht.hN
  unfold pLogs
  rw [e, pN_nI (by omega)]
  exact pIm.ite h (((((h.up (fun _ _ _ _ => by omega)).up (fun _ _ _ _ => by omega)).up (fun _ _ _ _ => by omega)).up (fun _ _ _ _ => by omega)).add (fun _ _ _ _ => by omega))
theorem pIm.cal {pl s : pR} : pIm s (pCalibrates pl s) := ((((pIm.refl s).add (fun _ _ _ _ => by omega)).up (fun _ _ _ _ => by omega)).add (fun _ _ _ _ => by omega)).add (fun _ _ _ _ => by omega)
theorem pIm.idles {pl s : pR} {A : Nat} : pIm s (pIdles pl s A) := ((pIm.refl s).add (fun _ _ _ _ => by omega)).up (fun _ _ _ _ => by omega)
theorem pIm.stB {pl s : pR} {N V O A pol : Nat} (hp : pWP pl N V O) (hs : pWS s A) {b : Int32} : pIm s (cStB pl s V O A pol b) := by
  have := hs.lA
  have := hp.lV
  unfold cStB
  split
  · rename_i k e
    have := cFA_l e
    exact (pIm.cma hp hs (by omega)).logs (hs.cma hp (by omega))
  · by_cases h9 : pCalDue pl s = true
    · rw [if_pos h9]; exact pIm.cal.logs hs.calibrates
    · rw [if_neg h9]
      split
      · rename_i v e
        have := cCh_l e
        exact (pIm.cmv hp hs (by omega)).logs (hs.cmv hp (by omega))
      · exact pIm.idles.logs hs.idles
theorem pIm.st {pl s : pR} {N V O A pol : Nat} (hp : pWP pl N V O) (hs : pWS s A) : pIm s (cSt pl s V O A pol) := (pIm_exp hs.lA).trans (pIm.stB hp (hs.exp hs.lA))
