/-! WHAT A STEP COMPUTES, in plain Lean (numbers of proposals P, visits V, outages O, alerts A as Nats) -/
def oI : Option Nat → Int32
  | none => -1
  | some k => nI k
theorem bI_f {b : Bool} (h : bI b = 0) : b = false := by cases b with
  | false => rfl
  | true => exact absurd h (by decide)
theorem bI_t {b : Bool} (h : ¬ bI b = 0) : b = true := by cases b with
  | false => exact absurd rfl h
  | true => rfl
theorem nz_bI (b : Bool) : narrow .boolean (.int (bI b)) = .int (bI b) := by cases b <;> rfl
theorem nI_nm {n : Nat} (h : n < 2 ^ 31) : ¬ nI n = -1 := by
  intro e
  have q := congrArg Int32.toInt e
  rw [nI_toInt h] at q
  have : ((-1 : Int32).toInt) = -1 := by decide
  omega
theorem pN_nI {n : Nat} (h : n < 2 ^ 31) : pN (nI n) = n := nI_clamp h
/-- what a text tells is in its bounds -/
def pWP (pl : pR) (P V O : Nat) : Prop := (pl 10 = nI P ∧ pl 65 = nI V ∧ pl 226 = nI O) ∧ (P ≤ 6 ∧ V ≤ 20 ∧ O ≤ 4) ∧ (¬ pl 2 = 0 ∧ ¬ pl 8 = 0) ∧ ∀ k, k < 20 → ∃ q, q < 6 ∧ pl (66 + 8 * k) = nI q
section PWP
variable {pl s : pR} {P V O A : Nat}
theorem pWP.hP (h : pWP pl P V O) : pl 10 = nI P := h.1.1
theorem pWP.hV (h : pWP pl P V O) : pl 65 = nI V := h.1.2.1
theorem pWP.hO (h : pWP pl P V O) : pl 226 = nI O := h.1.2.2
theorem pWP.lP (h : pWP pl P V O) : P ≤ 6 := h.2.1.1
theorem pWP.lV (h : pWP pl P V O) : V ≤ 20 := h.2.1.2.1
theorem pWP.lO (h : pWP pl P V O) : O ≤ 4 := h.2.1.2.2
theorem pWP.z2 (h : pWP pl P V O) : ¬ pl 2 = 0 := h.2.2.1.1
theorem pWP.z8 (h : pWP pl P V O) : ¬ pl 8 = 0 := h.2.2.1.2
theorem pWP.pr (h : pWP pl P V O) : ∀ k, k < 20 → ∃ q, q < 6 ∧ pl (66 + 8 * k) = nI q := h.2.2.2
/-- a row is in its bounds -/
def pWS (s : pR) (A : Nat) : Prop := s 14 = nI A ∧ A ≤ 10 ∧ (∃ n, n ≤ 100 ∧ s 16 = nI n) ∧ ∀ k, k < 10 → ∃ q, q < 6 ∧ s (127 + 10 * k) = nI q
theorem pWS.hA (h : pWS s A) : s 14 = nI A := h.1
theorem pWS.lA (h : pWS s A) : A ≤ 10 := h.2.1
theorem pWS.hN (h : pWS s A) : ∃ n, n ≤ 100 ∧ s 16 = nI n := h.2.2.1
theorem pWS.pr (h : pWS s A) : ∀ k, k < 10 → ∃ q, q < 6 ∧ s (127 + 10 * k) = nI q := h.2.2.2
end PWP
theorem pu_ne {f : pR} {i j : Nat} {v : Int32} (h : j ≠ i) : upd f i v j = f j := if_neg h
theorem pu_eq {f : pR} {i : Nat} {v : Int32} : upd f i v i = v := if_pos rfl
theorem pWS.up {s : pR} {A : Nat} (h : pWS s A) {i : Nat} (v : Int32) (h1 : i ≠ 14) (h2 : i ≠ 16) (h3 : ∀ k, k < 10 → 127 + 10 * k ≠ i) : pWS (upd s i v) A :=
  ⟨(if_neg (Ne.symm h1)).trans h.hA, h.lA, by obtain ⟨n, hn, e⟩ := h.hN; exact ⟨n, hn, (if_neg (Ne.symm h2)).trans e⟩, fun k hk => by
    obtain ⟨q, hq, e⟩ := h.pr k hk
    exact ⟨q, hq, (if_neg (h3 k hk)).trans e⟩⟩
theorem pWS.pN {pl s : pR} {P V O A : Nat} (hp : pWP pl P V O) (hs : pWS s A) {k : Nat} (hk : k < 30) : ∃ q, q < 6 ∧ pProp pl s k = nI q := by
  unfold pProp pOf
  by_cases h : k < 20
  · rw [if_pos h]; exact hp.pr k h
  · rw [if_neg h]
    obtain ⟨q, hq, e⟩ := hs.pr (k - 20) (by omega)
    exact ⟨q, hq, e⟩
theorem pQ_e {pl s : pR} {P V O A : Nat} (hp : pWP pl P V O) (hs : pWS s A) {k : Nat} (hk : k < 30) : pProp pl s k = nI (pQ pl s k) := by
  obtain ⟨q, hq, e⟩ := hs.pN hp hk
  unfold pQ
  rw [e, pN_nI (by omega)]
theorem pQ_l {pl s : pR} {P V O A : Nat} (hp : pWP pl P V O) (hs : pWS s A) {k : Nat} (hk : k < 30) : pQ pl s k < 6 := by
  obtain ⟨q, hq, e⟩ := hs.pN hp hk
  unfold pQ
  rw [e, pN_nI (by omega)]; exact hq
/-- s[i] += v -/
def pAdd (s : pR) (i : Nat) (v : Int32) : pR := upd s i (s i + v)
def pAdds (s : pR) (t : Nat) (v : Int32) : pR := pAdd s (6 + t) v
theorem pWS.add {s : pR} {A : Nat} (h : pWS s A) {i : Nat} (v : Int32) (h1 : i ≠ 14) (h2 : i ≠ 16) (h3 : ∀ k, k < 10 → 127 + 10 * k ≠ i) : pWS (pAdd s i v) A := h.up _ h1 h2 h3
def pMore (s : pR) (k o : Nat) : Int32 := s (107 + k) - s (107 + o)
/-- used * max(1, granted) -/
def pShare (s : pR) (a b : Nat) : Int64 := if s (17 + a) = 0 then 0 else (s (23 + a)).toInt64 * (iMax (nI 1) (s (17 + b))).toInt64
def pSharesBy (s : pR) (a b : Nat) : Int32 := if pShare s b a < pShare s a b then 1 else if pShare s a b < pShare s b a then -1 else 0
def pBy (pl s : pR) (k o : Nat) : Int32 :=
  if s 5 = nI 1 then pSharesBy s (pQ pl s o) (pQ pl s k) else if s 5 = nI 2 then pTo pl s o - pTo pl s k
  else pMinutes pl s (pLon pl s o) (pLat pl s o) - pMinutes pl s (pLon pl s k) (pLat pl s k)
/-- whether visit k goes ahead of visit o -/
def pAhead (pl s : pR) (k o : Nat) : Bool :=
  if s 5 = 0 then (if pMore s k o = 0 then decide (pStartFor pl s k < pStartFor pl s o) else decide (0 < pMore s k o))
  else if pBy pl s k o = 0 then decide (0 < pMore s k o) else decide (0 < pBy pl s k o)
def pChS (pl s : pR) (k : Nat) (b : Option Nat) : Option Nat :=
  if pReason pl s k = 0 then (match b with | none => some k | some o => if pAhead pl s k o = true then some k else some o) else b
/-- the visit chosen among n -/
def pCh (pl s : pR) : Nat → Option Nat
  | 0 => none
  | n + 1 => pChS pl s n (pCh pl s n)
def pAlS (pl s : pR) (k : Nat) (b : Option Nat) : Option Nat :=
  if s 0 < pFrom pl s k then b else if pReason pl s k = 0 then (match b with | none => some k | some o => if pTo pl s o ≤ pTo pl s k then some o else some k) else b
/-- the alert begun now, among n -/
def pAl (pl s : pR) : Nat → Option Nat
  | 0 => none
  | n + 1 => pAlS pl s (20 + n) (pAl pl s n)
def pDumps (pl s : pR) : pR := pAdds (pAdds (pAdd (upd s 3 0) 0 (pl 4)) 3 (pl 4)) 6 1
def pCalibrates (pl s : pR) : pR := pAdds (pAdds (upd (pAdd s 0 (pl 6)) 4 (pAdd s 0 (pl 6) 0)) 4 (pl 6)) 7 1
def pComesA (pl s : pR) (k : Nat) : pR := if pDumpsFor pl s k = true then pDumps pl s else s
def pComesB (pl s : pR) (k : Nat) (sl : Int32) : pR := pAdds (pAdd (pAdd s 0 sl) (41 + pQ pl (pAdd s 0 sl) k) sl) 2 sl
def pComesC (pl s : pR) (k : Nat) : pR := upd (upd s 1 (pLon pl s k)) 2 (pLat pl (upd s 1 (pLon pl s k)) k)
def pComesD (pl s : pR) (k : Nat) : pR := pComesC pl (pComesB pl s k (pMinutes pl s (pLon pl s k) (pLat pl s k))) k
/-- all that comes ahead of a thing -/
def pComes (pl s : pR) (k : Nat) : pR := pComesD pl (pComesA pl s k) k
def pPassA (pl s : pR) (k : Nat) (mi : Int32) : pR := pAdd (pAdd s 3 (pGrows pl s k mi)) 0 mi
def pPassB (pl s : pR) (k : Nat) (mi : Int32) (l : Bool) : pR := pAdds (pAdd s ((if l = true then 29 else 23) + pQ pl s k) mi) (if l = true then 1 else 0) mi
/-- so many minutes of a thing -/
def pPasses (pl s : pR) (k : Nat) (mi : Int32) (l : Bool) : pR := pPassB pl (pPassA pl s k mi) k mi l
def pAside (pl s : pR) (v : Nat) (at' : Int32) : pR := pAdd (pAdd (upd s 0 at') 3 (pGrows pl (upd s 0 at') v (at' - s 0))) (29 + pQ pl s v) (at' - s 0)
/-- alert k can't break visit v, by its times -/
def pBrkNo (pl s : pR) (v k : Nat) : Bool := if s (pStateAt k) = 0 then (if pFrom pl s k ≤ s 0 then true else decide (s 0 + pDur pl s v ≤ pFrom pl s k)) else true
def pBreaks (pl s : pR) (v k : Nat) : Bool := if pBrkNo pl s v k = true then false else decide (pReason pl (pAside pl s v (pFrom pl s k)) k = 0)
def pBrS (pl s : pR) (v k : Nat) (b : Option Nat) : Option Nat :=
  if pBreaks pl s v k = true then (match b with | none => some k | some o => if pFrom pl s o ≤ pFrom pl s k then some o else some k) else b
/-- the alert that breaks visit v, among n -/
def pBr (pl s : pR) (v : Nat) : Nat → Option Nat
  | 0 => none
  | n + 1 => pBrS pl s v (20 + n) (pBr pl s v n)
def pFinA (s : pR) (k : Nat) : pR := upd (upd s (pStartAt k) (s 0)) (pStateAt k) 1
def pFinishes (pl s : pR) (k : Nat) : pR := pPasses pl (pFinA s k) k (pDur pl (pFinA s k) k) false
def pMV (pl s : pR) (v A : Nat) : pR × Int32 :=
  match pBr pl (pComes pl s v) v A with
  | some a => (pAdd (pPasses pl (pComes pl s v) v (pFrom pl (pComes pl s v) a - pComes pl s v 0) true) (67 + v) 1, 1)
  | none => (pAdd (pFinishes pl (pComes pl s v) v) (35 + pQ pl (pFinishes pl (pComes pl s v) v) v) 1, 0)
def pMA (pl s : pR) (k : Nat) : pR := pFinishes pl (pComes pl s k) k
def pIdleTo (pl s : pR) : Nat → Int32
  | 0 => iMin (s 0 + 10) (pl 0)
  | n + 1 => if s (pStateAt (20 + n)) = 0 then (if pFrom pl s (20 + n) ≤ s 0 then pIdleTo pl s n else iMin (pIdleTo pl s n) (pFrom pl s (20 + n))) else pIdleTo pl s n
def pIdles (pl s : pR) (A : Nat) : pR := upd (pAdds s 5 (pIdleTo pl s A - s 0)) 0 (pIdleTo pl s A)
def pExpS (pl t : pR) (k : Nat) : pR := if t (pStateAt k) = 0 then (if t 0 ≤ pTo pl t k then t else upd t (pStateAt k) 2) else t
/-- alerts gone, among n -/
def pExp (pl s : pR) : Nat → pR
  | 0 => s
  | n + 1 => pExpS pl (pExp pl s n) (20 + n)
def pCalDue (pl s : pR) : Bool := if s 0 - s 4 < s 15 then false else decide (s 0 + pl 6 ≤ pl 0)
def pLogA (s : pR) (n : Nat) (k v b : Int32) : pR := upd (upd (upd s (227 + 4 * n) k) (227 + 4 * n + 1) v) (227 + 4 * n + 2) b
def pLogs (s : pR) (k v b : Int32) : pR :=
  if s 16 = 100 then s else pAdd (upd (pLogA s (pN (s 16)) k v b) (227 + 4 * pN (s 16) + 3) (pLogA s (pN (s 16)) k v b 0)) 16 1
/-- a step: the row and the kind -/
def pStep (pl s : pR) (V A : Nat) : pR × Int32 :=
  match pAl pl (pExp pl s A) A with
  | some a => (pLogs (pMA pl (pExp pl s A) a) 2 (nI (a - 20)) (s 0), 2)
  | none =>
    if pCalDue pl (pExp pl s A) = true then (pLogs (pCalibrates pl (pExp pl s A)) 3 (-1) (s 0), 3)
    else match pCh pl (pExp pl s A) V with
      | some v => (pLogs (pMV pl (pExp pl s A) v A).1 (pMV pl (pExp pl s A) v A).2 (nI v) (s 0), (pMV pl (pExp pl s A) v A).2)
      | none => (pLogs (pIdles pl (pExp pl s A) A) 4 (-1) (s 0), 4)
/-- at most n steps, till the horizon: the row and how many -/
def pMany (pl : pR) (V A : Nat) : Nat → pR → pR × Nat
  | 0, s => (s, 0)
  | n + 1, s => if pl 0 ≤ s 0 then (s, 0) else ((pMany pl V A n (pStep pl s V A).1).1, (pMany pl V A n (pStep pl s V A).1).2 + 1)
/-! bounds are kept -/
theorem pWS.adds {s : pR} {A : Nat} (h : pWS s A) {t : Nat} (ht : t < 8) (v : Int32) : pWS (pAdds s t v) A := h.add _ (by omega) (by omega) (fun k _ => by omega)
theorem pWS.dumps {pl s : pR} {A : Nat} (h : pWS s A) : pWS (pDumps pl s) A :=
  (((h.up _ (by omega) (by omega) (fun k _ => by omega)).add _ (by omega) (by omega) (fun k _ => by omega)).adds (by omega) _).adds (by omega) _
theorem pWS.calibrates {pl s : pR} {A : Nat} (h : pWS s A) : pWS (pCalibrates pl s) A :=
  (((h.add _ (by omega) (by omega) (fun k _ => by omega)).up _ (by omega) (by omega) (fun k _ => by omega)).adds (by omega) _).adds (by omega) _
theorem pWS.ite {s t : pR} {A : Nat} {c : Prop} [Decidable c] (h : pWS s A) (h2 : pWS t A) : pWS (if c then s else t) A := by
  by_cases h9 : c
  · rw [if_pos h9]; exact h
  · rw [if_neg h9]; exact h2
theorem pWS.comes {pl s : pR} {P V O A : Nat} (hp : pWP pl P V O) (hs : pWS s A) {k : Nat} (hk : k < 30) : pWS (pComes pl s k) A := by
  unfold pComes pComesD pComesC pComesB
  have h1 : pWS (pComesA pl s k) A := pWS.ite hs.dumps hs
  have h2 : ∀ x, pWS (pAdd (pComesA pl s k) 0 x) A := fun x => h1.add _ (by omega) (by omega) (fun k _ => by omega)
  have h3 := fun x => pQ_l hp (h2 x) hk
  refine pWS.up (pWS.up (pWS.adds (pWS.add (h2 _) _ ?_ ?_ ?_) (by omega) _) _ (by omega) (by omega) (fun k _ => by omega)) _ (by omega) (by omega) (fun k _ => by omega)
  all_goals have := h3 (pMinutes pl (pComesA pl s k) (pLon pl (pComesA pl s k) k) (pLat pl (pComesA pl s k) k))
  · omega
  · omega
  · intro k _; omega
theorem pWS.passes {pl s : pR} {P V O A : Nat} (hp : pWP pl P V O) (hs : pWS s A) {k : Nat} (hk : k < 30) {mi : Int32} {l : Bool} : pWS (pPasses pl s k mi l) A := by
  unfold pPasses pPassB pPassA
  have h1 : ∀ x, pWS (pAdd (pAdd s 3 x) 0 mi) A := fun x => (hs.add _ (by omega) (by omega) (fun k _ => by omega)).add _ (by omega) (by omega) (fun k _ => by omega)
  have h3 := fun x => pQ_l hp (h1 x) hk
  have := h3 (pGrows pl s k mi)
  cases l with
  | true => exact pWS.adds (pWS.add (h1 _) _ (by simp only [if_true]; omega) (by simp only [if_true]; omega) (by intro k _; simp only [if_true]; omega)) (by simp) _
  | false => exact pWS.adds (pWS.add (h1 _) _ (by simp only [Bool.false_eq_true, if_false]; omega) (by simp only [Bool.false_eq_true, if_false]; omega) (by intro k _; simp only [Bool.false_eq_true, if_false]; omega)) (by simp) _
theorem pWS.finA {s : pR} {A : Nat} (hs : pWS s A) {k : Nat} (hk : k < 30) : pWS (pFinA s k) A := by
  unfold pFinA pStartAt pStateAt
  refine pWS.up (pWS.up hs _ ?_ ?_ ?_) _ ?_ ?_ ?_
  all_goals by_cases h : k < 20
  all_goals first
    | (rw [if_pos h]; omega)
    | (rw [if_neg h]; omega)
    | (intro j _; rw [if_pos h]; omega)
    | (intro j _; rw [if_neg h]; omega)
theorem pWS.finishes {pl s : pR} {P V O A : Nat} (hp : pWP pl P V O) (hs : pWS s A) {k : Nat} (hk : k < 30) : pWS (pFinishes pl s k) A := (hs.finA hk).passes hp hk
theorem pWS.mv {pl s : pR} {P V O A : Nat} (hp : pWP pl P V O) (hs : pWS s A) {k : Nat} (hk : k < 20) : pWS (pMV pl s k A).1 A := by
  unfold pMV
  have h1 := hs.comes hp (k := k) (by omega)
  split
  · exact (h1.passes hp (by omega)).add _ (by omega) (by omega) (fun k _ => by omega)
  · have h2 := h1.finishes hp (k := k) (by omega)
    have := pQ_l hp h2 (k := k) (by omega)
    exact h2.add _ (by omega) (by omega) (fun k _ => by omega)
theorem pWS.ma {pl s : pR} {P V O A : Nat} (hp : pWP pl P V O) (hs : pWS s A) {k : Nat} (hk : k < 30) : pWS (pMA pl s k) A := (hs.comes hp hk).finishes hp hk
theorem pWS.idles {pl s : pR} {A : Nat} (hs : pWS s A) : pWS (pIdles pl s A) A := (hs.adds (by omega) _).up _ (by omega) (by omega) (fun k _ => by omega)
theorem pWS.expS {pl s : pR} {A : Nat} (hs : pWS s A) {k : Nat} (hk : k < 30) : pWS (pExpS pl s k) A := by
  unfold pExpS
  refine pWS.ite (pWS.ite hs ?_) hs
  unfold pStateAt
  by_cases h : k < 20
  · rw [if_pos h]; exact hs.up _ (by omega) (by omega) (fun k _ => by omega)
  · rw [if_neg h]; exact hs.up _ (by omega) (by omega) (fun k _ => by omega)
theorem pWS.exp {pl s : pR} {A : Nat} (hs : pWS s A) : ∀ {n : Nat}, n ≤ 10 → pWS (pExp pl s n) A
  | 0, _ => hs
  | n + 1, h => (pWS.exp hs (n := n) (by omega)).expS (by omega)
theorem pWS.logs {s : pR} {A : Nat} (hs : pWS s A) (k v b : Int32) : pWS (pLogs s k v b) A := by
  unfold pLogs
  by_cases h9 : s 16 = 100
  · rw [if_pos h9]; exact hs
  · rw [if_neg h9]
    obtain ⟨n, hn, e⟩ := hs.hN
    have hne : n ≠ 100 := fun z => h9 (by rw [e, z]; rfl)
    rw [e, pN_nI (by omega)]
    have h1 : pWS (pLogA s n k v b) A := ((hs.up _ (by omega) (by omega) (fun k _ => by omega)).up _ (by omega) (by omega) (fun k _ => by omega)).up _ (by omega) (by omega) (fun k _ => by omega)
    have h2 : pWS (upd (pLogA s n k v b) (227 + 4 * n + 3) (pLogA s n k v b 0)) A := h1.up _ (by omega) (by omega) (fun k _ => by omega)
    have e2 : upd (pLogA s n k v b) (227 + 4 * n + 3) (pLogA s n k v b 0) 16 = nI n := by
      simp only [pLogA, upd]
      rw [if_neg (by omega), if_neg (by omega), if_neg (by omega), if_neg (by omega)]; exact e
    generalize upd (pLogA s n k v b) (227 + 4 * n + 3) (pLogA s n k v b 0) = t at h2 e2
    refine ⟨(pu_ne (by omega)).trans h2.hA, h2.lA, ⟨n + 1, by omega, pu_eq.trans (by rw [e2, nI_1])⟩, fun k hk => ?_⟩
    obtain ⟨q, hq, e⟩ := h2.pr k hk
    exact ⟨q, hq, (pu_ne (by omega)).trans e⟩
theorem pCh_l {pl s : pR} : ∀ {n v : Nat}, pCh pl s n = some v → v < n
  | 0, v, h => by cases h
  | n + 1, v, h => by
    have h9 := h
    unfold pCh pChS at h9
    split at h9
    · split at h9
      · cases h9; omega
      · rename_i o e
        have := pCh_l e
        split at h9 <;> (cases h9; omega)
    · have := pCh_l h9; omega
theorem pAl_l {pl s : pR} : ∀ {n v : Nat}, pAl pl s n = some v → 20 ≤ v ∧ v < 20 + n
  | 0, v, h => by cases h
  | n + 1, v, h => by
    have h9 := h
    unfold pAl pAlS at h9
    split at h9
    · have := pAl_l h9; omega
    · split at h9
      · split at h9
        · cases h9; omega
        · rename_i o e
          have := pAl_l e
          split at h9 <;> (cases h9; omega)
      · have := pAl_l h9; omega
theorem pBr_l {pl s : pR} {w : Nat} : ∀ {n v : Nat}, pBr pl s w n = some v → 20 ≤ v ∧ v < 20 + n
  | 0, v, h => by cases h
  | n + 1, v, h => by
    have h9 := h
    unfold pBr pBrS at h9
    split at h9
    · split at h9
      · cases h9; omega
      · rename_i o e
        have := pBr_l e
        split at h9 <;> (cases h9; omega)
    · have := pBr_l h9; omega
theorem pWS.step {pl s : pR} {P V O A : Nat} (hp : pWP pl P V O) (hs : pWS s A) : pWS (pStep pl s V A).1 A := by
  have h1 := hs.exp (pl := pl) (n := A) hs.lA
  have := hs.lA
  have := hp.lV
  unfold pStep
  split
  · rename_i a e
    have := pAl_l e
    exact (h1.ma hp (by omega)).logs _ _ _
  · by_cases h9 : pCalDue pl (pExp pl s A) = true
    · rw [if_pos h9]; exact h1.calibrates.logs _ _ _
    · rw [if_neg h9]
      split
      · rename_i v e
        have := pCh_l e
        exact (h1.mv hp (by omega)).logs _ _ _
      · exact h1.idles.logs _ _ _
theorem pWS.many {pl : pR} {P V O A : Nat} (hp : pWP pl P V O) : ∀ {n : Nat} {s : pR}, pWS s A → pWS (pMany pl V A n s).1 A
  | 0, _, hs => hs
  | n + 1, s, hs => by
    unfold pMany
    by_cases h9 : pl 0 ≤ s 0
    · rw [if_pos h9]; exact hs
    · rw [if_neg h9]; exact pWS.many hp (hs.step hp)
theorem pAside_ws {pl s : pR} {P V O A : Nat} (hp : pWP pl P V O) (hs : pWS s A) {v : Nat} (hv : v < 30) {a : Int32} : pWS (pAside pl s v a) A := by
  have := pQ_l hp hs hv
  exact ((hs.up _ (by omega) (by omega) (fun k _ => by omega)).add _ (by omega) (by omega) (fun k _ => by omega)).add _ (by omega) (by omega) (fun k _ => by omega)
/-! the model's fields laid aside (20, 21, 22) -/
def mAs (μ : md_S) (t : Int32 × Int32 × Int32) : md_S := (fun i => if i = 20 then t.1 else if i = 21 then t.2.1 else if i = 22 then t.2.2 else μ.1 i, μ.2)
theorem mAs_0 (μ : md_S) (t : Int32 × Int32 × Int32) (x : Int32) : md_si (mAs μ t) 20 x = mAs μ (x, t.2) := by
  unfold md_si mAs
  congr 1; funext i; simp only [upd]
  by_cases h : i = 20
  · simp [h]
  · simp [h]
theorem mAs_1 (μ : md_S) (t : Int32 × Int32 × Int32) (x : Int32) : md_si (mAs μ t) 21 x = mAs μ (t.1, x, t.2.2) := by
  unfold md_si mAs
  congr 1; funext i; simp only [upd]
  by_cases h : i = 21
  · simp [h]
  · simp [h]
theorem mAs_2 (μ : md_S) (t : Int32 × Int32 × Int32) (x : Int32) : md_si (mAs μ t) 22 x = mAs μ (t.1, t.2.1, x) := by
  unfold md_si mAs
  congr 1; funext i; simp only [upd]
  by_cases h : i = 22
  · simp [h]
  · simp [h]
theorem mAs2 (μ : md_S) (t : Int32 × Int32 × Int32) : (mAs μ t).2 = μ.2 := rfl
theorem md_si2 (μ : md_S) (k : Nat) (v : Int32) : (md_si μ k v).2 = μ.2 := rfl
theorem mAs_self (μ : md_S) : mAs μ (μ.1 20, μ.1 21, μ.1 22) = μ := by
  unfold mAs
  congr 1; funext i
  by_cases h : i = 20
  · subst h; rfl
  · by_cases h1 : i = 21
    · subst h1; rfl
    · by_cases h2 : i = 22
      · subst h2; rfl
      · simp [h, h1, h2]
/-- a row put back as it was -/
theorem pBack {pl s : pR} {v : Nat} {a : Int32} {p : Nat} (hpq : pQ pl s v = p) (hp : p < 6) : upd (upd (upd (pAside pl s v a) 0 (s 0)) 3 (s 3)) (29 + p) (s (29 + p)) = s := by
  funext i
  simp only [pAside, pAdd, upd, hpq]
  by_cases h : i = 29 + p
  · simp [h]
  · by_cases h1 : i = 3
    · subst h1; simp [h]
    · by_cases h2 : i = 0
      · subst h2; simp [h]
      · simp [h, h1, h2]
section AXT
variable {Ω : ax_O} {Γ : ax_F} {kb nb pc : Nat} {h : ax_H} {ls : List (Option Value)} {rest : List Value}
theorem ax_top {v w : Value} (e : v = w) (kk : ax_W Ω Γ kb nb h pc ls (w :: rest)) : ax_W Ω Γ kb nb h pc ls (v :: rest) := by subst e; exact kk
theorem ax_hp {h' : ax_H} (e : h = h') (kk : ax_W Ω Γ kb nb h' pc ls rest) : ax_W Ω Γ kb nb h pc ls rest := by subst e; exact kk
theorem ax_lc {ls' : List (Option Value)} (e : ls = ls') (kk : ax_W Ω Γ kb nb h pc ls' rest) : ax_W Ω Γ kb nb h pc ls rest := by subst e; exact kk
end AXT
/-! what is laid aside by breaks, breaking, a step, steps -/
abbrev pT : Type := Int32 × Int32 × Int32
def pBrkT (pl s : pR) (v k : Nat) (t : pT) : pT := if pBrkNo pl s v k = true then t else (s 0, s 3, s (29 + pQ pl s v))
def pBrT (pl s : pR) (v : Nat) (t : pT) : Nat → pT
  | 0 => t
  | n + 1 => pBrkT pl s v (20 + n) (pBrT pl s v t n)
def pStT (pl s : pR) (V A : Nat) (t : pT) : pT :=
  match pAl pl (pExp pl s A) A with
  | some _ => t
  | none =>
    if pCalDue pl (pExp pl s A) = true then t
    else match pCh pl (pExp pl s A) V with
      | some v => pBrT pl (pComes pl (pExp pl s A) v) v t A
      | none => t
def pManyT (pl : pR) (V A : Nat) : Nat → pR → pT → pT
  | 0, _, t => t
  | n + 1, s, t => if pl 0 ≤ s 0 then t else pManyT pl V A n (pStep pl s V A).1 (pStT pl s V A t)
theorem pMany_s {pl s : pR} {V A n : Nat} : pMany pl V A (n + 1) s = if pl 0 ≤ s 0 then (s, 0) else ((pMany pl V A n (pStep pl s V A).1).1, (pMany pl V A n (pStep pl s V A).1).2 + 1) := rfl
theorem pManyT_s {pl s : pR} {V A n : Nat} {t : pT} : pManyT pl V A (n + 1) s t = if pl 0 ≤ s 0 then t else pManyT pl V A n (pStep pl s V A).1 (pStT pl s V A t) := rfl
