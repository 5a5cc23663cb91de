/-! WHAT PLANS AND RULES COMPUTE -/
theorem pOut_up {pl : pR} {a b : Int32} {i n : Nat} (h : i ≤ n) (hi : pOut pl a b i = true) : pOut pl a b n = true := by
  induction n with
  | zero => rw [show i = 0 by omega] at hi; exact hi
  | succ n ih =>
    by_cases e : i = n + 1
    · subst e; exact hi
    · rw [pOut, ih (by omega)]; rfl
def cDump (pl r : pR) (k : Nat) : Int32 := if pl 3 < r 3 + pGrows pl r k (pDur pl r k) then pl 4 else nI 0
def cSlw (pl r : pR) (k : Nat) : Int32 := cSlew pl (cAng pl r k (r 1) (r 2))
def cStart (pl r : pR) (k : Nat) : Int32 := r 0 + cDump pl r k + cSlw pl r k
def cRsn (pl r : pR) (k O : Nat) (lf gr st en : Int32) : Int32 :=
  if pl 3 < gr then nI 2
  else if lf < pDur pl r k then nI 3
  else if pIn st (pFrom pl r k) (pTo pl r k) = true then
    (if pl 0 < en then nI 5
    else if cVis pl (pLon pl r k) st = true then (if cVis pl (pLon pl r k) en = true then (if pOut pl st en O = true then nI 7 else nI 0) else nI 6) else nI 6)
  else nI 4
/-- a plan laid for the k-th thing -/
def cPl (pl r : pR) (k O w : Nat) (num : Int32) (op : Bool) (lf : Int32) : cP := (.ref w, fun i => match i with
  | 1 => num
  | 2 => r 0
  | 3 => cDump pl r k
  | 4 => cSlw pl r k
  | 5 => cStart pl r k
  | 6 => cStart pl r k + pDur pl r k
  | 7 => pGrows pl r k (pDur pl r k)
  | _ => if op = true then cRsn pl r k O lf (pGrows pl r k (pDur pl r k)) (cStart pl r k) (cStart pl r k + pDur pl r k) else nI 1)
/-- how visit k compares to visit o: below 0 if it's better -/
def cPri (s : pR) (k o : Nat) : Int32 := cCmp (s (107 + o)) (s (107 + k))
def cOr (f g : Int32) : Int32 := if f = 0 then g else f
def cDiv (s : pR) (p : Nat) : Int32 := iMax (nI 1) (s (17 + p))
def cShr (s : pR) (p q : Nat) : Int32 := cCmpL ((s (23 + p)).toInt64 * (cDiv s q).toInt64) ((s (23 + q)).toInt64 * (cDiv s p).toInt64)
def cRule (pl s : pR) (pol k o : Nat) (P0 P1 : cP) : Int32 :=
  if pol = 0 then cOr (cPri s k o) (cCmp (P0.2 5) (P1.2 5))
  else if pol = 1 then cOr (cShr s (pQ pl s k) (pQ pl s o)) (cPri s k o)
  else if pol = 2 then cOr (cCmp (pTo pl s k) (pTo pl s o)) (cPri s k o)
  else cOr (cCmp (P0.2 4) (P1.2 4)) (cPri s k o)
