/-! WHAT THE MODEL COMPUTES, in plain Lean: pl: what the text tells (235 ints); s: all that steps alter (627 ints) -/
def bI (b : Bool) : Int32 := if b then 1 else 0
def iAbs (x : Int32) : Int32 := if 0 ≤ x then x else 0 - x
def iMin (x y : Int32) : Int32 := if y < x then y else x
def iMax (x y : Int32) : Int32 := if x < y then y else x
abbrev pR : Type := Nat → Int32
def pOf (pl s : pR) (k v a : Nat) : Int32 := if k < 20 then pl (66 + 8 * k + v) else s (127 + 10 * (k - 20) + a)
def pProp (pl s : pR) (k : Nat) : Int32 := pOf pl s k 0 0
def pLon (pl s : pR) (k : Nat) : Int32 := pOf pl s k 1 2
def pLat (pl s : pR) (k : Nat) : Int32 := pOf pl s k 2 3
def pDur (pl s : pR) (k : Nat) : Int32 := pOf pl s k 3 4
def pFrom (pl s : pR) (k : Nat) : Int32 := pOf pl s k 6 1
def pTo (pl s : pR) (k : Nat) : Int32 := if k < 20 then pl (66 + 8 * k + 7) else pFrom pl s k + s (127 + 10 * (k - 20) + 6)
def pStateAt (k : Nat) : Nat := if k < 20 then 47 + k else 127 + 10 * (k - 20) + 7
def pStartAt (k : Nat) : Nat := if k < 20 then 87 + k else 127 + 10 * (k - 20) + 8
def pGrows (pl s : pR) (k : Nat) (mi : Int32) : Int32 := (pOf pl s k 5 5 * mi + 9) / 10
def pDumpsFor (pl s : pR) (k : Nat) : Bool := decide (pl 3 < s 3 + pGrows pl s k (pDur pl s k))
def pApart (a b : Int32) : Int32 := iMin (iAbs (a - b)) (360 - iAbs (a - b))
def pAngle (s : pR) (lon lat : Int32) : Int32 := iMax (pApart (s 1) lon) (iAbs (s 2 - lat))
def pMinutes (pl s : pR) (lon lat : Int32) : Int32 := if pAngle s lon lat = 0 then 0 else pl 1 + (pAngle s lon lat + pl 2 - 1) / pl 2
def pSunAt (pl : pR) (t : Int32) : Int32 := ((pl 7).toInt64 + (t / pl 8).toInt64 - ((pl 7).toInt64 + (t / pl 8).toInt64) / 360 * 360).toInt32
def pSeen (pl : pR) (lon t : Int32) : Bool := decide (pl 9 ≤ pApart lon (pSunAt pl t))
def pStartFor (pl s : pR) (k : Nat) : Int32 := s 0 + (if pDumpsFor pl s k then pl 4 else 0) + pMinutes pl s (pLon pl s k) (pLat pl s k)
def pLeft (s : pR) (p : Nat) : Int32 := s (17 + p) - s (23 + p) - s (29 + p)
/-- outages 0 .. n - 1 -/
def pOut (pl : pR) (a b : Int32) : Nat → Bool
  | 0 => false
  | n + 1 => pOut pl a b n || (decide (a ≤ pl (227 + 2 * n + 1)) && decide (pl (227 + 2 * n) < b))
/-- an Int32 as a place -/
def pN (x : Int32) : Nat := x.toNatClampNeg
/-- the place of a thing's proposal -/
def pQ (pl s : pR) (k : Nat) : Nat := pN (pProp pl s k)
def pIn (v a b : Int32) : Bool := decide (a ≤ v) && decide (v ≤ b)
/-- why a thing can't be begun -/
def pReason (pl s : pR) (k : Nat) : Int32 :=
  if s (pStateAt k) ≠ 0 then 1
  else if pl 3 < pGrows pl s k (pDur pl s k) then 2
  else if pLeft s (pQ pl s k) < pDur pl s k then 3
  else if pIn (pStartFor pl s k) (pFrom pl s k) (pTo pl s k) = false then 4
  else if pl 0 < pStartFor pl s k + pDur pl s k then 5
  else if (pSeen pl (pLon pl s k) (pStartFor pl s k) && pSeen pl (pLon pl s k) (pStartFor pl s k + pDur pl s k)) = false then 6
  else if pOut pl (pStartFor pl s k) (pStartFor pl s k + pDur pl s k) (pN (pl 226)) = true then 7 else 0
