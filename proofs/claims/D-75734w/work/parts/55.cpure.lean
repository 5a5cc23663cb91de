/-! WHAT THE COMPONENT's SMALL METHODS COMPUTE; a plan's overlay; works (visits, alerts) -/
def cIn (v a b : Int64) : Bool := decide (a ≤ v) && decide (v ≤ b)
def cCmp (a b : Int32) : Int32 := if a < b then -1 else if a = b then 0 else 1
def cCmpL (a b : Int64) : Int32 := if a < b then -1 else if a = b then 0 else 1
def cFM (a b : Int32) : Int32 := if a ^^^ b < 0 then (if a - a / b * b = 0 then a - a / b * b else a - a / b * b + b) else a - a / b * b
def cAr (a b : Int32) : Int32 := iMin (cFM (a - b) (nI 360)) (nI 360 - cFM (a - b) (nI 360))
def cAng (pl r : pR) (k : Nat) (lon lat : Int32) : Int32 := iMax (cAr lon (pLon pl r k)) (iAbs (lat - pLat pl r k))
def cSlew (pl : pR) (ang : Int32) : Int32 := if ang = 0 then nI 0 else pl 1 + (ang + pl 2 - nI 1) / pl 2
def cSun (pl : pR) (t : Int32) : Int32 := pl 7 + (t / pl 8 - t / pl 8 / nI 360 * nI 360) - (pl 7 + (t / pl 8 - t / pl 8 / nI 360 * nI 360)) / nI 360 * nI 360
def cVis (pl : pR) (lon t : Int32) : Bool := decide (pl 9 ≤ cAr lon (cSun pl t))
theorem Int64_ofNat_toInt {n : Nat} (h : n < 2 ^ 63) : (Int64.ofNat n).toInt = n := Int64.toInt_ofNat_of_lt (by simpa using h)
theorem i2l_le {a b : Int32} : (a.toInt64 ≤ b.toInt64) ↔ a ≤ b := by
  rw [Int64.le_iff_toInt_le, Int32.le_iff_toInt_le, Int32.toInt_toInt64, Int32.toInt_toInt64]
theorem i2l_lt {a b : Int32} : (a.toInt64 < b.toInt64) ↔ a < b := by
  rw [Int64.lt_iff_toInt_lt, Int32.lt_iff_toInt_lt, Int32.toInt_toInt64, Int32.toInt_toInt64]
theorem cIn_i (v a b : Int32) : cIn v.toInt64 a.toInt64 b.toInt64 = pIn v a b := by
  unfold cIn pIn
  rw [decide_eq_decide.mpr i2l_le, decide_eq_decide.mpr i2l_le]
/-! a plan's overlay -/
theorem ax_set2 (h : ax_H) (p : Nat) (e e' : ax_E) : ax_set (ax_set h p e) p e' = ax_set h p e' := by
  unfold ax_set
  congr 1
  funext q
  by_cases z : q = p <;> simp [z]
theorem ax_setS {h : ax_H} {p : Nat} {e : ax_E} (he : h.1 p = some e) : ax_set h p e = h := by
  obtain ⟨f, n⟩ := h
  unfold ax_set
  congr 1
  funext q
  dsimp only
  by_cases z : q = p
  · rw [if_pos z, z]; exact he.symm
  · rw [if_neg z]
def pH (h : ax_H) (p : Nat) (P : cP) : ax_H := ax_set h p (.inr (6, cPF P))
section CPR
variable {Ω : ax_O} {Γ : ax_F} {y : MethodName} {cc : ByteArray} {nL : Nat} {ret : Option FieldType} {hh : List (Nat × Nat × Nat × Nat)} {d kb nb pc : Nat} {h : ax_H} {p : Nat} {P P' : cP} {ls : List (Option Value)} {rest : List Value}
theorem pH_obj : (pH h p P).1 p = some (.inr (6, cPF P)) := if_pos rfl
theorem pH_o {q : Nat} (hq : q ≠ p) : (pH h p P).1 q = h.1 q := if_neg hq
theorem pH_set : ax_set (pH h p P) p (.inr (6, cPF P')) = pH h p P' := ax_set2 _ _ _ _
theorem pH_eq (e : cPF P = cPF P') : pH h p P = pH h p P' := by unfold pH; rw [e]
theorem pr_get (G : ax_C Ω Γ y cc nL ret hh d) {idx k : Nat} {v : Value} {ft : FieldType} {fin : Bool} (F : ax_fl y.cls idx 6 k ft fin) (dec : decode cc pc = .ok (.getfield idx, 3)) (hv : (cPF P)[k]? = some v) (kk : ax_W Ω Γ kb nb (pH h p P) (pc + 3) ls (v :: rest)) : ax_W Ω Γ kb nb (pH h p P) pc ls (.ref p :: rest) := ax_getf G F dec pH_obj hv kk
theorem pr_put (G : ax_C Ω Γ y cc nL ret hh d) {idx k : Nat} {v : Value} {ft : FieldType} (P' : cP) (F : ax_fl y.cls idx 6 k ft false) (dec : decode cc pc = .ok (.putfield idx, 3)) (ha : Ω.2.1.heap.size ≤ p) (hk : k < 9) (he : (cPF P).set k v = cPF P') (hn9 : narrow ft v = v) (hf9 : fits ft v = true) (kk : ax_W Ω Γ kb nb (pH h p P') (pc + 3) ls rest) : ax_W Ω Γ kb nb (pH h p P) pc ls (v :: .ref p :: rest) :=
  ax_putf G F dec pH_obj ha hk hn9 hf9 (by rw [he, pH_set]; exact kk)
end CPR
/-! works: the k-th thing (visits below 20, alerts from 20 on) as plan row and state row tell it -/
def cWk (g : ax_H) (w : Nat) (pl r : pR) (k : Nat) : Prop :=
  (k < 20 ∧ ∃ pr : Int32, g.1 w = some (.inr (13, [.int (pProp pl r k), .int (pLon pl r k), .int (pLat pl r k), .int (pDur pl r k), .int (pOf pl r k 5 5), .int pr, .int (pFrom pl r k), .int (pTo pl r k)]))) ∨
  (20 ≤ k ∧ ∃ re : Int32, g.1 w = some (.inr (14, [.int (pProp pl r k), .int (pLon pl r k), .int (pLat pl r k), .int (pDur pl r k), .int (pOf pl r k 5 5), .int (pFrom pl r k), .int re])) ∧ pTo pl r k = pFrom pl r k + re)
theorem cSc.wk {g : ax_H} {pl r : pR} {P V O : Nat} {D : cD} (hS : cSc g pl P V O D) {k : Nat} (hk : k < V) (h20 : k < 20) : cWk g (D.2.1 1 k) pl r k := by
  obtain ⟨pr, h1⟩ := hS.2.2.2.2.1 k hk
  refine Or.inl ⟨h20, pr, ?_⟩
  simp only [pProp, pLon, pLat, pDur, pFrom, pTo, pOf, if_pos h20]
  exact h1
theorem cAl.wk {g : ax_H} {L : Nat} {pl s : pR} {A : Nat} {D : cD} (hS : cAl g L s A D) {k : Nat} (hk : k < A) : cWk g (D.2.1 3 k) pl s (20 + k) := by
  have h1 := hS.2 k hk
  have h20 : ¬ 20 + k < 20 := by omega
  refine Or.inr ⟨by omega, s (127 + 10 * k + 6), ?_, ?_⟩
  · simp only [pProp, pLon, pLat, pDur, pFrom, pTo, pOf, if_neg h20, Nat.add_sub_cancel_left]
    exact h1
  · simp only [pTo, if_neg h20, Nat.add_sub_cancel_left]
