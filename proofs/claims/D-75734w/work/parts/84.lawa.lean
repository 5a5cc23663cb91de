/-! THE PURE LAW, first part: numbers in bounds; angles, sun, slews, reasons: the component's and the model's -/
/-! numbers of 32 and 64 bits as whole numbers -/
theorem bm_32 {z : Int} (a : -2147483648 ≤ z) (b : z < 2147483648) : z.bmod (2 ^ 32) = z := by
  have e := Int.bmod_eq_of_le_mul_two (x := z) (y := 2 ^ 32) (by omega) (by omega)
  exact e
theorem bm_64 {z : Int} (a : -9223372036854775808 ≤ z) (b : z < 9223372036854775808) : z.bmod (2 ^ 64) = z := by
  have e := Int.bmod_eq_of_le_mul_two (x := z) (y := 2 ^ 64) (by omega) (by omega)
  exact e
theorem i32_add {x y : Int32} (a : -2147483648 ≤ x.toInt + y.toInt) (b : x.toInt + y.toInt < 2147483648) : (x + y).toInt = x.toInt + y.toInt := (Int32.toInt_add x y).trans (bm_32 a b)
theorem i32_sub {x y : Int32} (a : -2147483648 ≤ x.toInt - y.toInt) (b : x.toInt - y.toInt < 2147483648) : (x - y).toInt = x.toInt - y.toInt := (Int32.toInt_sub x y).trans (bm_32 a b)
theorem i32_mul {x y : Int32} (a : -2147483648 ≤ x.toInt * y.toInt) (b : x.toInt * y.toInt < 2147483648) : (x * y).toInt = x.toInt * y.toInt := (Int32.toInt_mul x y).trans (bm_32 a b)
theorem i64_add {x y : Int64} (a : -9223372036854775808 ≤ x.toInt + y.toInt) (b : x.toInt + y.toInt < 9223372036854775808) : (x + y).toInt = x.toInt + y.toInt := (Int64.toInt_add x y).trans (bm_64 a b)
theorem i64_sub {x y : Int64} (a : -9223372036854775808 ≤ x.toInt - y.toInt) (b : x.toInt - y.toInt < 9223372036854775808) : (x - y).toInt = x.toInt - y.toInt := (Int64.toInt_sub x y).trans (bm_64 a b)
theorem i64_mul {x y : Int64} (a : -9223372036854775808 ≤ x.toInt * y.toInt) (b : x.toInt * y.toInt < 9223372036854775808) : (x * y).toInt = x.toInt * y.toInt := (Int64.toInt_mul x y).trans (bm_64 a b)
theorem i32_div {x y : Int32} (a : -2147483648 < x.toInt) : (x / y).toInt = x.toInt.tdiv y.toInt := Int32.toInt_div_of_ne_left x y (fun e => by
  have h : x.toInt = -2147483648 := by rw [e]; decide
  omega)
theorem i64_div {x y : Int64} (a : -9223372036854775808 < x.toInt) : (x / y).toInt = x.toInt.tdiv y.toInt := Int64.toInt_div_of_ne_left x y (fun e => by
  have h : x.toInt = -9223372036854775808 := by rw [e]; decide
  omega)
theorem i64_of_i32 (x : Int32) : x.toInt64.toInt = x.toInt := Int32.toInt_toInt64 x
theorem i32_of_i64 {x : Int64} (a : -2147483648 ≤ x.toInt) (b : x.toInt < 2147483648) : x.toInt32.toInt = x.toInt := (Int64.toInt_toInt32 x).trans (bm_32 a b)
theorem i32_nonneg {x : Int32} : 0 ≤ x ↔ 0 ≤ x.toInt := by rw [Int32.le_iff_toInt_le, Int32.toInt_zero]
/-- a number between two -/
def vB (x : Int32) (a b : Int) : Prop := a ≤ x.toInt ∧ x.toInt ≤ b
theorem lt_t {x y : Int32} : x < y ↔ x.toInt < y.toInt := Int32.lt_iff_toInt_lt
theorem le_t {x y : Int32} : x ≤ y ↔ x.toInt ≤ y.toInt := Int32.le_iff_toInt_le
theorem eq_t {x y : Int32} : x = y ↔ x.toInt = y.toInt := Int32.toInt_inj.symm
theorem t_0 : (0 : Int32).toInt = 0 := by decide
theorem t_1 : (1 : Int32).toInt = 1 := by decide
theorem t_n0 : (nI 0).toInt = 0 := nI_toInt (by decide)
theorem t_n1 : (nI 1).toInt = 1 := nI_toInt (by decide)
theorem t_360 : (360 : Int32).toInt = 360 := by decide
theorem t_n360 : (nI 360).toInt = 360 := nI_toInt (by decide)
theorem iMin_t (x y : Int32) : ((iMin x y).toInt = x.toInt ∧ x.toInt ≤ y.toInt) ∨ ((iMin x y).toInt = y.toInt ∧ y.toInt < x.toInt) := by
  unfold iMin
  by_cases h : y < x
  · rw [if_pos h]; exact Or.inr ⟨rfl, lt_t.mp h⟩
  · rw [if_neg h]; exact Or.inl ⟨rfl, Int.not_lt.mp (fun z => h (lt_t.mpr z))⟩
theorem iMax_t (x y : Int32) : ((iMax x y).toInt = y.toInt ∧ x.toInt < y.toInt) ∨ ((iMax x y).toInt = x.toInt ∧ y.toInt ≤ x.toInt) := by
  unfold iMax
  by_cases h : x < y
  · rw [if_pos h]; exact Or.inl ⟨rfl, lt_t.mp h⟩
  · rw [if_neg h]; exact Or.inr ⟨rfl, Int.not_lt.mp (fun z => h (lt_t.mpr z))⟩
theorem iAbs_t {x : Int32} (h : -2147483648 < x.toInt) : ((iAbs x).toInt = x.toInt ∧ 0 ≤ x.toInt) ∨ ((iAbs x).toInt = -x.toInt ∧ x.toInt < 0) := by
  have a := x.toInt_lt
  unfold iAbs
  by_cases h0 : 0 ≤ x
  · rw [if_pos h0]; exact Or.inl ⟨rfl, i32_nonneg.mp h0⟩
  · rw [if_neg h0]
    have h1 : ¬ 0 ≤ x.toInt := mt i32_nonneg.mpr h0
    refine Or.inr ⟨?_, by omega⟩
    rw [i32_sub (by rw [t_0]; omega) (by rw [t_0]; omega), t_0]; omega
theorem ap_t {a b : Int32} (ha : vB a 0 359) (hb : vB b 0 359) : 0 ≤ (pApart a b).toInt ∧ (pApart a b).toInt ≤ 180 ∧ ((pApart a b).toInt = a.toInt - b.toInt ∨ (pApart a b).toInt = b.toInt - a.toInt ∨ (pApart a b).toInt = 360 - (a.toInt - b.toInt) ∨ (pApart a b).toInt = 360 - (b.toInt - a.toInt)) := by
  obtain ⟨a1, a2⟩ := ha
  obtain ⟨b1, b2⟩ := hb
  unfold pApart
  have h1 : (a - b).toInt = a.toInt - b.toInt := i32_sub (by omega) (by omega)
  have h2 := iAbs_t (x := a - b) (by omega)
  have e := t_360
  have h3 : (360 - iAbs (a - b)).toInt = 360 - (iAbs (a - b)).toInt := by rw [i32_sub (by omega) (by omega), t_360]
  have h4 := iMin_t (iAbs (a - b)) (360 - iAbs (a - b))
  generalize (iMin (iAbs (a - b)) (360 - iAbs (a - b))).toInt = r at *
  omega
theorem ap_comm {a b : Int32} (ha : vB a 0 359) (hb : vB b 0 359) : pApart a b = pApart b a := by
  have h1 := ap_t ha hb
  have h2 := ap_t hb ha
  exact eq_t.mpr (by omega)
theorem xor_neg {x : Int32} : (x ^^^ nI 360 < 0) ↔ x < 0 := by
  rw [Int32.lt_iff_toBitVec_slt, Int32.lt_iff_toBitVec_slt]
  show (x.toBitVec ^^^ (nI 360).toBitVec).slt 0#32 = true ↔ x.toBitVec.slt 0#32 = true
  rw [BitVec.slt_zero_eq_msb, BitVec.slt_zero_eq_msb, BitVec.msb_xor, show (nI 360).toBitVec.msb = false from by decide, Bool.xor_false]
theorem td_small {x n : Int} (h1 : -n < x) (h2 : x < n) : x.tdiv n = 0 := by
  by_cases h : 0 ≤ x
  · exact Int.tdiv_eq_zero_of_lt h h2
  · have e : x = -(-x) := by omega
    rw [e, Int.neg_tdiv, Int.tdiv_eq_zero_of_lt (by omega) (by omega)]; rfl
theorem cfm_t {x : Int32} (hx : vB x (-359) 359) : vB (cFM x (nI 360)) 0 359 ∧ ((cFM x (nI 360)).toInt = x.toInt ∨ (cFM x (nI 360)).toInt = x.toInt + 360) := by
  obtain ⟨x1, x2⟩ := hx
  have e := t_n360
  have hd : (x / nI 360).toInt = 0 := by
    rw [i32_div (by omega), t_n360]; exact td_small (by omega) (by omega)
  have hd0 : x / nI 360 = 0 := eq_t.mpr (hd.trans t_0.symm)
  have hr : x - x / nI 360 * nI 360 = x := by rw [hd0, Int32.zero_mul, Int32.sub_zero]
  unfold cFM
  rw [hr]
  by_cases h : x < 0
  · rw [if_pos (xor_neg.mpr h)]
    have hl : x.toInt < 0 := by have := lt_t.mp h; rw [t_0] at this; exact this
    rw [if_neg (fun z : x = 0 => by rw [z, t_0] at hl; exact absurd hl (by decide))]
    have h5 : (x + nI 360).toInt = x.toInt + 360 := by rw [i32_add (by omega) (by omega), t_n360]
    exact ⟨⟨by omega, by omega⟩, Or.inr h5⟩
  · rw [if_neg (fun z => h (xor_neg.mp z))]
    have hl : 0 ≤ x.toInt := by have := mt lt_t.mpr h; rw [t_0] at this; omega
    exact ⟨⟨hl, x2⟩, Or.inl rfl⟩
theorem cAr_e {a b : Int32} (ha : vB a 0 359) (hb : vB b 0 359) : cAr a b = pApart a b := by
  have h0 := ap_t ha hb
  obtain ⟨a1, a2⟩ := ha
  obtain ⟨b1, b2⟩ := hb
  have h1 : (a - b).toInt = a.toInt - b.toInt := i32_sub (by omega) (by omega)
  obtain ⟨⟨f1, f2⟩, h2⟩ := cfm_t (x := a - b) ⟨by omega, by omega⟩
  have e := t_n360
  have h3 : (nI 360 - cFM (a - b) (nI 360)).toInt = 360 - (cFM (a - b) (nI 360)).toInt := by rw [i32_sub (by omega) (by omega), t_n360]
  have h4 := iMin_t (cFM (a - b) (nI 360)) (nI 360 - cFM (a - b) (nI 360))
  refine eq_t.mpr ?_
  unfold cAr
  generalize (iMin (cFM (a - b) (nI 360)) (nI 360 - cFM (a - b) (nI 360))).toInt = r at *
  generalize (pApart a b).toInt = r2 at *
  omega
/-! what a text tells is in bounds -/
def pBP (pl : pR) (V : Nat) : Prop :=
  (vB (pl 0) 60 2000 ∧ vB (pl 1) 0 60 ∧ vB (pl 2) 1 90 ∧ vB (pl 3) 1 9999 ∧ vB (pl 4) 1 99 ∧ vB (pl 6) 1 99 ∧ vB (pl 7) 0 359 ∧ vB (pl 8) 1 999 ∧ vB (pl 9) 0 170) ∧
  (∀ k, k < 20 → vB (pl (66 + 8 * k + 1)) 0 359 ∧ vB (pl (66 + 8 * k + 2)) (-90) 90 ∧ vB (pl (66 + 8 * k + 3)) 0 300 ∧ vB (pl (66 + 8 * k + 5)) 0 99 ∧ vB (pl (66 + 8 * k + 6)) 0 2000 ∧ vB (pl (66 + 8 * k + 7)) 0 2000) ∧
  ∀ k, k < V → 1 ≤ (pl (66 + 8 * k + 3)).toInt
/-- the alerts of a row are in bounds -/
def pBA (s : pR) (A : Nat) : Prop :=
  (∀ k, k < 10 → vB (s (127 + 10 * k + 1)) 0 2000 ∧ vB (s (127 + 10 * k + 2)) 0 359 ∧ vB (s (127 + 10 * k + 3)) (-90) 90 ∧ vB (s (127 + 10 * k + 4)) 0 300 ∧ vB (s (127 + 10 * k + 5)) 0 99 ∧ vB (s (127 + 10 * k + 6)) 0 999) ∧
  ∀ k, k < A → 1 ≤ (s (127 + 10 * k + 4)).toInt
/-- where a row's telescope is -/
def pBR (s : pR) : Prop := vB (s 0) 0 2000 ∧ vB (s 1) 0 359 ∧ vB (s 2) (-90) 90 ∧ vB (s 3) 0 20000
section LAWA
variable {pl s : pR} {V A : Nat}
theorem pBP.b0 (h : pBP pl V) : vB (pl 0) 60 2000 := h.1.1
theorem pBP.b1 (h : pBP pl V) : vB (pl 1) 0 60 := h.1.2.1
theorem pBP.b2 (h : pBP pl V) : vB (pl 2) 1 90 := h.1.2.2.1
theorem pBP.b3 (h : pBP pl V) : vB (pl 3) 1 9999 := h.1.2.2.2.1
theorem pBP.b4 (h : pBP pl V) : vB (pl 4) 1 99 := h.1.2.2.2.2.1
theorem pBP.b6 (h : pBP pl V) : vB (pl 6) 1 99 := h.1.2.2.2.2.2.1
theorem pBP.b7 (h : pBP pl V) : vB (pl 7) 0 359 := h.1.2.2.2.2.2.2.1
theorem pBP.b8 (h : pBP pl V) : vB (pl 8) 1 999 := h.1.2.2.2.2.2.2.2.1
theorem pBP.b9 (h : pBP pl V) : vB (pl 9) 0 170 := h.1.2.2.2.2.2.2.2.2
/-- of a thing -/
def pBT (pl s : pR) (k : Nat) : Prop := vB (pLon pl s k) 0 359 ∧ vB (pLat pl s k) (-90) 90 ∧ vB (pDur pl s k) 0 300 ∧ vB (pOf pl s k 5 5) 0 99 ∧ vB (pFrom pl s k) 0 2000 ∧ vB (pTo pl s k) 0 2999
theorem pBT.of (hp : pBP pl V) (hs : pBA s A) {k : Nat} (hk : k < 30) : pBT pl s k := by
  unfold pBT pLon pLat pDur pTo pFrom pOf
  by_cases h : k < 20
  · simp only [if_pos h]
    obtain ⟨h1, h2, h3, h4, h5, h6⟩ := hp.2.1 k h
    exact ⟨h1, h2, h3, h4, h5, ⟨h6.1, by have := h6.2; omega⟩⟩
  · simp only [if_neg h]
    obtain ⟨h1, h2, h3, h4, h5, h6⟩ := hs.1 (k - 20) (by omega)
    refine ⟨h2, h3, h4, h5, h1, ?_⟩
    obtain ⟨a1, a2⟩ := h1
    obtain ⟨b1, b2⟩ := h6
    have e : (s (127 + 10 * (k - 20) + 1) + s (127 + 10 * (k - 20) + 6)).toInt = (s (127 + 10 * (k - 20) + 1)).toInt + (s (127 + 10 * (k - 20) + 6)).toInt := i32_add (by omega) (by omega)
    exact ⟨by omega, by omega⟩
theorem grows_b {k : Nat} {mi : Int32} (ht : pBT pl s k) (hm : vB mi 0 300) : vB (pGrows pl s k mi) 0 2970 := by
  obtain ⟨-, -, -, ⟨p1, p2⟩, -⟩ := ht
  obtain ⟨m1, m2⟩ := hm
  unfold pGrows
  generalize pOf pl s k 5 5 = x at p1 p2
  have h1 : 0 ≤ x.toInt * mi.toInt := Int.mul_nonneg p1 m1
  have h2 : x.toInt * mi.toInt ≤ 99 * 300 := Int.mul_le_mul p2 m2 m1 (by decide)
  have h3 : (x * mi).toInt = x.toInt * mi.toInt := i32_mul (by omega) (by omega)
  have e9 : (9 : Int32).toInt = 9 := by decide
  have e10 : (10 : Int32).toInt = 10 := by decide
  have h4 : (x * mi + 9).toInt = x.toInt * mi.toInt + 9 := by rw [i32_add (by omega) (by omega), h3, e9]
  have h5 : ((x * mi + 9) / 10).toInt = (x.toInt * mi.toInt + 9) / 10 := by
    rw [i32_div (by omega), h4, e10, Int.tdiv_eq_ediv_of_nonneg (by omega)]
  unfold vB
  omega
/-- by monotony -/
theorem grows_le {k : Nat} {mi mj : Int32} (ht : pBT pl s k) (hm : vB mi 0 300) (hj : vB mj 0 300) (hle : mi.toInt ≤ mj.toInt) : (pGrows pl s k mi).toInt ≤ (pGrows pl s k mj).toInt := by
  obtain ⟨-, -, -, ⟨p1, p2⟩, -⟩ := ht
  obtain ⟨m1, m2⟩ := hm
  obtain ⟨j1, j2⟩ := hj
  unfold pGrows
  generalize pOf pl s k 5 5 = x at p1 p2
  have e9 : (9 : Int32).toInt = 9 := by decide
  have e10 : (10 : Int32).toInt = 10 := by decide
  have key : ∀ y : Int32, 0 ≤ y.toInt → y.toInt ≤ 300 → ((x * y + 9) / 10).toInt = (x.toInt * y.toInt + 9) / 10 := by
    intro y y1 y2
    have h1 : 0 ≤ x.toInt * y.toInt := Int.mul_nonneg p1 y1
    have h2 : x.toInt * y.toInt ≤ 99 * 300 := Int.mul_le_mul p2 y2 y1 (by decide)
    have h3 : (x * y).toInt = x.toInt * y.toInt := i32_mul (by omega) (by omega)
    have h4 : (x * y + 9).toInt = x.toInt * y.toInt + 9 := by rw [i32_add (by omega) (by omega), h3, e9]
    rw [i32_div (by omega), h4, e10, Int.tdiv_eq_ediv_of_nonneg (by omega)]
  rw [key mi m1 m2, key mj j1 j2]
  have := Int.mul_le_mul_of_nonneg_left hle p1
  omega
theorem ang_b {lon lat : Int32} (hs : pBR s) (h1 : vB lon 0 359) (h2 : vB lat (-90) 90) : vB (pAngle s lon lat) 0 180 := by
  obtain ⟨-, s1, s2, -⟩ := hs
  have h3 := ap_t s1 h1
  obtain ⟨l1, l2⟩ := h2
  obtain ⟨a1, a2⟩ := s2
  have h4 : (s 2 - lat).toInt = (s 2).toInt - lat.toInt := i32_sub (by omega) (by omega)
  have h5 := iAbs_t (x := s 2 - lat) (by omega)
  have h6 := iMax_t (pApart (s 1) lon) (iAbs (s 2 - lat))
  unfold vB pAngle
  omega
theorem slew_b {ang : Int32} (hp : pBP pl V) (h : vB ang 0 180) : vB (cSlew pl ang) 0 329 := by
  obtain ⟨a1, a2⟩ := h
  obtain ⟨b1, b2⟩ := hp.b1
  obtain ⟨c1, c2⟩ := hp.b2
  unfold cSlew
  by_cases e : ang = 0
  · rw [if_pos e]; exact ⟨by rw [t_n0]; omega, by rw [t_n0]; omega⟩
  · rw [if_neg e]
    have e1 := t_n1
    have h1 : (ang + pl 2).toInt = ang.toInt + (pl 2).toInt := i32_add (by omega) (by omega)
    have h2 : (ang + pl 2 - nI 1).toInt = ang.toInt + (pl 2).toInt - 1 := by rw [i32_sub (by omega) (by omega), h1, t_n1]
    have h3 : ((ang + pl 2 - nI 1) / pl 2).toInt = (ang.toInt + (pl 2).toInt - 1) / (pl 2).toInt := by
      rw [i32_div (by omega), h2, Int.tdiv_eq_ediv_of_nonneg (by omega)]
    have h4 : (ang.toInt + (pl 2).toInt - 1) / (pl 2).toInt ≤ ang.toInt + (pl 2).toInt - 1 := Int.ediv_le_self _ (by omega)
    have h5 : 0 ≤ (ang.toInt + (pl 2).toInt - 1) / (pl 2).toInt := Int.ediv_nonneg (by omega) (by omega)
    generalize (ang.toInt + (pl 2).toInt - 1) / (pl 2).toInt = z at *
    have h6 : (pl 1 + (ang + pl 2 - nI 1) / pl 2).toInt = (pl 1).toInt + z := by rw [i32_add (by omega) (by omega), h3]
    unfold vB
    omega
theorem min_e (lon lat : Int32) : pMinutes pl s lon lat = cSlew pl (pAngle s lon lat) := rfl
theorem min_b {lon lat : Int32} (hp : pBP pl V) (hs : pBR s) (h1 : vB lon 0 359) (h2 : vB lat (-90) 90) : vB (pMinutes pl s lon lat) 0 329 := by
  rw [min_e]; exact slew_b hp (ang_b hs h1 h2)
theorem cAng_e {k : Nat} {lon lat : Int32} (h1 : vB lon 0 359) (ht : pBT pl s k) : cAng pl s k lon lat = iMax (pApart lon (pLon pl s k)) (iAbs (lat - pLat pl s k)) := by
  unfold cAng; rw [cAr_e h1 ht.1]
theorem cSlw_e {k : Nat} (hs : pBR s) (ht : pBT pl s k) : cSlw pl s k = pMinutes pl s (pLon pl s k) (pLat pl s k) := by
  unfold cSlw
  rw [cAng_e hs.2.1 ht, min_e]; rfl
theorem cDump_e {k : Nat} : cDump pl s k = if pDumpsFor pl s k = true then pl 4 else 0 := by
  unfold cDump pDumpsFor
  by_cases h : pl 3 < s 3 + pGrows pl s k (pDur pl s k)
  · rw [if_pos h, decide_eq_true h, if_pos rfl]
  · rw [if_neg h, decide_eq_false h, if_neg (by decide)]; rfl
theorem cDump_b {k : Nat} (hp : pBP pl V) : vB (cDump pl s k) 0 99 := by
  unfold cDump
  split
  · obtain ⟨h1, h2⟩ := hp.b4; exact ⟨by omega, h2⟩
  · exact ⟨by rw [t_n0]; omega, by rw [t_n0]; omega⟩
theorem cStart_e {k : Nat} (hs : pBR s) (ht : pBT pl s k) : cStart pl s k = pStartFor pl s k := by
  unfold cStart pStartFor
  rw [cSlw_e hs ht, cDump_e]
theorem cStart_b {k : Nat} (hp : pBP pl V) (hs : pBR s) (ht : pBT pl s k) : vB (cStart pl s k) 0 2428 ∧ (s 0).toInt ≤ (cStart pl s k).toInt := by
  obtain ⟨d1, d2⟩ := cDump_b (pl := pl) (s := s) (k := k) hp
  have h1 : vB (cSlw pl s k) 0 329 := by rw [cSlw_e hs ht]; exact min_b hp hs ht.1 ht.2.1
  obtain ⟨w1, w2⟩ := h1
  obtain ⟨⟨z1, z2⟩, -⟩ := hs
  have h2 : (s 0 + cDump pl s k).toInt = (s 0).toInt + (cDump pl s k).toInt := i32_add (by omega) (by omega)
  have h3 : (s 0 + cDump pl s k + cSlw pl s k).toInt = (s 0).toInt + (cDump pl s k).toInt + (cSlw pl s k).toInt := by rw [i32_add (by omega) (by omega), h2]
  unfold cStart vB
  omega
theorem cEnd_t {k : Nat} {d : Int32} (hp : pBP pl V) (hs : pBR s) (ht : pBT pl s k) (hd : vB d 0 300) : (cStart pl s k + d).toInt = (cStart pl s k).toInt + d.toInt := by
  obtain ⟨⟨h1, h2⟩, -⟩ := cStart_b (k := k) hp hs ht
  obtain ⟨d1, d2⟩ := hd
  exact i32_add (by omega) (by omega)
theorem cSun_e {t : Int32} (hp : pBP pl V) (ht : 0 ≤ t.toInt) : cSun pl t = pSunAt pl t ∧ vB (cSun pl t) 0 359 := by
  obtain ⟨b1, b2⟩ := hp.b7
  obtain ⟨c1, c2⟩ := hp.b8
  have tl := t.toInt_lt
  have e := t_n360
  have hu : (t / pl 8).toInt = t.toInt / (pl 8).toInt := by rw [i32_div (by omega), Int.tdiv_eq_ediv_of_nonneg ht]
  have hu0 : 0 ≤ (t / pl 8).toInt := by rw [hu]; exact Int.ediv_nonneg ht (by omega)
  unfold cSun pSunAt
  generalize t / pl 8 = u at hu0 ⊢
  clear hu
  have ul := u.toInt_lt
  have h1 : (u / nI 360).toInt = u.toInt / 360 := by rw [i32_div (by omega), t_n360, Int.tdiv_eq_ediv_of_nonneg hu0]
  have h2 : (u / nI 360 * nI 360).toInt = u.toInt / 360 * 360 := by rw [i32_mul (by rw [h1, t_n360]; omega) (by rw [h1, t_n360]; omega), h1, t_n360]
  have h3 : (u - u / nI 360 * nI 360).toInt = u.toInt - u.toInt / 360 * 360 := by rw [i32_sub (by rw [h2]; omega) (by rw [h2]; omega), h2]
  generalize u - u / nI 360 * nI 360 = v at h3 ⊢
  have h4 : (pl 7 + v).toInt = (pl 7).toInt + v.toInt := i32_add (by omega) (by omega)
  generalize pl 7 + v = w at h4 ⊢
  have h5 : (w / nI 360).toInt = w.toInt / 360 := by rw [i32_div (by omega), t_n360, Int.tdiv_eq_ediv_of_nonneg (by omega)]
  have h6 : (w / nI 360 * nI 360).toInt = w.toInt / 360 * 360 := by rw [i32_mul (by rw [h5, t_n360]; omega) (by rw [h5, t_n360]; omega), h5, t_n360]
  have h7 : (w - w / nI 360 * nI 360).toInt = w.toInt - w.toInt / 360 * 360 := by rw [i32_sub (by rw [h6]; omega) (by rw [h6]; omega), h6]
  have l0 : (360 : Int64).toInt = 360 := by decide
  have l1 : ((pl 7).toInt64 + u.toInt64).toInt = (pl 7).toInt + u.toInt := by rw [i64_add (by rw [i64_of_i32, i64_of_i32]; omega) (by rw [i64_of_i32, i64_of_i32]; omega), i64_of_i32, i64_of_i32]
  generalize (pl 7).toInt64 + u.toInt64 = x at l1 ⊢
  have l2 : (x / 360).toInt = x.toInt / 360 := by rw [i64_div (by omega), l0, Int.tdiv_eq_ediv_of_nonneg (by omega)]
  have l3 : (x / 360 * 360).toInt = x.toInt / 360 * 360 := by rw [i64_mul (by rw [l2, l0]; omega) (by rw [l2, l0]; omega), l2, l0]
  have l4 : (x - x / 360 * 360).toInt = x.toInt - x.toInt / 360 * 360 := by rw [i64_sub (by rw [l3]; omega) (by rw [l3]; omega), l3]
  have l5 : (x - x / 360 * 360).toInt32.toInt = x.toInt - x.toInt / 360 * 360 := by rw [i32_of_i64 (by rw [l4]; omega) (by rw [l4]; omega), l4]
  refine ⟨eq_t.mpr ?_, ?_⟩
  · rw [h7, l5]; omega
  · unfold vB; rw [h7]; omega
theorem cVis_e {lon t : Int32} (hp : pBP pl V) (hl : vB lon 0 359) (ht : 0 ≤ t.toInt) : cVis pl lon t = pSeen pl lon t := by
  obtain ⟨h1, h2⟩ := cSun_e hp ht
  unfold cVis pSeen
  rw [cAr_e hl h2, h1]
/-- the component's reason is the model's, of an open thing -/
theorem cRs_e {P O k : Nat} (hw : pWP pl P V O) (hp : pBP pl V) (hs : pBR s) (ht : pBT pl s k) (h0 : s (pStateAt k) = 0) : cRs pl s O k = pReason pl s k := by
  have hS := cStart_e (pl := pl) hs ht
  obtain ⟨⟨s1, s2⟩, -⟩ := cStart_b hp hs ht
  have hE := cEnd_t hp hs ht ht.2.2.1
  have hd := ht.2.2.1.1
  have v1 := cVis_e hp ht.1 (t := cStart pl s k) s1
  have v2 := cVis_e hp ht.1 (t := cStart pl s k + pDur pl s k) (by omega)
  unfold cRs cRsn pReason
  rw [v1, v2, hS, hw.hO, pN_nI (by have := hw.lO; omega), if_neg (show ¬ s (pStateAt k) ≠ 0 by rw [h0]; simp)]
  by_cases c1 : pl 3 < pGrows pl s k (pDur pl s k)
  · rw [if_pos c1, if_pos c1]; rfl
  · rw [if_neg c1, if_neg c1]
    by_cases c2 : pLeft s (pQ pl s k) < pDur pl s k
    · rw [if_pos c2, if_pos c2]; rfl
    · rw [if_neg c2, if_neg c2]
      cases c3 : pIn (pStartFor pl s k) (pFrom pl s k) (pTo pl s k) with
      | false => rw [if_neg (by decide), if_pos rfl]; rfl
      | true =>
        rw [if_pos rfl, if_neg (show ¬ (true = false) by decide)]
        by_cases c4 : pl 0 < pStartFor pl s k + pDur pl s k
        · rw [if_pos c4, if_pos c4]; rfl
        · rw [if_neg c4, if_neg c4]
          cases pSeen pl (pLon pl s k) (pStartFor pl s k) with
          | false => rfl
          | true =>
            cases pSeen pl (pLon pl s k) (pStartFor pl s k + pDur pl s k) with
            | false => rfl
            | true =>
              cases pOut pl (pStartFor pl s k) (pStartFor pl s k + pDur pl s k) O with
              | false => rfl
              | true => rfl
theorem pReason_st {k : Nat} (h : pReason pl s k = 0) : s (pStateAt k) = 0 := by
  by_cases e : s (pStateAt k) = 0
  · exact e
  · unfold pReason at h
    rw [if_pos e] at h
    exact absurd h (by decide)
/-- what can be begun begins in time, and what it leaves -/
theorem pReason_0 {k : Nat} (h : pReason pl s k = 0) : ¬ pl 3 < pGrows pl s k (pDur pl s k) ∧ ¬ pLeft s (pQ pl s k) < pDur pl s k ∧ pIn (pStartFor pl s k) (pFrom pl s k) (pTo pl s k) = true ∧ ¬ pl 0 < pStartFor pl s k + pDur pl s k := by
  have e := pReason_st h
  unfold pReason at h
  rw [if_neg (show ¬ s (pStateAt k) ≠ 0 by rw [e]; simp)] at h
  by_cases c1 : pl 3 < pGrows pl s k (pDur pl s k)
  · rw [if_pos c1] at h; exact absurd h (by decide)
  · rw [if_neg c1] at h
    by_cases c2 : pLeft s (pQ pl s k) < pDur pl s k
    · rw [if_pos c2] at h; exact absurd h (by decide)
    · rw [if_neg c2] at h
      cases c3 : pIn (pStartFor pl s k) (pFrom pl s k) (pTo pl s k) with
      | false => rw [if_pos c3] at h; exact absurd h (by decide)
      | true =>
        rw [if_neg (by rw [c3]; decide)] at h
        by_cases c4 : pl 0 < pStartFor pl s k + pDur pl s k
        · rw [if_pos c4] at h; exact absurd h (by decide)
        · exact ⟨c1, c2, rfl, c4⟩
end LAWA
