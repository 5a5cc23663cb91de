/-! the parser's states as wholes -/
/-- the next token, if there's no fault -/
def pNx (b : pR) (n : Nat) (κ : pK) : pK := if κ.2.2.2.2.1 = 0 then pTok b n κ.1 κ.2.2.2.1 κ.2.2.2.2.2 else κ
/-- a fault, if it's the first one -/
def pFl (κ : pK) (e : Nat) : pK := if κ.2.2.2.2.1 = 0 then (κ.1, κ.2.1, κ.2.2.1, κ.2.2.2.1, e, nI κ.2.2.1) else κ
def pOK (n : Nat) (κ : pK) : Prop := κ.1 ≤ n ∧ κ.2.2.1 ≤ κ.1 ∧ κ.2.2.2.2.1 < 8 ∧ κ.2.1 < 8
theorem pSkip_b (b : pR) (n : Nat) : ∀ f k, k ≤ pSkip b n f k ∧ pSkip b n f k ≤ k + f
  | 0, k => ⟨Nat.le_refl _, Nat.le_refl _⟩
  | f + 1, k => by
    unfold pSkip
    split
    · have := pSkip_b b n f (k + 1); omega
    · omega
theorem pRun_b (b : pR) (n : Nat) (lo hi : Int32) : ∀ f k, k ≤ pRun b n lo hi f k ∧ pRun b n lo hi f k ≤ k + f
  | 0, k => ⟨Nat.le_refl _, Nat.le_refl _⟩
  | f + 1, k => by
    unfold pRun
    split
    · have := pRun_b b n lo hi f (k + 1); omega
    · omega
theorem pTokA_ok {b : pR} {n s : Nat} {vl p : Int32} (hs : s ≤ n) : pOK n (pTokA b n s vl p) := by
  unfold pTokA
  have h1 := pRun_b b n (nI 97) (nI 122) (n - s) s
  have h2 := pRun_b b n (nI 48) (nI 57) (n - s) s
  split
  · exact ⟨hs, Nat.le_refl _, by simp, by simp⟩
  · split
    · exact ⟨by show pRun _ _ _ _ _ _ ≤ n; omega, h1.1, by simp, by dsimp only; split <;> omega⟩
    · split
      · exact ⟨by show pRun _ _ _ _ _ _ ≤ n; omega, h2.1, by simp, by dsimp only; split <;> omega⟩
      · exact ⟨by show s + 1 ≤ n; omega, by show s ≤ s + 1; omega, by simp, by dsimp only; split <;> omega⟩
theorem pNx_ok {b : pR} {n : Nat} {κ : pK} (h : pOK n κ) : pOK n (pNx b n κ) := by
  unfold pNx
  split
  · have := pSkip_b b n (n - κ.1) κ.1
    exact pTokA_ok (by have := h.1; omega)
  · exact h
theorem pFl_ok {n : Nat} {κ : pK} {e : Nat} (h : pOK n κ) (he : e < 8) : pOK n (pFl κ e) := by
  unfold pFl
  split
  · exact ⟨h.1, h.2.1, he, h.2.2.2⟩
  · exact h
section MDK
variable {Ω : ax_O} {h : ax_H} {m : Nat} {μ : md_S} {n : Nat}
theorem mt_nextToken (hA : ax_Amb Ω) (hm : Ω.2.1.heap.size ≤ m) (hend : μ.1 3 = nI n) (hn : n ≤ 1000) (κ : pK) (hκ : pOK n κ) : ax_Met Ω yX10_nextToken 2 0 0 [.ref m] (md_H h m (mK μ κ)) (.inl none) (md_H h m (mK μ (pNx (μ.2 1) n κ))) := by
  obtain ⟨nx, tk, st, vl, c, p⟩ := κ
  unfold pNx
  by_cases hc : c = 0
  · subst hc
    rw [if_pos rfl]
    exact mt_nextToken0 hA hm hend hn nx tk st vl p hκ.1
  · rw [if_neg hc]
    exact mt_nextToken1 hA hm nx tk st vl c p (by omega) (by have := hκ.2.2.1; dsimp only at this; omega)
theorem mt_faults (hA : ax_Amb Ω) (hm : Ω.2.1.heap.size ≤ m) (κ : pK) (hκ : pOK n κ) (e : Nat) : ax_Met Ω yX10_faults 1 0 0 [.ref m, .int (nI e)] (md_H h m (mK μ κ)) (.inl none) (md_H h m (mK μ (pFl κ e))) := by
  obtain ⟨nx, tk, st, vl, c, p⟩ := κ
  unfold pFl
  by_cases hc : c = 0
  · subst hc
    rw [if_pos rfl]
    exact mt_faults0 hA hm nx tk st vl p e
  · rw [if_neg hc]
    exact mt_faults1 hA hm nx tk st vl c p (by omega) (by have := hκ.2.2.1; dsimp only at this; omega) e
end MDK
/-- a sign v here -/
def pSg (κ : pK) (v : Int32) : Bool := if κ.2.2.2.2.1 = 0 then (if κ.2.1 = 4 then decide (κ.2.2.2.1 = v) else false) else false
def pLook (κ : pK) (lo hi : Int32) : pK × Int32 :=
  if κ.2.2.2.2.1 = 0 then (if κ.2.1 = 3 then (if pIn κ.2.2.2.1 lo hi = true then (κ, κ.2.2.2.1) else (pFl κ 2, lo)) else (pFl κ 1, lo)) else (κ, lo)
def pNum (b : pR) (n : Nat) (κ : pK) (lo hi : Int32) : pK × Int32 := (pNx b n (pLook κ lo hi).1, (pLook κ lo hi).2)
theorem pLook_ok {n : Nat} {κ : pK} {lo hi : Int32} (h : pOK n κ) : pOK n (pLook κ lo hi).1 := by
  unfold pLook
  split
  · split
    · split
      · exact h
      · exact pFl_ok h (by decide)
    · exact pFl_ok h (by decide)
  · exact h
def pLatK (b : pR) (n : Nat) (κ : pK) : pK × Int32 :=
  if pSg κ (nI 45) = true then ((pNum b n (pNx b n κ) (nI 0) (nI 90)).1, -(pNum b n (pNx b n κ) (nI 0) (nI 90)).2) else pNum b n κ (nI 0) (nI 90)
theorem pFl_c {κ : pK} {e : Nat} (h : κ.2.2.2.2.1 = 0) : (pFl κ e).2.2.2.2.1 = e := by unfold pFl; rw [if_pos h]
/-- a string at w, of the letters l: what its length() and charAt() answer under the model -/
def wStr (Ω : ax_O) (h : ax_H) (m w : Nat) (l : List Int32) : Prop := w < m ∧ l.length ≤ 20 ∧ (∃ fs, h.1 w = some (.inr (19, fs))) ∧ ∀ μ : md_S, ax_Met Ω yJ9_length 5 0 0 [.ref w] (md_H h m μ) (.inl (some (.int (nI l.length)))) (md_H h m μ) ∧ ∀ i, i < l.length → ax_Met Ω yJ9_charAt 8 0 0 [.ref w, .int (nI i)] (md_H h m μ) (.inl (some (.int (l.getD i 0)))) (md_H h m μ)
theorem md_lo {h : ax_H} {m w : Nat} {μ : md_S} (hw : w < m) : (md_H h m μ).1 w = h.1 w := by
  show (if w = m then _ else _) = _
  rw [if_neg (by omega), if_neg (by omega)]
/-- the bytes from s on are the letters l from i on, f of them -/
def pWd (b : pR) (s : Nat) (l : List Int32) : Nat → Nat → Bool
  | 0, _ => true
  | f + 1, i => if b (s + i) = l.getD i 0 then pWd b s l f (i + 1) else false
/-- the word l here -/
def pWord (b : pR) (κ : pK) (l : List Int32) : Bool := if κ.2.2.2.2.1 = 0 then (if κ.2.1 = 2 then (if κ.1 - κ.2.2.1 = l.length then pWd b κ.2.2.1 l l.length 0 else false) else false) else false
def pTakes (b : pR) (n : Nat) (κ : pK) (l : List Int32) : pK := if pWord b κ l = true then pNx b n κ else κ
def pKey (b : pR) (n : Nat) (κ : pK) (l : List Int32) : pK := if pWord b κ l = true then pNx b n κ else pFl κ 1
def pGauge (b : pR) (n : Nat) (κ : pK) (l : List Int32) (lo hi : Int32) : pK × Int32 := pNum b n (pKey b n κ l) lo hi
theorem pTakes_ok {b : pR} {n : Nat} {κ : pK} {l : List Int32} (h : pOK n κ) : pOK n (pTakes b n κ l) := by
  unfold pTakes; split
  · exact pNx_ok h
  · exact h
theorem pKey_ok {b : pR} {n : Nat} {κ : pK} {l : List Int32} (h : pOK n κ) : pOK n (pKey b n κ l) := by
  unfold pKey; split
  · exact pNx_ok h
  · exact pFl_ok h (by decide)
/-- a string's letters -/
def sL (s : String) : List Int32 := s.toList.map (fun c => nI c.toNat)
/-- the model's literals: place in its pool and text -/
def mLits : List (Nat × String) := [(119, "scope"), (121, "horizon"), (127, "settle"), (129, "speed"), (131, "cap"), (133, "dump"), (135, "cadence"), (137, "cal"), (139, "sun"), (141, "drift"), (143, "avoid"), (157, "proposal"), (162, "visit"), (167, "alert"), (172, "outage"), (407, "broken"), (409, "idle")]
/-- all of them are as they're told -/
def mLit (Ω : ax_O) (h : ax_H) (m : Nat) : Prop := ∀ q ∈ mLits, wStr Ω h m (Ω.2.2.2.1 "TelescopeQueueModel" q.1) (sL q.2)
theorem pGauge_ok {b : pR} {n : Nat} {κ : pK} {l : List Int32} {lo hi : Int32} (h : pOK n κ) : pOK n (pGauge b n κ l lo hi).1 := by
  unfold pGauge pNum
  exact pNx_ok (pLook_ok (pKey_ok h))
theorem mLm_119 : (119, "scope") ∈ mLits := List.Mem.head _
theorem mLm_121 : (121, "horizon") ∈ mLits := List.Mem.tail _ (List.Mem.head _)
theorem mLm_127 : (127, "settle") ∈ mLits := List.Mem.tail _ (List.Mem.tail _ (List.Mem.head _))
theorem mLm_129 : (129, "speed") ∈ mLits := List.Mem.tail _ (List.Mem.tail _ (List.Mem.tail _ (List.Mem.head _)))
theorem mLm_131 : (131, "cap") ∈ mLits := List.Mem.tail _ (List.Mem.tail _ (List.Mem.tail _ (List.Mem.tail _ (List.Mem.head _))))
theorem mLm_133 : (133, "dump") ∈ mLits := List.Mem.tail _ (List.Mem.tail _ (List.Mem.tail _ (List.Mem.tail _ (List.Mem.tail _ (List.Mem.head _)))))
theorem mLm_135 : (135, "cadence") ∈ mLits := List.Mem.tail _ (List.Mem.tail _ (List.Mem.tail _ (List.Mem.tail _ (List.Mem.tail _ (List.Mem.tail _ (List.Mem.head _))))))
theorem mLm_137 : (137, "cal") ∈ mLits := List.Mem.tail _ (List.Mem.tail _ (List.Mem.tail _ (List.Mem.tail _ (List.Mem.tail _ (List.Mem.tail _ (List.Mem.tail _ (List.Mem.head _)))))))
theorem mLm_139 : (139, "sun") ∈ mLits := List.Mem.tail _ (List.Mem.tail _ (List.Mem.tail _ (List.Mem.tail _ (List.Mem.tail _ (List.Mem.tail _ (List.Mem.tail _ (List.Mem.tail _ (List.Mem.head _))))))))
theorem mLm_141 : (141, "drift") ∈ mLits := List.Mem.tail _ (List.Mem.tail _ (List.Mem.tail _ (List.Mem.tail _ (List.Mem.tail _ (List.Mem.tail _ (List.Mem.tail _ (List.Mem.tail _ (List.Mem.tail _ (List.Mem.head _)))))))))
theorem mLm_143 : (143, "avoid") ∈ mLits := List.Mem.tail _ (List.Mem.tail _ (List.Mem.tail _ (List.Mem.tail _ (List.Mem.tail _ (List.Mem.tail _ (List.Mem.tail _ (List.Mem.tail _ (List.Mem.tail _ (List.Mem.tail _ (List.Mem.head _))))))))))
theorem mLm_157 : (157, "proposal") ∈ mLits := List.Mem.tail _ (List.Mem.tail _ (List.Mem.tail _ (List.Mem.tail _ (List.Mem.tail _ (List.Mem.tail _ (List.Mem.tail _ (List.Mem.tail _ (List.Mem.tail _ (List.Mem.tail _ (List.Mem.tail _ (List.Mem.head _)))))))))))
theorem mLm_162 : (162, "visit") ∈ mLits := List.Mem.tail _ (List.Mem.tail _ (List.Mem.tail _ (List.Mem.tail _ (List.Mem.tail _ (List.Mem.tail _ (List.Mem.tail _ (List.Mem.tail _ (List.Mem.tail _ (List.Mem.tail _ (List.Mem.tail _ (List.Mem.tail _ (List.Mem.head _))))))))))))
theorem mLm_167 : (167, "alert") ∈ mLits := List.Mem.tail _ (List.Mem.tail _ (List.Mem.tail _ (List.Mem.tail _ (List.Mem.tail _ (List.Mem.tail _ (List.Mem.tail _ (List.Mem.tail _ (List.Mem.tail _ (List.Mem.tail _ (List.Mem.tail _ (List.Mem.tail _ (List.Mem.tail _ (List.Mem.head _)))))))))))))
theorem mLm_172 : (172, "outage") ∈ mLits := List.Mem.tail _ (List.Mem.tail _ (List.Mem.tail _ (List.Mem.tail _ (List.Mem.tail _ (List.Mem.tail _ (List.Mem.tail _ (List.Mem.tail _ (List.Mem.tail _ (List.Mem.tail _ (List.Mem.tail _ (List.Mem.tail _ (List.Mem.tail _ (List.Mem.tail _ (List.Mem.head _))))))))))))))
theorem mLm_407 : (407, "broken") ∈ mLits := List.Mem.tail _ (List.Mem.tail _ (List.Mem.tail _ (List.Mem.tail _ (List.Mem.tail _ (List.Mem.tail _ (List.Mem.tail _ (List.Mem.tail _ (List.Mem.tail _ (List.Mem.tail _ (List.Mem.tail _ (List.Mem.tail _ (List.Mem.tail _ (List.Mem.tail _ (List.Mem.tail _ (List.Mem.head _)))))))))))))))
theorem mLm_409 : (409, "idle") ∈ mLits := List.Mem.tail _ (List.Mem.tail _ (List.Mem.tail _ (List.Mem.tail _ (List.Mem.tail _ (List.Mem.tail _ (List.Mem.tail _ (List.Mem.tail _ (List.Mem.tail _ (List.Mem.tail _ (List.Mem.tail _ (List.Mem.tail _ (List.Mem.tail _ (List.Mem.tail _ (List.Mem.tail _ (List.Mem.tail _ (List.Mem.head _))))))))))))))))
