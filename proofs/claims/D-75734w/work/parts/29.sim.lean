/-! HEAPS THAT SAY LESS -/
def ax_ev (e e' : ax_E) : Prop := e = e' ∨ ∃ (ty : FieldType) (n : Nat) (f g : Nat → Int32), e = .inl (ty, n, .inl f) ∧ e' = .inl (ty, n, .inl g) ∧ ∀ j, j < n → f j = g j
/-- h says all that h' says -/
def ax_le (h h' : ax_H) : Prop := h.2 = h'.2 ∧ ∀ q e', h'.1 q = some e' → ∃ e, h.1 q = some e ∧ ax_ev e e'
theorem ax_le_rfl (h : ax_H) : ax_le h h := ⟨rfl, fun _ e h => ⟨e, h, Or.inl rfl⟩⟩
theorem ax_R_le {Ω : ax_O} {h h' : ax_H} {H : Heap} (hl : ax_le h h') (hR : ax_R Ω h H) : ax_R Ω h' H := by
  refine ⟨hR.1.trans hl.1, hl.1 ▸ hR.2.1, hR.2.2.1, fun q e' he => ?_⟩
  obtain ⟨e, h1, h2⟩ := hl.2 q e' he
  have h3 := hR.2.2.2 q e h1
  rcases h2 with rfl | ⟨ty, n, f, g, rfl, rfl, hfg⟩
  · exact h3
  · obtain ⟨cell, c1, c2, c3, c4, c5, c6, c7⟩ := h3
    refine ⟨cell, c1, c2, c3, c4, c5, fun j hj => ?_, fun hb => ?_⟩
    · rw [c6 j hj]; show some (Value.int (f j)) = some (Value.int (g j)); rw [hfg j hj]
    · obtain ⟨d1, cA, d2⟩ := c7 hb
      refine ⟨d1, cA, ?_⟩
      rw [d2]
      show arrV cA n (fun j => Value.int (f j)) = arrV cA n (fun j => Value.int (g j))
      unfold arrV
      congr 1
      apply Array.ext
      · simp
      · intro i h1 h2
        simp only [Array.getElem_ofFn]
        rw [hfg i (by simpa using h1)]
theorem ax_W_le {Ω : ax_O} {Γ : ax_F} {kb nb pc : Nat} {h h' : ax_H} {ls : List (Option Value)} {st : List Value} (hl : ax_le h h') (kk : ax_W Ω Γ kb nb h' pc ls st) : ax_W Ω Γ kb nb h pc ls st :=
  fun H locs cells slots L hR hll hL hn g1 g2 => kk H locs cells slots L (ax_R_le hl hR) hll hL hn g1 g2
theorem md_le {h : ax_H} {m : Nat} {μ : md_S} {j : Nat} {f g : Nat → Int32} (h1 : 1 ≤ j) (h2 : j ≤ 10) (hfg : ∀ i, i < md_len j → f i = g i) : ax_le (md_H h m (md_sa μ j f)) (md_H h m (md_sa μ j g)) := by
  refine ⟨rfl, fun q e' he => ?_⟩
  unfold md_H md_sa at he ⊢
  dsimp only at he ⊢
  by_cases e : q = m
  · rw [if_pos e] at he; rw [if_pos e]; exact ⟨_, he, Or.inl rfl⟩
  · rw [if_neg e] at he; rw [if_neg e]
    by_cases e1 : m < q ∧ q ≤ m + 10
    · rw [if_pos e1] at he; rw [if_pos e1]
      refine ⟨_, rfl, ?_⟩
      have he := Option.some.inj he
      subst he
      by_cases e2 : q - m = j
      · rw [e2]
        refine Or.inr ⟨_, _, f, g, by rw [va_up_self], by rw [va_up_self], hfg⟩
      · left; rw [va_up_ne _ _ e2, va_up_ne _ _ e2]
    · rw [if_neg e1] at he; rw [if_neg e1]; exact ⟨_, he, Or.inl rfl⟩
/-- a row put into another one from q on, n of it -/
def pPut (g f : pR) (q n : Nat) : pR := fun i => if q ≤ i ∧ i < q + n then f (i - q) else g i
theorem pPut_0 (g f : pR) (q : Nat) : pPut g f q 0 = g := by funext i; unfold pPut; rw [if_neg (by omega)]
theorem pPut_s (g f : pR) (q n : Nat) : upd (pPut g f q n) (q + n) (f n) = pPut g f q (n + 1) := by
  funext i; unfold pPut upd
  by_cases e : i = q + n
  · subst e; rw [if_pos rfl, if_pos (by omega)]; congr 1; omega
  · rw [if_neg e]
    show (if q ≤ i ∧ i < q + n then f (i - q) else g i) = _
    by_cases e1 : q ≤ i ∧ i < q + n
    · rw [if_pos e1, if_pos (by omega)]
    · rw [if_neg e1, if_neg (by omega)]
theorem pPut_in {g f : pR} {q n i : Nat} (hi : i < n) : pPut g f q n (q + i) = f i := by unfold pPut; rw [if_pos (by omega)]; congr 1; omega
theorem pPut_out {g f : pR} {q n i : Nat} (hi : i < q ∨ q + n ≤ i) : pPut g f q n i = g i := by unfold pPut; rw [if_neg (by omega)]
theorem pPut_all {g f : pR} {n i : Nat} (hi : i < n) : pPut g (fun k => f (0 + k)) 0 n i = f i := by unfold pPut; rw [if_pos ⟨Nat.zero_le _, by omega⟩]; simp
/-- the history one row down, as far as n -/
def pSh (f : pR) (n : Nat) : pR := fun i => if i < n then f (i + 627) else f i
theorem pSh_0 (f : pR) : pSh f 0 = f := by funext i; unfold pSh; rw [if_neg (by omega)]
theorem pSh_s (f : pR) (n : Nat) : upd (pSh f n) n (f (n + 627)) = pSh f (n + 1) := by
  funext i; unfold pSh upd
  by_cases e : i = n
  · subst e; rw [if_pos rfl, if_pos (by omega)]
  · rw [if_neg e]
    show (if i < n then f (i + 627) else f i) = _
    by_cases e1 : i < n
    · rw [if_pos e1, if_pos (by omega)]
    · rw [if_neg e1, if_neg (by omega)]
theorem pSh_r (f : pR) (n : Nat) : pSh f n (627 + n) = f (n + 627) := by unfold pSh; rw [if_neg (by omega), Nat.add_comm]
abbrev mOwn (μ : md_S) : pT := (μ.1 20, μ.1 21, μ.1 22)
section MDR
variable {Ω : ax_O} {h : ax_H} {m : Nat} {μ : md_S} {j : Nat} {P V O A : Nat}
theorem mt_stepsManyR (hA : ax_Amb Ω) (hm : Ω.2.1.heap.size ≤ m) (hj : j = 4 ∨ j = 6) (hp : pWP (μ.2 2) P V O) (hs : pWS (μ.2 j) A) (N : Nat) (hN : N ≤ 4000) : ax_Met Ω yX10_stepsMany 11 0 0 [.ref m, .ref (m + j), .int (nI N)] (md_H h m μ) (.inl (some (.int (nI (pMany (μ.2 2) V A N (μ.2 j)).2)))) (md_H h m (md_sa (mAs μ (pManyT (μ.2 2) V A N (μ.2 j) (mOwn μ))) j (pMany (μ.2 2) V A N (μ.2 j)).1)) := by
  have M := mt_stepsMany hA (h := h) (m := m) (μ := μ) (t := mOwn μ) (s := μ.2 j) hm hj hp hs N hN
  rw [mAs_self, md_same] at M
  exact M
theorem mt_stepsR (hA : ax_Amb Ω) (hm : Ω.2.1.heap.size ≤ m) (hj : j = 4 ∨ j = 6) (hp : pWP (μ.2 2) P V O) (hs : pWS (μ.2 j) A) : ax_Met Ω yX10_steps 10 0 0 [.ref m, .ref (m + j)] (md_H h m μ) (.inl (some (.int (pStep (μ.2 2) (μ.2 j) V A).2))) (md_H h m (md_sa (mAs μ (pStT (μ.2 2) (μ.2 j) V A (mOwn μ))) j (pStep (μ.2 2) (μ.2 j) V A).1)) := by
  have M := mt_steps hA (h := h) (m := m) (μ := μ) (t := mOwn μ) (s := μ.2 j) hm hj hp hs
  rw [mAs_self, md_same] at M
  exact M
theorem mt_breakingR (hA : ax_Amb Ω) (hm : Ω.2.1.heap.size ≤ m) (hj : j = 4 ∨ j = 6) (hp : pWP (μ.2 2) P V O) (hs : pWS (μ.2 j) A) (v : Nat) (hv : v < 20) : ax_Met Ω yX10_breaking 8 0 0 [.ref m, .ref (m + j), .int (nI v)] (md_H h m μ) (.inl (some (.int (oI (pBr (μ.2 2) (μ.2 j) v A))))) (md_H h m (mAs μ (pBrT (μ.2 2) (μ.2 j) v (mOwn μ) A))) := by
  have M := mt_breaking hA (h := h) (m := m) (μ := μ) (t := mOwn μ) (s := μ.2 j) hm hj hp hs v hv
  rw [show md_sa (mAs μ (pBrT (μ.2 2) (μ.2 j) v (mOwn μ) A)) j (μ.2 j) = mAs μ (pBrT (μ.2 2) (μ.2 j) v (mOwn μ) A) from md_same (mAs μ (pBrT (μ.2 2) (μ.2 j) v (mOwn μ) A)) j, mAs_self, md_same] at M
  exact M
end MDR
theorem md_sii (μ : md_S) (k : Nat) (v w : Int32) : md_si (md_si μ k v) k w = md_si μ k w := by
  unfold md_si
  congr 1; funext i; simp only [upd]; by_cases e : i = k <;> simp [e]
/-- the history with the row f kept, when u are kept -/
def pRem (g f : pR) (u : Nat) : pR := if u = 8 then pPut (pSh g 4389) f 4389 627 else pPut g f (627 * u) 627
def pU (u : Nat) : Nat := if u = 8 then 8 else u + 1
def pEndRow (s : pR) (p c : Int32) : pR := upd (upd s 5 p) 15 c
/-- a trial to the end by a policy and a cadence -/
def pEnd (pl s : pR) (V A : Nat) (p c : Int32) : pR := (pMany pl V A 4000 (pEndRow s p c)).1
def mEnd (μ : md_S) (V A : Nat) (p c : Int32) : md_S := md_sa (mAs (md_sa μ 6 (pEndRow (μ.2 4) p c)) (pManyT (μ.2 2) V A 4000 (pEndRow (μ.2 4) p c) (mOwn μ))) 6 (pEnd (μ.2 2) (μ.2 4) V A p c)
/-- the best of n policies and what it uses -/
def pBest (u : Nat → Int32) : Nat → Int32 × Int32
  | 0 => (nI 0, -1)
  | n + 1 => if u n ≤ (pBest u n).2 then pBest u n else (nI n, u n)
def pDoneN (s : pR) : Nat → Int32
  | 0 => nI 0
  | n + 1 => pDoneN s n + (if s (47 + n) = nI 1 then nI 1 else nI 0)
def pQueued (pl s : pR) (p : Nat) : Nat → Int32
  | 0 => nI 0
  | n + 1 => pQueued pl s p n + (if s (47 + n) = 0 then (if pProp pl s n = nI p then nI 1 else nI 0) else nI 0)
def pWait (s : pR) : Nat → Int32
  | 0 => nI 0
  | n + 1 => pWait s n ||| (if s (127 + 10 * n + 7) = 0 then (if s (127 + 10 * n + 1) ≤ s 0 then nI 1 <<< (nI n &&& 31) else nI 0) else nI 0)
/-- the first of n minutes from t on at which the longitude is seen -/
def pNext (pl : pR) (lon : Int32) : Nat → Nat → Int32
  | 0, _ => -1
  | n + 1, t => if pSeen pl lon (nI t) = true then nI t else pNext pl lon n (t + 1)
/-- the latest of the minutes t .. t + n - 1 at which visit k can begin -/
def pLate (pl s : pR) (k t : Nat) : Nat → Int32
  | 0 => -1
  | n + 1 => if pReason pl (upd s 0 (nI (t + n))) k = 0 then nI (t + n) else pLate pl s k t n
def pLonS (s : pR) (kd : Int32) (k : Nat) (b : Option Nat × Int32) : Option Nat × Int32 :=
  if s (227 + 4 * k) = kd then (match b.1 with | none => (some k, s (227 + 4 * k + 3) - s (227 + 4 * k + 2)) | some o => if b.2 < s (227 + 4 * k + 3) - s (227 + 4 * k + 2) then (some k, s (227 + 4 * k + 3) - s (227 + 4 * k + 2)) else (some o, b.2)) else b
/-- the longest entry of a kind, among n -/
def pLong (s : pR) (kd : Int32) : Nat → Option Nat × Int32
  | 0 => (none, nI 0)
  | n + 1 => pLonS s kd n (pLong s kd n)
/-- a row with an alert more (its number A; the count stays) -/
def pAlertRow (s : pR) (A k : Nat) (lon lat du pu re : Int32) : pR :=
  upd (upd (upd (upd (upd (upd (upd (upd (upd s (127 + 10 * A + 0) (nI k)) (127 + 10 * A + 1) (upd s (127 + 10 * A + 0) (nI k) 0)) (127 + 10 * A + 2) lon) (127 + 10 * A + 3) lat) (127 + 10 * A + 4) du) (127 + 10 * A + 5) pu) (127 + 10 * A + 6) re) (127 + 10 * A + 7) (nI 0)) (127 + 10 * A + 8) (-1)
theorem pLong_l {s : pR} {kd : Int32} : ∀ {n o : Nat} {x : Int32}, pLong s kd n = (some o, x) → o < n
  | 0, o, x, h => by cases h
  | n + 1, o, x, h => by
    have h9 := h
    unfold pLong pLonS at h9
    split at h9
    · split at h9
      · cases h9; omega
      · rename_i a e
        have e2 : pLong s kd n = (some a, (pLong s kd n).2) := by rw [← e]
        have := pLong_l e2
        split at h9 <;> (cases h9; omega)
    · have := pLong_l h9; omega
def pByte (v : Int32) (k : Nat) : Int32 := (v >>> (nI k &&& 31)) &&& nI 255
def pFour (b : pR) (B : Nat) (v : Int32) : pR := upd (upd (upd (upd b B (pByte v 24)) (B + 1) (pByte v 16)) (B + 1 + 1) (pByte v 8)) (B + 1 + 1 + 1) (pByte v 0)
theorem pu_uu (f : pR) (i : Nat) (v w : Int32) : upd (upd f i v) i w = upd f i w := by
  funext k; simp only [upd]; by_cases e : k = i <;> simp [e]
/-- the last begin that was tried -/
def pLateB (pl s : pR) (k t : Nat) : Nat → Int32
  | 0 => nI t - nI 1
  | n + 1 => if pReason pl (upd s 0 (nI (t + n))) k = 0 then nI (t + n) else pLateB pl s k t n
theorem lt_pred {T : Nat} (h : T < 2 ^ 31) : nI T - nI 1 < nI T := by
  cases T with
  | zero => decide
  | succ n => rw [show nI (n + 1) - nI 1 = nI n from nI_pred n]; exact nI_lt (by omega) h
