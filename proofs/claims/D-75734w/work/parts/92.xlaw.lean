/-! THE COMPONENT's TOKENS: what their strings tell -/
/-- the first n letters agree -/
def lEq (t s : Nat → Nat) : Nat → Bool
  | 0 => true
  | n + 1 => lEq t s n && decide (t n = s n)
theorem lEq_i {t s : Nat → Nat} : ∀ {n : Nat}, lEq t s n = true ↔ ∀ i, i < n → t i = s i
  | 0 => ⟨fun _ i hi => absurd hi (Nat.not_lt_zero i), fun _ => rfl⟩
  | n + 1 => by
    rw [lEq, Bool.and_eq_true, decide_eq_true_iff, lEq_i (n := n)]
    constructor
    · intro ⟨h1, h2⟩ i hi
      by_cases e : i = n
      · subst e; exact h2
      · exact h1 i (by omega)
    · intro h
      exact ⟨fun i hi => h i (by omega), h n (by omega)⟩
theorem sb_bi : ∀ c, c < 256 → ∀ d, d < 256 → sb_b c = sb_b d → c = d := by
  intro c hc d hd h
  have k : ∀ x, x < 256 → (sb_b x).toInt = if x < 128 then (x : Int) else (x : Int) - 256 := by decide +kernel
  have h1 := k c hc
  have h2 := k d hd
  rw [h, h2] at h1
  split at h1 <;> split at h1 <;> omega
theorem sEq_l {t s : Nat → Nat} {a b : Nat → Int32} : ∀ {n : Nat}, sb_Lat t n a → sb_Lat s n b → sEqB a b n = lEq t s n
  | 0, _, _ => rfl
  | n + 1, h1, h2 => by
    rw [sEqB, lEq, sEq_l (n := n) (fun j hj => h1 j (by omega)) (fun j hj => h2 j (by omega))]
    obtain ⟨a1, a2⟩ := h1 n (by omega)
    obtain ⟨b1, b2⟩ := h2 n (by omega)
    congr 1
    rw [a2, b2]
    exact decide_eq_decide.mpr ⟨fun z => sb_bi _ a1 _ b1 z, fun z => by rw [z]⟩
theorem sb_latM {t : Nat → Nat} {n m : Nat} {a : Nat → Int32} (h : sb_Lat t n a) (e : m = n) : sb_Lat t m a := by subst e; exact h
theorem ct_seqS {Ω : ax_O} (hA : ax_Amb Ω) {h : ax_H} {w1 w2 n1 n2 : Nat} {t s : Nat → Nat} (h1 : sStr h w1 n1 t) (h2 : sStr h w2 n2 s) (hn1 : n1 < 1000) (hn2 : n2 < 1000) : ax_Met Ω yJ9_equals 1 0 0 [.ref w1, .ref w2] h (.inl (some (.int (bI (decide (n1 = n2) && lEq t s n1))))) h := by
  obtain ⟨e1, hs1, hz1, a, a1, a2, a3, a4⟩ := h1
  obtain ⟨e2, hs2, hz2, b, b1, b2, b3, b4⟩ := h2
  have M := ct_sequals hA a1 b1 a2 b2 hn1 hn2
  by_cases e : n1 = n2
  · subst e
    rw [sEq_l a4 b4] at M
    exact M
  · rw [decide_eq_false e, Bool.false_and] at M ⊢
    exact M
theorem sStr.o {h : ax_H} {w n : Nat} {t : Nat → Nat} (z : sStr h w n t) : ∃ fs, h.1 w = some (.inr (19, fs)) := by
  obtain ⟨e, hs, hz, b, b1, -⟩ := z
  exact ⟨_, b1⟩
theorem ct_slenS {Ω : ax_O} (hA : ax_Amb Ω) {h : ax_H} {w n : Nat} {t : Nat → Nat} (h1 : sStr h w n t) (hn : n < 1000) : ax_Met Ω yJ9_length 1 0 0 [.ref w] h (.inl (some (.int (nI n)))) h := by
  obtain ⟨e1, hs1, hz1, a, a1, a2, a3, a4⟩ := h1
  exact ct_slen hA a1 a2 hn
theorem ct_semptyS {Ω : ax_O} (hA : ax_Amb Ω) {h : ax_H} {w n : Nat} {t : Nat → Nat} (h1 : sStr h w n t) (hn : n < 1000) : ax_Met Ω yJ9_isEmpty 1 0 0 [.ref w] h (.inl (some (.int (bI (decide (n = 0)))))) h := by
  obtain ⟨e1, hs1, hz1, a, a1, a2, a3, a4⟩ := h1
  exact ct_sempty hA a1 a2 hn
theorem ct_satS {Ω : ax_O} (hA : ax_Amb Ω) {h : ax_H} {w n : Nat} {t : Nat → Nat} (h1 : sStr h w n t) (hn : n < 1000) (i : Nat) (hi : i < n) : ax_Met Ω yJ9_charAt 4 0 0 [.ref w, .int (nI i)] h (.inl (some (.int (nI (t i))))) h := by
  obtain ⟨e1, hs1, hz1, a, a1, a2, a3, a4⟩ := h1
  exact ct_sat hA a1 a2 a4 hn i hi
/-- what a token is: a word of 1 to 8 letters, a sign, .. -/
def xLex (β : Nat → Nat) (κ : pK) : Prop := κ.2.1 ≤ 4 ∧ (κ.2.1 = 2 → 1 ≤ rLn κ ∧ rLn κ ≤ 8 ∧ ∀ i, i < rLn κ → 97 ≤ β (κ.2.2.1 + i) ∧ β (κ.2.2.1 + i) ≤ 122) ∧ (κ.2.1 = 4 → κ.2.2.2.1 = nI 59 ∨ κ.2.2.2.1 = nI 45)
theorem pRun_in {b : pR} {n : Nat} {lo hi : Int32} : ∀ {f k i : Nat}, k ≤ i → i < pRun b n lo hi f k → pIn (pAtB b n i) lo hi = true
  | 0, k, i, h1, h2 => by
    have h9 : i < k := h2
    omega
  | f + 1, k, i, h1, h2 => by
    unfold pRun at h2
    split at h2
    · rename_i e
      by_cases c : i = k
      · subst c; exact e
      · exact pRun_in (f := f) (k := k + 1) (by omega) h2
    · omega
theorem pTok_lex {b : pR} {β : Nat → Nat} (hβ : xBy b β) {n nx : Nat} {vl p : Int32} (hn : nx ≤ n) : xLex β (pTok b n nx vl p) := by
  unfold pTok
  have hs := pSkip_b b n (n - nx) nx
  generalize pSkip b n (n - nx) nx = s at hs
  unfold pTokA
  have r1 := pRun_b b n (nI 97) (nI 122) (n - s) s
  split
  · unfold xLex
    exact ⟨(show 1 ≤ 4 by decide), fun z => absurd z (show ¬ (1 = 2) by decide), fun z => absurd z (show ¬ (1 = 4) by decide)⟩
  · rename_i hne
    split
    · rename_i hw
      have hlt := xAt_in (by decide) hw
      have hgo : s + 1 ≤ pRun b n (nI 97) (nI 122) (n - s) s := by
        rw [show n - s = (n - s - 1) + 1 by omega, pRun, if_pos hw]
        exact (pRun_b b n (nI 97) (nI 122) (n - s - 1) (s + 1)).1
      refine ⟨?_, fun z => ?_, fun z => ?_⟩
      · dsimp only; split <;> decide
      · dsimp only at z
        split at z
        · rename_i h8
          refine ⟨by show 1 ≤ pRun b n (nI 97) (nI 122) (n - s) s - s; omega, h8, fun i hi => ?_⟩
          have hi' : i < pRun b n (nI 97) (nI 122) (n - s) s - s := hi
          exact xIn_v hβ (by decide) (by decide) (pRun_in (n := n) (f := n - s) (k := s) (i := s + i) (by omega) (by omega))
        · cases z
      · dsimp only at z
        split at z <;> cases z
    · split
      · refine ⟨?_, fun z => ?_, fun z => ?_⟩
        · dsimp only; split <;> decide
        · dsimp only at z
          split at z <;> cases z
        · dsimp only at z
          split at z <;> cases z
      · refine ⟨?_, fun z => ?_, fun z => ?_⟩
        · dsimp only; split <;> decide
        · dsimp only at z
          split at z <;> cases z
        · dsimp only at z ⊢
          split at z
          · rename_i hsg
            unfold pSign at hsg
            rw [Bool.or_eq_true, decide_eq_true_iff, decide_eq_true_iff] at hsg
            exact hsg
          · cases z
theorem xLen_l {β : Nat → Nat} {κ : pK} (h : xLex β κ) : xLen κ < 10 := by
  unfold xLen
  split
  · decide
  · split
    · rename_i e; have := (h.2.1 e).2.1; unfold rLn at this; omega
    · decide
theorem pWd_i {b : pR} {s : Nat} {l : List Int32} : ∀ {f i : Nat}, pWd b s l f i = true ↔ ∀ j, j < f → b (s + (i + j)) = l.getD (i + j) 0
  | 0, i => ⟨fun _ j hj => absurd hj (Nat.not_lt_zero j), fun _ => rfl⟩
  | f + 1, i => by
    unfold pWd
    by_cases e : b (s + i) = l.getD i 0
    · rw [if_pos e, pWd_i (f := f) (i := i + 1)]
      constructor
      · intro h j hj
        cases j with
        | zero => exact e
        | succ j => have := h j (by omega); rw [show i + 1 + j = i + (j + 1) by omega] at this; exact this
      · intro h j hj
        have := h (j + 1) (by omega)
        rw [show i + (j + 1) = i + 1 + j by omega] at this; exact this
    · rw [if_neg e]
      exact ⟨fun z => (by cases z), fun h => absurd (h 0 (by omega)) e⟩
/-- a word expected (not one letter) -/
theorem xEq_word {b : pR} {β : Nat → Nat} (hβ : xBy b β) {κ : pK} (hx : xLex β κ) (h0 : κ.2.2.2.2.1 = 0) {l : List Int32} {s : Nat → Nat} {m : Nat} (hm : l.length = m) (hm2 : 2 ≤ m) (hs : ∀ i, i < m → nI (s i) = l.getD i 0 ∧ s i < 256) :
    (decide (xLen κ = m) && lEq (xLet β κ) s (xLen κ)) = pWord b κ l := by
  unfold pWord
  rw [if_pos h0]
  by_cases e2 : κ.2.1 = 2
  · have exl : xLen κ = κ.1 - κ.2.2.1 := by unfold xLen; rw [if_neg (by omega), if_pos e2]
    rw [if_pos e2, exl, hm]
    by_cases e3 : κ.1 - κ.2.2.1 = m
    · rw [decide_eq_true e3, Bool.true_and, if_pos e3, e3]
      apply Bool.eq_iff_iff.mpr
      rw [lEq_i, pWd_i]
      constructor
      · intro h j hj
        have h1 := h j hj
        unfold xLet at h1
        rw [if_pos e2] at h1
        rw [Nat.zero_add, (hβ _).1, h1]; exact (hs j hj).1
      · intro h j hj
        have h1 := h j hj
        rw [Nat.zero_add, (hβ _).1, ← (hs j hj).1] at h1
        unfold xLet
        rw [if_pos e2]
        exact (nI_eq (by have := (hβ (κ.2.2.1 + j)).2; omega) (by have := (hs j hj).2; omega)).mp h1
    · rw [decide_eq_false e3, Bool.false_and, if_neg e3]
  · rw [if_neg e2]
    have h1 : ¬ xLen κ = m := by
      unfold xLen
      split
      · omega
      · first | (rw [if_neg e2]; omega) | omega
    rw [decide_eq_false h1, Bool.false_and]
/-- a sign expected -/
theorem xEq_sign {b : pR} {β : Nat → Nat} (hβ : xBy b β) {κ : pK} (hx : xLex β κ) (h0 : κ.2.2.2.2.1 = 0) {c m : Nat} {s : Nat → Nat} (hm : m = 1) (hs : s 0 = c) (hc : c = 59 ∨ c = 45) :
    (decide (xLen κ = m) && lEq (xLet β κ) s (xLen κ)) = pSg κ (nI c) := by
  subst hm
  obtain ⟨h4, h2, hv⟩ := hx
  unfold pSg
  rw [if_pos h0]
  by_cases e4 : κ.2.1 = 4
  · have exl : xLen κ = 1 := by unfold xLen; rw [if_neg (by omega), if_neg (by omega)]
    rw [if_pos e4, exl]
    apply Bool.eq_iff_iff.mpr
    rw [show (decide (1 = 1) : Bool) = true from rfl, Bool.true_and, lEq_i, decide_eq_true_iff]
    have hl : xLet β κ 0 = pN κ.2.2.2.1 := by unfold xLet; rw [if_neg (by omega), if_neg (by omega), if_pos e4]
    constructor
    · intro h
      have h1 := h 0 (by decide)
      rw [hl, hs] at h1
      rcases hv e4 with h9 | h9
      · rw [h9, pN_nI (by decide)] at h1; rw [h9, h1]
      · rw [h9, pN_nI (by decide)] at h1; rw [h9, h1]
    · intro h i hi
      rw [show i = 0 by omega, hl, h, hs]
      exact pN_nI (by omega)
  · rw [if_neg e4]
    by_cases e1 : xLen κ = 1
    · have hl : xLet β κ 0 ≠ c := by
        unfold xLet
        split
        · rename_i e2
          obtain ⟨a1, a2, a3⟩ := h2 e2
          have := a3 0 (by omega)
          omega
        · split
          · omega
          · first | (rw [if_neg e4]; split <;> omega) | (split <;> omega)
      apply Bool.eq_false_iff.mpr
      intro z
      rw [Bool.and_eq_true, lEq_i] at z
      exact hl ((z.2 0 (by omega)).trans hs)
    · rw [decide_eq_false e1, Bool.false_and]
/-- a number expected -/
theorem xEq_num {β : Nat → Nat} {κ : pK} (hx : xLex β κ) {m : Nat} {s : Nat → Nat} (hm : m = 1) (hs : s 0 = 35) : (decide (xLen κ = m) && lEq (xLet β κ) s (xLen κ)) = decide (κ.2.1 = 3) := by
  subst hm
  obtain ⟨h4, h2, hv⟩ := hx
  by_cases e3 : κ.2.1 = 3
  · have exl : xLen κ = 1 := by unfold xLen; rw [if_neg (by omega), if_neg (by omega)]
    rw [decide_eq_true e3, exl]
    apply Bool.eq_iff_iff.mpr
    rw [show (decide (1 = 1) : Bool) = true from rfl, Bool.true_and, lEq_i]
    refine ⟨fun _ => rfl, fun _ i hi => ?_⟩
    rw [show i = 0 by omega, hs]
    unfold xLet
    rw [if_neg (by omega), if_pos e3]
  · rw [decide_eq_false e3]
    by_cases e1 : xLen κ = 1
    · have hl : xLet β κ 0 ≠ 35 := by
        unfold xLet
        split
        · rename_i e2
          obtain ⟨a1, a2, a3⟩ := h2 e2
          have := a3 0 (by omega)
          omega
        · try rw [if_neg e3]
          split
          · rename_i e4
            rcases hv e4 with h9 | h9
            · rw [h9, pN_nI (by decide)]; decide
            · rw [h9, pN_nI (by decide)]; decide
          · split <;> decide
      apply Bool.eq_false_iff.mpr
      intro z
      rw [Bool.and_eq_true, lEq_i] at z
      exact hl ((z.2 0 (by omega)).trans hs)
    · rw [decide_eq_false e1, Bool.false_and]
theorem xEq_end {β : Nat → Nat} {κ : pK} (hx : xLex β κ) : decide (xLen κ = 0) = decide (κ.2.1 = 1) := by
  apply decide_eq_decide.mpr
  unfold xLen
  constructor
  · intro h
    split at h
    · assumption
    · split at h
      · rename_i e2
        have := (hx.2.1 e2).1
        unfold rLn at this; omega
      · cases h
  · intro h; rw [if_pos h]
/-- a token that isn't the end begins with a letter just if it's a word -/
theorem xEq_first {β : Nat → Nat} {κ : pK} (hx : xLex β κ) (h1 : ¬ κ.2.1 = 1) : pIn (nI (xLet β κ 0)) (nI 97) (nI 122) = decide (κ.2.1 = 2) := by
  obtain ⟨h4, h2, hv⟩ := hx
  by_cases e2 : κ.2.1 = 2
  · obtain ⟨a1, a2, a3⟩ := h2 e2
    obtain ⟨b1, b2⟩ := a3 0 (by omega)
    rw [decide_eq_true e2]
    unfold xLet pIn
    rw [if_pos e2, decide_eq_true ((nI_leI (by decide) (by omega)).mpr b1), decide_eq_true ((nI_leI (by omega) (by decide)).mpr b2)]; rfl
  · rw [decide_eq_false e2]
    have hl : xLet β κ 0 < 97 := by
      unfold xLet
      rw [if_neg e2]
      split
      · decide
      · split
        · rename_i e4
          rcases hv e4 with h9 | h9
          · rw [h9, pN_nI (by decide)]; decide
          · rw [h9, pN_nI (by decide)]; decide
        · first | decide | (split <;> decide)
    unfold pIn
    rw [decide_eq_false (fun z => by have := (nI_leI (by decide) (by omega)).mp z; omega), Bool.false_and]
