/-! THE MODEL's parser: its fields next 4, token 7, start 8, value 9, parseCode 5, parsePlace 6 -/
abbrev pK : Type := Nat × Nat × Nat × Int32 × Nat × Int32
def mK (μ : md_S) (κ : pK) : md_S := (fun i => if i = 4 then nI κ.1 else if i = 7 then nI κ.2.1 else if i = 8 then nI κ.2.2.1 else if i = 9 then κ.2.2.2.1 else if i = 5 then nI κ.2.2.2.2.1 else if i = 6 then κ.2.2.2.2.2 else μ.1 i, μ.2)
theorem mK_4 (μ : md_S) (κ : pK) (e : Nat) : md_si (mK μ κ) 4 (nI e) = mK μ (e, κ.2) := by
  unfold md_si mK
  congr 1; funext i; simp only [upd]; by_cases h : i = 4 <;> simp [h]
theorem mK_7 (μ : md_S) (κ : pK) (e : Nat) : md_si (mK μ κ) 7 (nI e) = mK μ (κ.1, e, κ.2.2) := by
  unfold md_si mK
  congr 1; funext i; simp only [upd]; by_cases h : i = 7 <;> simp [h]
theorem mK_8 (μ : md_S) (κ : pK) (e : Nat) : md_si (mK μ κ) 8 (nI e) = mK μ (κ.1, κ.2.1, e, κ.2.2.2) := by
  unfold md_si mK
  congr 1; funext i; simp only [upd]; by_cases h : i = 8 <;> simp [h]
theorem mK_9 (μ : md_S) (κ : pK) (v : Int32) : md_si (mK μ κ) 9 v = mK μ (κ.1, κ.2.1, κ.2.2.1, v, κ.2.2.2.2) := by
  unfold md_si mK
  congr 1; funext i; simp only [upd]; by_cases h : i = 9 <;> simp [h]
theorem mK_5 (μ : md_S) (κ : pK) (e : Nat) : md_si (mK μ κ) 5 (nI e) = mK μ (κ.1, κ.2.1, κ.2.2.1, κ.2.2.2.1, e, κ.2.2.2.2.2) := by
  unfold md_si mK
  congr 1; funext i; simp only [upd]; by_cases h : i = 5 <;> simp [h]
theorem mK_6 (μ : md_S) (κ : pK) (v : Int32) : md_si (mK μ κ) 6 v = mK μ (κ.1, κ.2.1, κ.2.2.1, κ.2.2.2.1, κ.2.2.2.2.1, v) := by
  unfold md_si mK
  congr 1; funext i; simp only [upd]; by_cases h : i = 6 <;> simp [h]
/-- the byte at k of n; -1 behind them -/
def pAtB (b : pR) (n k : Nat) : Int32 := if k < n then b k else -1
/-- the first place from k on (f places are left) whose byte isn't in lo .. hi -/
def pRun (b : pR) (n : Nat) (lo hi : Int32) : Nat → Nat → Nat
  | 0, k => k
  | f + 1, k => if pIn (pAtB b n k) lo hi = true then pRun b n lo hi f (k + 1) else k
def pSkip (b : pR) (n : Nat) : Nat → Nat → Nat
  | 0, k => k
  | f + 1, k => if pAtB b n k = nI 32 then pSkip b n f (k + 1) else k
/-- a number's value: its first four digits -/
def pVal (b : pR) (n s : Nat) : Nat → Nat → Int32 → Int32
  | 0, _, v => v
  | f + 1, k, v => if pIn (pAtB b n k) (nI 48) (nI 57) = true then pVal b n s f (k + 1) (if k - s < 4 then nI 10 * v + pAtB b n k - nI 48 else v) else v
def pSign (v : Int32) : Bool := decide (v = nI 59) || decide (v = nI 45)
theorem nI_nl1 {lo : Nat} (h : lo < 2 ^ 31) : ¬ nI lo ≤ -1 := by
  intro h9
  have h8 := Int32.le_iff_toInt_le.mp h9
  rw [nI_toInt h] at h8
  have : ((-1 : Int32).toInt) = -1 := by decide
  omega
theorem pAtB_n {b : pR} {n : Nat} (lo hi : Nat) (hl : lo < 2 ^ 31) : pIn (pAtB b n n) (nI lo) (nI hi) = false := by
  unfold pAtB pIn
  rw [if_neg (Nat.lt_irrefl n), decide_eq_false (nI_nl1 hl)]; rfl
theorem pAtB_s {b : pR} {n : Nat} : ¬ pAtB b n n = nI 32 := by unfold pAtB; rw [if_neg (Nat.lt_irrefl n)]; decide
/-- the token that begins at s -/
def pTokA (b : pR) (n s : Nat) (vl p : Int32) : pK :=
  if s = n then (s, 1, s, vl, 0, p)
  else if pIn (pAtB b n s) (nI 97) (nI 122) = true then (pRun b n (nI 97) (nI 122) (n - s) s, if pRun b n (nI 97) (nI 122) (n - s) s - s ≤ 8 then 2 else 0, s, vl, 0, p)
  else if pIn (pAtB b n s) (nI 48) (nI 57) = true then (pRun b n (nI 48) (nI 57) (n - s) s, if pRun b n (nI 48) (nI 57) (n - s) s - s ≤ 4 then 3 else 0, s, pVal b n s (n - s) s (nI 0), 0, p)
  else (s + 1, if pSign (pAtB b n s) = true then 4 else 0, s, pAtB b n s, 0, p)
/-- the next token (without a fault so far) -/
def pTok (b : pR) (n nx : Nat) (vl p : Int32) : pK := pTokA b n (pSkip b n (n - nx) nx) vl p
theorem nz_eq {a : Nat} (h : nI a = 0) (ha : a < 2 ^ 31) : a = 0 := (nI_eq ha (by decide)).mp h
theorem nz_ne {a : Nat} (h : ¬ nI a = 0) : ¬ a = 0 := fun e => h (by rw [e]; rfl)
theorem nz_le {a : Nat} (h : nI a ≤ 0) (ha : a < 2 ^ 31) : a = 0 := by
  have := (nI_leI (b := 0) ha (by decide)).mp h; omega
theorem nz_gt {a : Nat} (h : 0 < nI a) : ¬ a = 0 := fun e => by subst e; exact absurd h (by decide)
theorem nz_nle {a : Nat} (h : ¬ nI a ≤ 0) : ¬ a = 0 := fun e => h (by rw [e]; decide)
theorem nz_ngt {a : Nat} (h : ¬ 0 < nI a) (ha : a < 2 ^ 31) : a = 0 := by
  by_cases e : a = 0
  · exact e
  · exact absurd (nI_lt (a := 0) (by omega) ha) h
theorem md_sac (μ : md_S) (j k : Nat) (f g : pR) (hjk : j ≠ k) : md_sa (md_sa μ j f) k g = md_sa (md_sa μ k g) j f := by
  unfold md_sa
  congr 1; funext i
  by_cases e : i = j
  · subst e; simp only [va_up, if_neg hjk, if_true]
  · by_cases e2 : i = k
    · subst e2; simp only [va_up, if_neg e, if_true]
    · simp only [va_up, if_neg e, if_neg e2]
