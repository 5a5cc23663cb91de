/-! FLOATS: quotients of small whole numbers -/
def fChk (n : Nat) : Bool := match FP.Core.decode FP.Core.b32 (FP.i2f (nI n)).toNat with
  | .fin false c q => decide ((n = 0 ∧ c = 0) ∨ (0 < n ∧ 0 < c ∧ c < 2 ^ 24 ∧ -24 ≤ q ∧ q ≤ 0))
  | _ => false
theorem fChk_all : (List.range 10000).all fChk = true := by decide +kernel
theorem fChk_at {n : Nat} (h : n < 10000) : ∃ c q, FP.Core.decode FP.Core.b32 (FP.i2f (nI n)).toNat = .fin false c q ∧ ((n = 0 ∧ c = 0) ∨ (0 < n ∧ 0 < c ∧ c < 2 ^ 24 ∧ -24 ≤ q ∧ q ≤ 0)) := by
  have h1 := List.all_eq_true.mp fChk_all n (List.mem_range.mpr h)
  unfold fChk at h1
  split at h1
  · rename_i c q e
    exact ⟨c, q, e, of_decide_eq_true h1⟩
  · cases h1
/-- what rounding gives is no NaN, and it fits -/
theorem fr_fin {s : Bool} {num den : Nat} {e : Int} : (FP.Core.roundRatio FP.Core.b32 s num den e = .inf s) ∨ ∃ c q, FP.Core.roundRatio FP.Core.b32 s num den e = .fin s c q ∧ c < 2 ^ 24 ∧ -149 ≤ q ∧ q ≤ 104 := by
  have e1 : FP.Core.b32.qmin = -149 := by decide
  have e2 : ((FP.Core.b32.p : Nat) : Int) = 24 := rfl
  have e3 : FP.Core.b32.qmax = 104 := by decide
  have e4 : FP.Core.b32.tails = 2 ^ 23 := by decide
  unfold FP.Core.roundRatio
  by_cases h0 : num = 0
  · rw [if_pos h0]; exact Or.inr ⟨_, _, rfl, by decide, by decide, by decide⟩
  · rw [if_neg h0]
    have hq : -149 ≤ FP.Core.quantum FP.Core.b32 num den e := by
      unfold FP.Core.quantum
      rw [e1]
      omega
    unfold FP.Core.roundAt FP.Core.settle FP.Core.bound
    rw [e3]
    split
    · rename_i hc
      split
      · exact Or.inr ⟨_, _, rfl, hc, hq, by assumption⟩
      · exact Or.inl rfl
    · split
      · exact Or.inr ⟨_, _, rfl, by rw [e4]; decide, by omega, by assumption⟩
      · exact Or.inl rfl
theorem fq_fin {num den : Nat} {e : Int} (h1 : num < 2 ^ 24) (he : e ≤ 24) : ∃ c q, FP.Core.roundRatio FP.Core.b32 false num den e = .fin false c q ∧ c < 2 ^ 24 ∧ -149 ≤ q ∧ q ≤ 104 := by
  rcases fr_fin (s := false) (num := num) (den := den) (e := e) with h | h
  · exfalso
    unfold FP.Core.roundRatio at h
    by_cases h0 : num = 0
    · rw [if_pos h0] at h; cases h
    · rw [if_neg h0] at h
      have hl : num.log2 < 24 := (Nat.log2_lt h0).mpr h1
      have hL : FP.Core.leading num den ≤ 23 := by
        unfold FP.Core.leading
        dsimp only
        split <;> omega
      have hq : FP.Core.quantum FP.Core.b32 num den e ≤ 30 := by
        unfold FP.Core.quantum
        have e1 : FP.Core.b32.qmin = -149 := by decide
        have e2 : ((FP.Core.b32.p : Nat) : Int) = 24 := rfl
        rw [e1, e2]
        omega
      have e3 : FP.Core.b32.qmax = 104 := by decide
      unfold FP.Core.roundAt FP.Core.settle FP.Core.bound at h
      rw [e3] at h
      split at h
      · rw [if_pos (by omega)] at h; cases h
      · rw [if_pos (by omega)] at h; cases h
  · exact h
theorem fe_fin {s : Bool} {c : Nat} {q : Int} (hc : c < 2 ^ 24) (h1 : -149 ≤ q) (h2 : q ≤ 104) : ∃ M, M < 0x7f800000 ∧ FP.Core.encode FP.Core.b32 (.fin s c q) = s.toNat * 2 ^ 31 + M := by
  have e4 : FP.Core.b32.tails = 2 ^ 23 := by decide
  have e5 : FP.Core.b32.exps = 2 ^ 8 := by decide
  have e1 : FP.Core.b32.qmin = -149 := by decide
  show ∃ M, _ ∧ (if c < FP.Core.b32.tails then FP.Core.assemble FP.Core.b32 s 0 c else FP.Core.assemble FP.Core.b32 s ((q - FP.Core.b32.qmin).toNat + 1) (c - FP.Core.b32.tails)) = _
  unfold FP.Core.assemble
  rw [e4, e5, e1]
  split
  · exact ⟨c, by omega, by omega⟩
  · exact ⟨((q - -149).toNat + 1) * 2 ^ 23 + (c - 2 ^ 23), by omega, by omega⟩
/-- the bits of a number that isn't below 0 and is finite -/
def fPos (r : UInt32) : Prop := r.toNat < 0x7f800000
theorem fPos_dec {r : UInt32} (h : fPos r) : ∃ c q, FP.Core.decode FP.Core.b32 r.toNat = .fin false c q ∧ c < 2 ^ 24 ∧ -149 ≤ q ∧ q ≤ 104 := by
  have e4 : FP.Core.b32.tails = 2 ^ 23 := by decide
  have e5 : FP.Core.b32.exps = 2 ^ 8 := by decide
  have e1 : FP.Core.b32.qmin = -149 := by decide
  have hr : r.toNat < 0x7f800000 := h
  have hS : FP.Core.fieldS FP.Core.b32 r.toNat = false := by
    unfold FP.Core.fieldS
    rw [e4, e5, show r.toNat / 2 ^ 23 / 2 ^ 8 % 2 = 0 from by omega]
    rfl
  unfold FP.Core.decode
  rw [hS]
  unfold FP.Core.fieldE FP.Core.fieldT
  rw [e4, e5, e1]
  rw [if_neg (by omega)]
  split
  · exact ⟨_, _, rfl, by omega, by omega, by omega⟩
  · exact ⟨_, _, rfl, by omega, by omega, by omega⟩
theorem fPos_div {u g : Nat} (hu : u < 10000) (hg : g < 10000) (h0 : 0 < g) : fPos (FP.fdiv (FP.i2f (nI u)) (FP.i2f (nI g))) := by
  obtain ⟨c, q, e, hc⟩ := fChk_at hu
  obtain ⟨d, r, e2, hd⟩ := fChk_at hg
  have hd0 : ¬ d = 0 := by omega
  have hcq : c < 2 ^ 24 ∧ (q - r ≤ 24 ∨ c = 0) := by omega
  have q1 : (FP.fdiv (FP.i2f (nI u)) (FP.i2f (nI g))) = UInt32.ofNat (FP.Core.encode FP.Core.b32 (FP.Core.roundRatio FP.Core.b32 false c d (q - r))) := by
    show UInt32.ofNat (FP.Core.encode FP.Core.b32 (FP.Core.quotient FP.Core.b32 (FP.Core.decode FP.Core.b32 (FP.i2f (nI u)).toNat) (FP.Core.decode FP.Core.b32 (FP.i2f (nI g)).toNat))) = _
    rw [e, e2]
    congr 2
    show (if d = 0 then _ else _) = _
    rw [if_neg hd0]; rfl
  have q2 : ∃ c' q', FP.Core.roundRatio FP.Core.b32 false c d (q - r) = .fin false c' q' ∧ c' < 2 ^ 24 ∧ -149 ≤ q' ∧ q' ≤ 104 := by
    rcases hcq.2 with h | h
    · exact fq_fin hcq.1 h
    · subst h
      exact ⟨0, FP.Core.b32.qmin, by unfold FP.Core.roundRatio; rw [if_pos rfl], by decide, by decide, by decide⟩
  obtain ⟨c', q', k1, k2, k3, k4⟩ := q2
  obtain ⟨M, m1, m2⟩ := fe_fin (s := false) k2 k3 k4
  unfold fPos
  rw [q1, k1, m2, UInt32.toNat_ofNat']
  have : (false.toNat * 2 ^ 31 + M) % 2 ^ 32 = M := by
    show (0 * 2 ^ 31 + M) % 2 ^ 32 = M
    omega
  rw [this]; exact m1
theorem fPos_0 : fPos FP.fconst0 := show FP.fconst0.toNat < 0x7f800000 by decide
