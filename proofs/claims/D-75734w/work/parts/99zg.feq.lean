/-! FLOATS: equal ones are the same; both spreads -/
theorem fDec {r : UInt32} (h : fPos r) : (r.toNat < 2 ^ 23 ∧ FP.Core.decode FP.Core.b32 r.toNat = .fin false r.toNat (-149)) ∨ (2 ^ 23 ≤ r.toNat ∧ FP.Core.decode FP.Core.b32 r.toNat = .fin false (2 ^ 23 + r.toNat % 2 ^ 23) (-149 + (((r.toNat / 2 ^ 23 : Nat) : Int) - 1))) := by
  have e4 : FP.Core.b32.tails = 2 ^ 23 := by decide
  have e5 : FP.Core.b32.exps = 2 ^ 8 := by decide
  have e1 : FP.Core.b32.qmin = -149 := by decide
  have hr : r.toNat < 0x7f800000 := h
  have hS : FP.Core.fieldS FP.Core.b32 r.toNat = false := by
    unfold FP.Core.fieldS
    rw [e4, e5, show r.toNat / 2 ^ 23 / 2 ^ 8 % 2 = 0 from by omega]
    rfl
  unfold FP.Core.decode
  rw [hS]
  unfold FP.Core.fieldE FP.Core.fieldT
  rw [e4, e5, e1]
  rw [if_neg (by omega)]
  by_cases c : r.toNat < 2 ^ 23
  · rw [if_pos (by omega)]
    exact Or.inl ⟨c, by rw [Nat.mod_eq_of_lt c]⟩
  · rw [if_neg (by omega)]
    exact Or.inr ⟨by omega, by rw [show r.toNat / 2 ^ 23 % 2 ^ 8 = r.toNat / 2 ^ 23 from by omega]⟩
theorem cmp_eq {x y : Int} (h : compare x y = .eq) : x = y := by
  unfold compare instOrdInt at h
  replace h : (if x < y then Ordering.lt else if x = y then .eq else .gt) = .eq := h
  split at h
  · cases h
  · split at h
    · rename_i e; exact e
    · cases h
theorem two_k {c d k : Nat} (hc : c < 2 ^ 24) (hd : 2 ^ 23 ≤ d) (hk : 0 < k) : c ≠ d * 2 ^ k := by
  intro e
  have h1 : 2 ≤ 2 ^ k := by
    obtain ⟨j, rfl⟩ : ∃ j, k = j + 1 := ⟨k - 1, by omega⟩
    rw [Nat.pow_succ]
    have := Nat.one_le_two_pow (n := j)
    omega
  have h2 := Nat.mul_le_mul_left d h1
  omega
theorem fEq {a b : UInt32} (ha : fPos a) (hb : fPos b) (h : FP.fcmp a b = some .eq) : a = b := by
  have hr : a.toNat < 0x7f800000 := ha
  have hs : b.toNat < 0x7f800000 := hb
  have key : ∀ {c d : Nat} {q r : Int}, FP.Core.decode FP.Core.b32 a.toNat = .fin false c q → FP.Core.decode FP.Core.b32 b.toNat = .fin false d r → c * 2 ^ (q - min q r).toNat = d * 2 ^ (r - min q r).toNat := by
    intro c d q r e1 e2
    have h9 : FP.Core.order (FP.Core.decode FP.Core.b32 a.toNat) (FP.Core.decode FP.Core.b32 b.toNat) = some .eq := h
    rw [e1, e2] at h9
    have h8 := cmp_eq (Option.some.inj h9)
    exact Int.ofNat.inj h8
  refine UInt32.toNat_inj.mp ?_
  rcases fDec ha with ⟨a1, e1⟩ | ⟨a1, e1⟩ <;> rcases fDec hb with ⟨b1, e2⟩ | ⟨b1, e2⟩
  · have k := key e1 e2
    rw [show ((-149 : Int) - min (-149) (-149)).toNat = 0 from by decide] at k
    omega
  · have k := key e1 e2
    obtain ⟨E, hE⟩ : ∃ E, b.toNat / 2 ^ 23 = E + 1 := ⟨b.toNat / 2 ^ 23 - 1, by omega⟩
    rw [hE] at k
    rw [show ((-149 : Int) - min (-149) (-149 + (((E + 1 : Nat) : Int) - 1))).toNat = 0 from by omega, show ((-149 + (((E + 1 : Nat) : Int) - 1)) - min (-149 : Int) (-149 + (((E + 1 : Nat) : Int) - 1))).toNat = E from by omega] at k
    have h1 := Nat.one_le_two_pow (n := E)
    have h2 := Nat.mul_le_mul_left (2 ^ 23 + b.toNat % 2 ^ 23) h1
    omega
  · have k := key e1 e2
    obtain ⟨E, hE⟩ : ∃ E, a.toNat / 2 ^ 23 = E + 1 := ⟨a.toNat / 2 ^ 23 - 1, by omega⟩
    rw [hE] at k
    rw [show ((-149 : Int) - min (-149 + (((E + 1 : Nat) : Int) - 1)) (-149)).toNat = 0 from by omega, show ((-149 + (((E + 1 : Nat) : Int) - 1)) - min (-149 + (((E + 1 : Nat) : Int) - 1)) (-149 : Int)).toNat = E from by omega] at k
    have h1 := Nat.one_le_two_pow (n := E)
    have h2 := Nat.mul_le_mul_left (2 ^ 23 + a.toNat % 2 ^ 23) h1
    omega
  · have k := key e1 e2
    obtain ⟨E, hE⟩ : ∃ E, a.toNat / 2 ^ 23 = E + 1 := ⟨a.toNat / 2 ^ 23 - 1, by omega⟩
    obtain ⟨F, hF⟩ : ∃ F, b.toNat / 2 ^ 23 = F + 1 := ⟨b.toNat / 2 ^ 23 - 1, by omega⟩
    rw [hE, hF] at k
    rcases Nat.lt_trichotomy E F with c | c | c
    · rw [show ((-149 + (((E + 1 : Nat) : Int) - 1)) - min (-149 + (((E + 1 : Nat) : Int) - 1)) (-149 + (((F + 1 : Nat) : Int) - 1))).toNat = 0 from by omega, show ((-149 + (((F + 1 : Nat) : Int) - 1)) - min (-149 + (((E + 1 : Nat) : Int) - 1)) (-149 + (((F + 1 : Nat) : Int) - 1))).toNat = F - E from by omega, Nat.pow_zero, Nat.mul_one] at k
      exact absurd k (two_k (by omega) (by omega) (by omega))
    · subst c
      rw [show ((-149 + (((E + 1 : Nat) : Int) - 1)) - min (-149 + (((E + 1 : Nat) : Int) - 1)) (-149 + (((E + 1 : Nat) : Int) - 1))).toNat = 0 from by omega] at k
      omega
    · rw [show ((-149 + (((F + 1 : Nat) : Int) - 1)) - min (-149 + (((E + 1 : Nat) : Int) - 1)) (-149 + (((F + 1 : Nat) : Int) - 1))).toNat = 0 from by omega, show ((-149 + (((E + 1 : Nat) : Int) - 1)) - min (-149 + (((E + 1 : Nat) : Int) - 1)) (-149 + (((F + 1 : Nat) : Int) - 1))).toNat = E - F from by omega, Nat.pow_zero, Nat.mul_one] at k
      exact absurd k.symm (two_k (by omega) (by omega) (by omega))
theorem fMx_e {s : pR} : ∀ {n : Nat}, (∀ p, p ≤ n → fPos (cShare s p)) → fMx s n = mMx s n
  | 0, _ => rfl
  | n + 1, h => by
    have h0 : ∀ p, p ≤ n → fPos (cShare s p) := fun p hp => h p (by omega)
    rw [fMx, mMx, fMx_e h0, fMax]
    obtain ⟨o, e1, e2⟩ := fCmp_x (mMx_p h0) (h (n + 1) (Nat.le_refl _))
    rw [e1, e2]
    cases o <;> rfl
theorem fMn_e {s : pR} : ∀ {n : Nat}, (∀ p, p ≤ n → fPos (cShare s p)) → fMn s n = mMn s n
  | 0, _ => rfl
  | n + 1, h => by
    have h0 : ∀ p, p ≤ n → fPos (cShare s p) := fun p hp => h p (by omega)
    rw [fMn, mMn, fMn_e h0, fMinC]
    obtain ⟨o, e1, e2⟩ := fCmp_x (mMn_p h0) (h (n + 1) (Nat.le_refl _))
    have hq := fun z => fEq (mMn_p h0) (h (n + 1) (Nat.le_refl _)) z
    rw [e1] at hq ⊢
    rw [e2]
    cases o with
    | lt => rfl
    | gt => rfl
    | eq => exact (hq rfl).symm
