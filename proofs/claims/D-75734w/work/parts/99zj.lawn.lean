/-! WHAT A READING LEAVES IN THE REGISTER FILE -/
theorem rLoop_ok {b : pR} {n q : Nat} : ∀ {ψ : rS}, pOK n ψ.1 → pOK n (rLoop b n q ψ).1 := by
  induction q with
  | zero => exact fun h => h
  | succ q ih =>
    intro ψ h
    rw [rLoop_s]
    split
    · exact ih (rLine_ok (pNx_ok h))
    · exact h
theorem rEnd_ok {n : Nat} {ψ : rS} (h : pOK n ψ.1) : pOK n (rEnd ψ).1 := by
  have h1 : pOK n (if ψ.1.2.2.2.2.1 = 0 then (if ψ.1.2.1 = 1 then ψ.1 else pFl ψ.1 1) else ψ.1) := by
    split
    · split
      · exact h
      · exact pFl_ok h (by decide)
    · exact h
  unfold rEnd
  dsimp only
  split
  · exact pFl_ok h1 (by decide)
  · exact h1
theorem rText_ok {b : pR} {n : Nat} {κ : pK} (h : pOK n κ) : pOK n (rText b n κ).1 := rEnd_ok (rLoop_ok (rFirst_ok (pNx_ok h)))
/-- without a fault there is a proposal -/
theorem rText_N {b : pR} {n : Nat} {κ : pK} (h : (rText b n κ).1.2.2.2.2.1 = 0) : ¬ (rText b n κ).2.1 10 = 0 := by
  unfold rText at h ⊢
  generalize rLoop b n 1001 (rFirst b n (pNx b n κ) p0 p0) = ψ at h ⊢
  intro z
  have z1 : ψ.2.1 10 = 0 := z
  have h1 : (if ψ.2.1 10 = 0 then pFl (if ψ.1.2.2.2.2.1 = 0 then (if ψ.1.2.1 = 1 then ψ.1 else pFl ψ.1 1) else ψ.1) 5 else (if ψ.1.2.2.2.2.1 = 0 then (if ψ.1.2.1 = 1 then ψ.1 else pFl ψ.1 1) else ψ.1)).2.2.2.2.1 = 0 := h
  rw [if_pos z1] at h1
  exact rSk_fl (by decide) h1
/-- the token with which a reading begins doesn't matter -/
theorem rText_tk {b : pR} {n tk st tk' st' : Nat} {v : Int32} : rText b n (0, tk, st, v, 0, -1) = rText b n (0, tk', st', v, 0, -1) := by
  unfold rText
  rw [show pNx b n (0, tk, st, v, 0, -1) = pNx b n (0, tk', st', v, 0, -1) from by unfold pNx; rfl]
