/-! THE MODEL: a row is kept -/
section MDR2
variable {Ω : ax_O} {h : ax_H} {m : Nat} {μ : md_S}
theorem mt_rem (hA : ax_Amb Ω) (hm : Ω.2.1.heap.size ≤ m) (u : Nat) (hu : u ≤ 8) (h18 : μ.1 18 = nI u) : ax_Met Ω yX10_remember 2 0 0 [.ref m] (md_H h m μ) (.inl none) (md_H h m (md_si (md_sa μ 7 (pRem (μ.2 7) (μ.2 4) u)) 18 (nI (pU u)))) := by
  have e0 : (fun k => μ.2 4 (0 + k)) = μ.2 4 := by funext k; rw [Nat.zero_add]
  unfold pRem pU
  by_cases e : u = 8
  · subst e
    rw [if_pos rfl, if_pos rfl]
    have M := mt_remember8 hA (h := h) (m := m) (μ := μ) hm h18
    rw [e0] at M
    rw [show md_si (md_sa μ 7 (pPut (pSh (μ.2 7) 4389) (μ.2 4) 4389 627)) 18 (nI 8) = md_si (md_sa (md_si (md_sa μ 7 (pSh (μ.2 7) 4389)) 18 (nI 7)) 7 (pPut (pSh (μ.2 7) 4389) (μ.2 4) (627 * 7) 627)) 18 (nI 8) from by
      rw [show md_sa (md_si (md_sa μ 7 (pSh (μ.2 7) 4389)) 18 (nI 7)) 7 (pPut (pSh (μ.2 7) 4389) (μ.2 4) (627 * 7) 627) = md_si (md_sa (md_sa μ 7 (pSh (μ.2 7) 4389)) 7 (pPut (pSh (μ.2 7) 4389) (μ.2 4) (627 * 7) 627)) 18 (nI 7) from rfl, md_saa, md_sii]]
    exact M
  · rw [if_neg e, if_neg e]
    have M := mt_remember hA (h := h) (m := m) (μ := μ) hm u (by omega) h18
    rw [e0] at M
    exact M
end MDR2
