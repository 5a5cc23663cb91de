/-! THE MODEL: what a text that was read leaves -/
/-- the model's rows behind a text that was read -/
def mLd (μ : md_S) (n : Nat) (ψ : rS) : md_S :=
  md_sa (md_sa (md_sa (md_sa (md_sa (md_si (md_si (mK (md_si (md_si (md_si μ 0 (nI 0)) 3 (nI n)) 2 (nI 0)) (ψ.1.1, ψ.1.2.1, ψ.1.2.2.1, ψ.1.2.2.2.1, 0, ψ.1.2.2.2.2.2)) 19 (nI 1)) 18 (nI 0)) 3 ψ.2.1) 5 ψ.2.2) 2 ψ.2.1) 9 (upd (upd (μ.2 9) 0 (bI false)) 1 (bI false))) 4 ψ.2.2
theorem mq_load_Y2 {Ω : ax_O} (hA : ax_Amb Ω) {h : ax_H} {m : Nat} {μ : md_S} (hm : Ω.2.1.heap.size ≤ m) (hL : mLit Ω h m) {tk st : Nat} (h7 : μ.1 7 = nI tk) (h8 : μ.1 8 = nI st) {bn n : Nat} (hB : μ.1 2 = nI bn) (hbn : bn ≤ 1000) (hn : n ≤ bn) {ψ : rS} (hψ : ψ = rText (μ.2 1) n (0, tk, st, μ.1 9, 0, -1)) (hc : ψ.1.2.2.2.2.1 = 0) :
    ax_Met Ω yX10_load 15 0 0 [.ref m, .int (nI n)] (md_H h m μ) (.inl (some (.int (ψ.2.1 65)))) (md_H h m (mLd μ n ψ)) := by
  refine ((mq_load_Y hA hm hL h7 h8 hB hbn hn hψ hc).P (Q := fun o' h' => o' = .inl (some (.int (ψ.2.1 65))) ∧ ax_le h' (md_H h m (mLd μ n ψ))) ⟨rfl, ?_⟩).one fun o' h' q => q
  have e : ∀ (K : md_S) (f g p4 r9 ra : pR), md_si (md_sa (md_sa (md_si (md_sa (md_sa (md_sa (md_sa K 3 f) 5 g) 2 f) 4 p4) 19 (nI 1)) 9 ra) 9 r9) 18 (nI 0) = md_sa (md_sa (md_sa (md_sa (md_sa (md_si (md_si K 19 (nI 1)) 18 (nI 0)) 3 f) 5 g) 2 f) 9 r9) 4 p4 := by
    intro K f g p4 r9 ra
    show md_sa (md_sa (md_sa (md_sa (md_sa (md_sa (md_si (md_si K 19 (nI 1)) 18 (nI 0)) 3 f) 5 g) 2 f) 4 p4) 9 ra) 9 r9 = _
    rw [md_saa, md_sac _ 4 9 _ _ (by decide)]
  rw [e]
  refine md_le (by decide) (by decide) fun i hi => ?_
  have hi2 : i < 627 := hi
  show pPut (μ.2 4) (fun z9 => ψ.2.2 (0 + z9)) 0 627 i = ψ.2.2 i
  have := pPut_i (g := μ.2 4) (f := fun z9 => ψ.2.2 (0 + z9)) (q := 0) (n := 627) hi2
  rw [Nat.zero_add] at this
  exact this
