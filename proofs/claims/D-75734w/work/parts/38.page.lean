/-! THE MODEL's page -/
theorem md_pg (μ : md_S) (f g : pR) (a b : Int32) : md_si (md_sa (md_si (md_sa μ 10 f) 24 a) 10 g) 24 b = md_si (md_sa μ 10 g) 24 b := by
  rw [show md_sa (md_si (md_sa μ 10 f) 24 a) 10 g = md_si (md_sa (md_sa μ 10 f) 10 g) 24 a from rfl, md_saa, md_sii]
/-- the list l written from place Z on -/
def mW (μ : md_S) (Z : Nat) (l : List Int32) : md_S := md_si (md_sa μ 10 (pWL (μ.2 10) Z l)) 24 (nI (Z + l.length))
theorem mW_app (μ : md_S) (Z : Nat) (l k : List Int32) : mW (mW μ Z l) (Z + l.length) k = mW μ Z (l ++ k) := by
  unfold mW
  rw [List.length_append, pWL_app, ← Nat.add_assoc]
  exact md_pg μ _ _ _ _
section MDW
variable {Ω : ax_O} {h : ax_H} {m : Nat} {μ : md_S}
theorem mt_wB (hA : ax_Amb Ω) (hm : Ω.2.1.heap.size ≤ m) (Z : Nat) (hZ : μ.1 24 = nI Z) (hZ8 : Z < 80) (b : Int32) : ax_Met Ω yX10_writesByte 1 0 0 [.ref m, .int b] (md_H h m μ) (.inl none) (md_H h m (mW μ Z [b])) := mt_writesByte hA hm hZ hZ8 b
theorem mt_wN (hA : ax_Amb Ω) (hm : Ω.2.1.heap.size ≤ m) (Z : Nat) (hZ : μ.1 24 = nI Z) (w : Nat) (hw : w < 100000) (hZ8 : Z + 5 ≤ 80) : ax_Met Ω yX10_writesNumber 2 0 0 [.ref m, .int (nI w)] (md_H h m μ) (.inl none) (md_H h m (mW μ Z (pDig w))) := by
  unfold mW pDig
  by_cases h1 : w < 10
  · rw [if_pos h1]; exact mt_writesNumber1 hA hm hZ w (Nat.zero_le _) h1 (by omega)
  · rw [if_neg h1]
    by_cases h2 : w < 100
    · rw [if_pos h2]
      have M := mt_writesNumber2 hA (h := h) hm hZ w (by omega) h2 (by omega)
      simp only [md_pg] at M; exact M
    · rw [if_neg h2]
      by_cases h3 : w < 1000
      · rw [if_pos h3]
        have M := mt_writesNumber3 hA (h := h) hm hZ w (by omega) h3 (by omega)
        simp only [md_pg] at M; exact M
      · rw [if_neg h3]
        by_cases h4 : w < 10000
        · rw [if_pos h4]
          have M := mt_writesNumber4 hA (h := h) hm hZ w (by omega) h4 (by omega)
          simp only [md_pg] at M; exact M
        · rw [if_neg h4]
          have M := mt_writesNumber5 hA (h := h) hm hZ w (by omega) hw (by omega)
          simp only [md_pg] at M; exact M
end MDW
/-- the letters of a proposal's name, i of them -/
def pName (pl : pR) (k : Nat) : Nat → List Int32
  | 0 => []
  | i + 1 => pName pl k i ++ [pl (17 + 8 * k + i)]
theorem pName_len (pl : pR) (k : Nat) : ∀ i, (pName pl k i).length = i
  | 0 => rfl
  | i + 1 => by show (pName pl k i ++ [_]).length = _; rw [List.length_append, pName_len pl k i]; rfl
theorem mW_24 (μ : md_S) (Z : Nat) (l : List Int32) : (mW μ Z l).1 24 = nI (Z + l.length) := rfl
theorem mW_0 (μ : md_S) (hZ : μ.1 24 = nI 0) : mW μ 0 [] = μ := by
  unfold mW
  show md_si (md_sa μ 10 (μ.2 10)) 24 (nI 0) = μ
  rw [md_same, ← hZ]
  unfold md_si
  congr 1; funext i; simp only [upd]; by_cases e : i = 24 <;> simp [e]
section MDW2
variable {Ω : ax_O} {h : ax_H} {m : Nat} {μ : md_S}
/-- .. behind what is written already -/
theorem mt_wBa (hA : ax_Amb Ω) (hm : Ω.2.1.heap.size ≤ m) (l : List Int32) (hl : l.length < 80) (b : Int32) : ax_Met Ω yX10_writesByte 1 0 0 [.ref m, .int b] (md_H h m (mW μ 0 l)) (.inl none) (md_H h m (mW μ 0 (l ++ [b]))) := by
  have M := mt_wB hA (h := h) (m := m) (μ := mW μ 0 l) hm (0 + l.length) rfl (by omega) b
  rw [mW_app] at M; exact M
theorem mt_wNa (hA : ax_Amb Ω) (hm : Ω.2.1.heap.size ≤ m) (l : List Int32) {x : Int32} (w : Nat) (hx : x = nI w) (hw : w < 100000) (hl : l.length ≤ 75) : ax_Met Ω yX10_writesNumber 2 0 0 [.ref m, .int x] (md_H h m (mW μ 0 l)) (.inl none) (md_H h m (mW μ 0 (l ++ pDig w))) := by
  subst hx
  have M := mt_wN hA (h := h) (m := m) (μ := mW μ 0 l) hm (0 + l.length) rfl w hw (by omega)
  rw [mW_app] at M; exact M
end MDW2
