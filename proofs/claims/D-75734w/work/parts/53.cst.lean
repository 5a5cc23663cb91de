/-! THE COMPONENT's STATE: an object at a; its rows at a + 4 .. a + 15; three plans at a + 16 .. a + 18. σ: the row (as the model's), the plans, the scope (a value), the rule -/
def sLen (k : Nat) : Nat := match k with
  | 4 => 6
  | 5 => 6
  | 6 => 6
  | 7 => 6
  | 8 => 20
  | 9 => 20
  | 10 => 20
  | 11 => 20
  | 12 => 10
  | 13 => 10
  | 14 => 8
  | _ => 400
def sIx (k j : Nat) : Nat := match k with
  | 4 => 17 + j
  | 5 => 23 + j
  | 6 => 29 + j
  | 7 => 41 + j
  | 8 => 47 + j
  | 9 => 67 + j
  | 10 => 87 + j
  | 11 => 107 + j
  | 12 => 127 + 10 * j + 7
  | 13 => 127 + 10 * j + 8
  | 14 => 6 + j
  | _ => 227 + j
theorem sx4 (j : Nat) : sIx 4 j = 17 + j := rfl
theorem sl4 : sLen 4 = 6 := rfl
theorem sx5 (j : Nat) : sIx 5 j = 23 + j := rfl
theorem sl5 : sLen 5 = 6 := rfl
theorem sx6 (j : Nat) : sIx 6 j = 29 + j := rfl
theorem sl6 : sLen 6 = 6 := rfl
theorem sx7 (j : Nat) : sIx 7 j = 41 + j := rfl
theorem sl7 : sLen 7 = 6 := rfl
theorem sx8 (j : Nat) : sIx 8 j = 47 + j := rfl
theorem sl8 : sLen 8 = 20 := rfl
theorem sx9 (j : Nat) : sIx 9 j = 67 + j := rfl
theorem sl9 : sLen 9 = 20 := rfl
theorem sx10 (j : Nat) : sIx 10 j = 87 + j := rfl
theorem sl10 : sLen 10 = 20 := rfl
theorem sx11 (j : Nat) : sIx 11 j = 107 + j := rfl
theorem sl11 : sLen 11 = 20 := rfl
theorem sx12 (j : Nat) : sIx 12 j = 127 + 10 * j + 7 := rfl
theorem sl12 : sLen 12 = 10 := rfl
theorem sx13 (j : Nat) : sIx 13 j = 127 + 10 * j + 8 := rfl
theorem sl13 : sLen 13 = 10 := rfl
theorem sx14 (j : Nat) : sIx 14 j = 6 + j := rfl
theorem sl14 : sLen 14 = 8 := rfl
theorem sx15 (j : Nat) : sIx 15 j = 227 + j := rfl
theorem sl15 : sLen 15 = 400 := rfl
abbrev cP : Type := Value × (Nat → Int32)
def cPF (π : cP) : List Value := [π.1, .int (π.2 1), .int (π.2 2), .int (π.2 3), .int (π.2 4), .int (π.2 5), .int (π.2 6), .int (π.2 7), .int (π.2 8)]
abbrev cS : Type := pR × (Nat → cP) × Value × Nat
def sF (a : Nat) (σ : cS) : List Value := [σ.2.2.1, .ref σ.2.2.2, .ref (a + 2), .ref (a + 4), .ref (a + 5), .ref (a + 6), .ref (a + 7), .ref (a + 8), .ref (a + 9), .ref (a + 10), .ref (a + 11), .ref (a + 12), .ref (a + 13), .ref (a + 14), .ref (a + 15), .int (σ.1 0), .int (σ.1 1), .int (σ.1 2), .int (σ.1 3), .int (σ.1 4), .int (σ.1 15), .int (σ.1 5), .int (σ.1 16), .ref (a + 16), .ref (a + 17), .ref (a + 18)]
def sH (h : ax_H) (a : Nat) (σ : cS) : ax_H := (fun q => if q = a then some (.inr (1, sF a σ)) else if a + 4 ≤ q ∧ q ≤ a + 15 then some (.inl (.int, sLen (q - a), .inl (fun j => σ.1 (sIx (q - a) j)))) else if a + 16 ≤ q ∧ q ≤ a + 18 then some (.inr (6, cPF (σ.2.1 (q - a - 16)))) else h.1 q, h.2)
def cU (π : Nat → cP) (i : Nat) (P : cP) : Nat → cP := fun j => if j = i then P else π j
theorem cU_e {π : Nat → cP} {i : Nat} {P : cP} : cU π i P i = P := if_pos rfl
theorem cU_n {π : Nat → cP} {i j : Nat} {P : cP} (h : j ≠ i) : cU π i P j = π j := if_neg h
theorem cU_u (π : Nat → cP) (i : Nat) (P P' : cP) : cU (cU π i P) i P' = cU π i P' := by
  funext j; unfold cU; by_cases e : j = i <;> simp [e]
theorem cU_s (π : Nat → cP) (i : Nat) : cU π i (π i) = π := by
  funext j; unfold cU; by_cases e : j = i <;> simp [e]
section CST
variable {h : ax_H} {a : Nat} {σ σ' : cS}
theorem sH_obj : (sH h a σ).1 a = some (.inr (1, sF a σ)) := if_pos rfl
theorem sH_arr {k : Nat} (h1 : 4 ≤ k) (h2 : k ≤ 15) : (sH h a σ).1 (a + k) = some (.inl (.int, sLen k, .inl (fun j => σ.1 (sIx k j)))) := by
  show (if a + k = a then _ else _) = _
  rw [if_neg (by omega), if_pos ⟨by omega, by omega⟩, Nat.add_sub_cancel_left]
theorem sH_pl {k : Nat} (h1 : 16 ≤ k) (h2 : k ≤ 18) : (sH h a σ).1 (a + k) = some (.inr (6, cPF (σ.2.1 (k - 16)))) := by
  show (if a + k = a then _ else _) = _
  rw [if_neg (by omega), if_neg (by omega), if_pos ⟨by omega, by omega⟩, Nat.add_sub_cancel_left]
theorem sH_out {q : Nat} (hq : q < a ∨ a + 18 < q ∨ (a < q ∧ q < a + 4)) : (sH h a σ).1 q = h.1 q := by
  show (if q = a then _ else _) = _
  rw [if_neg (by omega), if_neg (by omega), if_neg (by omega)]
theorem sH_2 : (sH h a σ).2 = h.2 := rfl
theorem sH_sH : sH (sH h a σ) a σ' = sH h a σ' := by
  unfold sH
  congr 1
  funext q
  dsimp only
  by_cases e : q = a
  · rw [if_pos e, if_pos e]
  · rw [if_neg e, if_neg e, if_neg e]
    by_cases e1 : a + 4 ≤ q ∧ q ≤ a + 15
    · rw [if_pos e1, if_pos e1]
    · rw [if_neg e1, if_neg e1, if_neg e1]
      by_cases e2 : a + 16 ≤ q ∧ q ≤ a + 18
      · rw [if_pos e2, if_pos e2]
      · rw [if_neg e2, if_neg e2, if_neg e2]
theorem sH_le (e1 : sF a σ = sF a σ') (e2 : ∀ k, 4 ≤ k → k ≤ 15 → ∀ j, j < sLen k → σ.1 (sIx k j) = σ'.1 (sIx k j)) (e3 : ∀ i, i < 3 → σ.2.1 i = σ'.2.1 i) : ax_le (sH h a σ) (sH h a σ') := by
  refine ⟨rfl, fun q e' he => ?_⟩
  unfold sH at he ⊢
  dsimp only at he ⊢
  by_cases e : q = a
  · rw [if_pos e] at he ⊢; rw [e1]; exact ⟨_, he, Or.inl rfl⟩
  · rw [if_neg e] at he ⊢
    by_cases f1 : a + 4 ≤ q ∧ q ≤ a + 15
    · rw [if_pos f1] at he ⊢
      have he := Option.some.inj he
      subst he
      exact ⟨_, rfl, Or.inr ⟨_, _, _, _, rfl, rfl, fun j hj => e2 _ (by omega) (by omega) j hj⟩⟩
    · rw [if_neg f1] at he ⊢
      by_cases f2 : a + 16 ≤ q ∧ q ≤ a + 18
      · rw [if_pos f2] at he ⊢; rw [e3 _ (by omega)]; exact ⟨_, he, Or.inl rfl⟩
      · rw [if_neg f2] at he ⊢; exact ⟨_, he, Or.inl rfl⟩
theorem sIx_inj {k k' j j' : Nat} (h1 : 4 ≤ k) (h2 : k ≤ 15) (h3 : 4 ≤ k') (h4 : k' ≤ 15) (hj : j < sLen k) (hj' : j' < sLen k') (e : sIx k j = sIx k' j') : k = k' ∧ j = j' := by
  have c1 : k = 4 ∨ k = 5 ∨ k = 6 ∨ k = 7 ∨ k = 8 ∨ k = 9 ∨ k = 10 ∨ k = 11 ∨ k = 12 ∨ k = 13 ∨ k = 14 ∨ k = 15 := by omega
  have c2 : k' = 4 ∨ k' = 5 ∨ k' = 6 ∨ k' = 7 ∨ k' = 8 ∨ k' = 9 ∨ k' = 10 ∨ k' = 11 ∨ k' = 12 ∨ k' = 13 ∨ k' = 14 ∨ k' = 15 := by omega
  rcases c1 with rfl | rfl | rfl | rfl | rfl | rfl | rfl | rfl | rfl | rfl | rfl | rfl <;> rcases c2 with rfl | rfl | rfl | rfl | rfl | rfl | rfl | rfl | rfl | rfl | rfl | rfl <;>
    (simp only [sx4, sl4, sx5, sl5, sx6, sl6, sx7, sl7, sx8, sl8, sx9, sl9, sx10, sl10, sx11, sl11, sx12, sl12, sx13, sl13, sx14, sl14, sx15, sl15] at hj hj' e; omega)
theorem sIx_sc {k j r : Nat} (h1 : 4 ≤ k) (h2 : k ≤ 15) (hj : j < sLen k) (hr : r < 6 ∨ r = 15 ∨ r = 16 ∨ r = 14) : sIx k j ≠ r := by
  have c1 : k = 4 ∨ k = 5 ∨ k = 6 ∨ k = 7 ∨ k = 8 ∨ k = 9 ∨ k = 10 ∨ k = 11 ∨ k = 12 ∨ k = 13 ∨ k = 14 ∨ k = 15 := by omega
  rcases c1 with rfl | rfl | rfl | rfl | rfl | rfl | rfl | rfl | rfl | rfl | rfl | rfl <;> (simp only [sx4, sl4, sx5, sl5, sx6, sl6, sx7, sl7, sx8, sl8, sx9, sl9, sx10, sl10, sx11, sl11, sx12, sl12, sx13, sl13, sx14, sl14, sx15, sl15] at hj ⊢; omega)
/-- a row's place behind which a scalar field lies -/
def sR (k : Nat) : Nat := match k with
  | 15 => 0
  | 16 => 1
  | 17 => 2
  | 18 => 3
  | 19 => 4
  | 20 => 15
  | 21 => 5
  | _ => 16
theorem sF_put {k : Nat} {v : Int32} (h1 : 15 ≤ k) (h2 : k ≤ 22) : (sF a σ).set k (.int v) = sF a (upd σ.1 (sR k) v, σ.2) := by
  have c1 : k = 15 ∨ k = 16 ∨ k = 17 ∨ k = 18 ∨ k = 19 ∨ k = 20 ∨ k = 21 ∨ k = 22 := by omega
  rcases c1 with rfl | rfl | rfl | rfl | rfl | rfl | rfl | rfl <;> simp [sF, sR, upd]
theorem sR_b {k : Nat} (h1 : 15 ≤ k) (h2 : k ≤ 22) : sR k < 6 ∨ sR k = 15 ∨ sR k = 16 ∨ sR k = 14 := by
  have c1 : k = 15 ∨ k = 16 ∨ k = 17 ∨ k = 18 ∨ k = 19 ∨ k = 20 ∨ k = 21 ∨ k = 22 := by omega
  rcases c1 with rfl | rfl | rfl | rfl | rfl | rfl | rfl | rfl <;> simp [sR]
theorem sH_putO {fs : List Value} (hf : fs = sF a σ') (e2 : σ'.1 = σ.1) (e3 : σ'.2.1 = σ.2.1) : ax_set (sH h a σ) a (.inr (1, fs)) = sH h a σ' := by
  subst hf
  unfold ax_set sH
  congr 1
  funext q
  dsimp only
  by_cases e : q = a
  · rw [if_pos e, if_pos e]
  · rw [if_neg e, if_neg e, if_neg e, e2, e3]
theorem sH_put {k : Nat} {v : Int32} (h1 : 15 ≤ k) (h2 : k ≤ 22) : ax_le (ax_set (sH h a σ) a (.inr (1, (sF a σ).set k (.int v)))) (sH h a (upd σ.1 (sR k) v, σ.2)) := by
  refine ⟨rfl, fun q e' he => ?_⟩
  rw [sF_put h1 h2]
  unfold ax_set sH at *
  dsimp only at he ⊢
  by_cases e : q = a
  · rw [if_pos e] at he ⊢; exact ⟨_, he, Or.inl rfl⟩
  · rw [if_neg e] at he; rw [if_neg e, if_neg e]
    by_cases f1 : a + 4 ≤ q ∧ q ≤ a + 15
    · rw [if_pos f1] at he ⊢
      have he := Option.some.inj he
      subst he
      refine ⟨_, rfl, Or.inr ⟨_, _, _, _, rfl, rfl, fun j hj => ?_⟩⟩
      show σ.1 (sIx (q - a) j) = upd σ.1 (sR k) v (sIx (q - a) j)
      rw [pu_ne (sIx_sc (by omega) (by omega) hj (sR_b h1 h2))]
    · rw [if_neg f1] at he ⊢; exact ⟨_, he, Or.inl rfl⟩
theorem sH_st {k j : Nat} {v : Int32} (h1 : 4 ≤ k) (h2 : k ≤ 15) (hj : j < sLen k) : ax_le (ax_set (sH h a σ) (a + k) (.inl (.int, sLen k, .inl (upd (fun j => σ.1 (sIx k j)) j v)))) (sH h a (upd σ.1 (sIx k j) v, σ.2)) := by
  refine ⟨rfl, fun q e' he => ?_⟩
  unfold ax_set sH at *
  dsimp only at he ⊢
  by_cases e : q = a
  · rw [if_pos e] at he
    rw [if_neg (by omega), if_pos e]
    have e9 : sF a (upd σ.1 (sIx k j) v, σ.2) = sF a σ := by
      unfold sF
      have z : ∀ r, (r < 6 ∨ r = 15 ∨ r = 16 ∨ r = 14) → upd σ.1 (sIx k j) v r = σ.1 r := fun r hr => pu_ne (Ne.symm (sIx_sc h1 h2 hj hr))
      dsimp only
      rw [z 0 (by omega), z 1 (by omega), z 2 (by omega), z 3 (by omega), z 4 (by omega), z 15 (by omega), z 5 (by omega), z 16 (by omega)]
    rw [e9] at he
    exact ⟨_, he, Or.inl rfl⟩
  · rw [if_neg e] at he
    by_cases f1 : a + 4 ≤ q ∧ q ≤ a + 15
    · rw [if_pos f1] at he
      have he := Option.some.inj he
      subst he
      by_cases f3 : q = a + k
      · rw [if_pos f3]
        subst f3
        rw [Nat.add_sub_cancel_left]
        refine ⟨_, rfl, Or.inr ⟨_, _, _, _, rfl, rfl, fun i hi => ?_⟩⟩
        show upd (fun j => σ.1 (sIx k j)) j v i = upd σ.1 (sIx k j) v (sIx k i)
        by_cases g : i = j
        · subst g; rw [pu_eq, pu_eq]
        · rw [pu_ne g, pu_ne (fun z => g (sIx_inj h1 h2 h1 h2 hi hj z).2)]
      · rw [if_neg f3, if_neg e, if_pos f1]
        refine ⟨_, rfl, Or.inr ⟨_, _, _, _, rfl, rfl, fun i hi => ?_⟩⟩
        show σ.1 (sIx (q - a) i) = upd σ.1 (sIx k j) v (sIx (q - a) i)
        rw [pu_ne (fun z => f3 (by have := (sIx_inj (by omega) (by omega) h1 h2 hi hj z).1; omega))]
    · rw [if_neg f1] at he
      rw [if_neg (by omega), if_neg e, if_neg f1]; exact ⟨_, he, Or.inl rfl⟩
theorem sH_setP {i : Nat} {P : cP} (hi : i < 3) : ax_set (sH h a σ) (a + 16 + i) (.inr (6, cPF P)) = sH h a (σ.1, cU σ.2.1 i P, σ.2.2) := by
  unfold ax_set sH
  congr 1
  funext q
  dsimp only
  by_cases f : q = a + 16 + i
  · subst f
    rw [if_pos rfl, if_neg (by omega), if_neg (by omega), if_pos ⟨by omega, by omega⟩, show a + 16 + i - a - 16 = i by omega, cU_e]
  · rw [if_neg f]
    by_cases e : q = a
    · rw [if_pos e, if_pos e]; rfl
    · rw [if_neg e, if_neg e]
      by_cases f1 : a + 4 ≤ q ∧ q ≤ a + 15
      · rw [if_pos f1, if_pos f1]
      · rw [if_neg f1, if_neg f1]
        by_cases f2 : a + 16 ≤ q ∧ q ≤ a + 18
        · rw [if_pos f2, if_pos f2, cU_n (by omega)]
        · rw [if_neg f2, if_neg f2]
end CST
section CSR
variable {Ω : ax_O} {Γ : ax_F} {y : MethodName} {cc : ByteArray} {nL : Nat} {ret : Option FieldType} {hh : List (Nat × Nat × Nat × Nat)} {d kb nb pc : Nat} {h : ax_H} {a : Nat} {σ : cS} {ls : List (Option Value)} {rest : List Value}
theorem sr_get (G : ax_C Ω Γ y cc nL ret hh d) {idx k : Nat} {v : Value} {ft : FieldType} {fin : Bool} (F : ax_fl y.cls idx 1 k ft fin) (dec : decode cc pc = .ok (.getfield idx, 3)) (hv : (sF a σ)[k]? = some v) (kk : ax_W Ω Γ kb nb (sH h a σ) (pc + 3) ls (v :: rest)) : ax_W Ω Γ kb nb (sH h a σ) pc ls (.ref a :: rest) := ax_getf G F dec sH_obj hv kk
theorem sr_put (G : ax_C Ω Γ y cc nL ret hh d) {idx k r : Nat} {v : Int32} {ft : FieldType} (F : ax_fl y.cls idx 1 k ft false) (dec : decode cc pc = .ok (.putfield idx, 3)) (ha : Ω.2.1.heap.size ≤ a) (h1 : 15 ≤ k) (h2 : k ≤ 22) (hr : sR k = r) (hn9 : narrow ft (.int v) = .int v) (hf9 : fits ft (.int v) = true) (kk : ax_W Ω Γ kb nb (sH h a (upd σ.1 r v, σ.2)) (pc + 3) ls rest) : ax_W Ω Γ kb nb (sH h a σ) pc ls (.int v :: .ref a :: rest) := by
  subst hr
  exact ax_putf G F dec sH_obj ha (show k < 26 by omega) hn9 hf9 (ax_W_le (sH_put h1 h2) kk)
theorem sr_ld (G : ax_C Ω Γ y cc nL ret hh d) {k j r : Nat} {x : Int32} (dec : decode cc pc = .ok (.iaload, 1)) (h1 : 4 ≤ k) (h2 : k ≤ 15) (hr : sIx k j = r) (hx : x = nI j) (hj : j < sLen k) (kk : ax_W Ω Γ kb nb (sH h a σ) (pc + 1) ls (.int (σ.1 r) :: rest)) : ax_W Ω Γ kb nb (sH h a σ) pc ls (.int x :: .ref (a + k) :: rest) := by
  subst hr
  exact ax_iaload G j dec (sH_arr h1 h2) hx hj (by unfold sLen; split <;> decide) kk
theorem sr_st (G : ax_C Ω Γ y cc nL ret hh d) {k j r : Nat} {x v : Int32} (dec : decode cc pc = .ok (.iastore, 1)) (ha : Ω.2.1.heap.size ≤ a) (h1 : 4 ≤ k) (h2 : k ≤ 15) (hr : sIx k j = r) (hx : x = nI j) (hj : j < sLen k) (kk : ax_W Ω Γ kb nb (sH h a (upd σ.1 r v, σ.2)) (pc + 1) ls rest) : ax_W Ω Γ kb nb (sH h a σ) pc ls (.int v :: .int x :: .ref (a + k) :: rest) := by
  subst hr
  exact ax_iastore G j dec (sH_arr h1 h2) (Nat.le_trans ha (Nat.le_add_right _ _)) hx hj (by unfold sLen; split <;> decide) (ax_W_le (sH_st h1 h2 hj) kk)
end CSR
/-! what doesn't change while a state steps: the scope and its lists, the alerts, the rule. D: addresses (0 scope, 1 2 3 its lists, 4 5 6 their rows, 7 the alerts' row, 8 the rule); the lists' things; the rows; capacities and counts -/
abbrev cD : Type := (Nat → Nat) × (Nat → Nat → Nat) × (Nat → Nat → Option Nat) × (Nat → Nat) × (Nat → Int32)
/-- a list (j-th) at L of n things -/
def cLs (g : ax_H) (L n j e : Nat) (D : cD) : Prop := g.1 L = some (.inr (16, [.int (D.2.2.2.2 j), .ref e, .int (nI n)])) ∧ g.1 e = some (.inl (.object "java/lang/Object", D.2.2.2.1 j, .inr (.inr (.inr (.inr (D.2.2.1 j)))))) ∧ n ≤ D.2.2.2.1 j ∧ D.2.2.2.1 j < 1000 ∧ ∀ k, k < n → D.2.2.1 j k = some (D.2.1 j k)
def cSc (g : ax_H) (pl : pR) (P V O : Nat) (D : cD) : Prop := g.1 (D.1 0) = some (.inr (10, [.ref (D.1 1), .ref (D.1 2), .ref (D.1 3), .int (pl 0), .int (pl 1), .int (pl 2), .int (pl 3), .int (pl 4), .int (pl 6), .int (pl 7), .int (pl 8), .int (pl 9)])) ∧
  cLs g (D.1 1) P 0 (D.1 4) D ∧ cLs g (D.1 2) V 1 (D.1 5) D ∧ cLs g (D.1 3) O 2 (D.1 6) D ∧
  (∀ k, k < V → ∃ pr : Int32, g.1 (D.2.1 1 k) = some (.inr (13, [.int (pl (66 + 8 * k + 0)), .int (pl (66 + 8 * k + 1)), .int (pl (66 + 8 * k + 2)), .int (pl (66 + 8 * k + 3)), .int (pl (66 + 8 * k + 5)), .int pr, .int (pl (66 + 8 * k + 6)), .int (pl (66 + 8 * k + 7))]))) ∧
  (∀ k, k < O → g.1 (D.2.1 2 k) = some (.inr (15, [.int (pl (227 + 2 * k)), .int (pl (227 + 2 * k + 1))])))
/-- the alerts of the row s, in the list at L -/
def cAl (g : ax_H) (L : Nat) (s : pR) (A : Nat) (D : cD) : Prop := cLs g L A 3 (D.1 7) D ∧
  ∀ k, k < A → g.1 (D.2.1 3 k) = some (.inr (14, [.int (s (127 + 10 * k + 0)), .int (s (127 + 10 * k + 2)), .int (s (127 + 10 * k + 3)), .int (s (127 + 10 * k + 4)), .int (s (127 + 10 * k + 5)), .int (s (127 + 10 * k + 1)), .int (s (127 + 10 * k + 6))]))
/-- what a state's steps find: whatever the state's own cells hold -/
def cEn (h : ax_H) (a : Nat) (pl s : pR) (P V O A : Nat) (D : cD) : Prop := ∀ σ : cS, cSc (sH h a σ) pl P V O D ∧ cAl (sH h a σ) (a + 2) s A D
/-- s' tells the same of the alerts -/
def pIm (s s' : pR) : Prop := ∀ k, k < 10 → ∀ j, j < 7 → s' (127 + 10 * k + j) = s (127 + 10 * k + j)
theorem pIm.refl (s : pR) : pIm s s := fun _ _ _ _ => rfl
theorem pIm.trans {s t u : pR} (h1 : pIm s t) (h2 : pIm t u) : pIm s u := fun k hk j hj => (h2 k hk j hj).trans (h1 k hk j hj)
theorem pIm.up {s t : pR} (h : pIm s t) {i : Nat} {v : Int32} (hi : ∀ k, k < 10 → ∀ j, j < 7 → 127 + 10 * k + j ≠ i) : pIm s (upd t i v) := fun k hk j hj => (pu_ne (hi k hk j hj)).trans (h k hk j hj)
theorem cEn.im {h : ax_H} {a : Nat} {pl s s' : pR} {P V O A : Nat} {D : cD} (hE : cEn h a pl s P V O A D) (hA : A ≤ 10) (hi : pIm s s') : cEn h a pl s' P V O A D := by
  intro σ
  obtain ⟨h1, h2, h3⟩ := hE σ
  refine ⟨h1, h2, fun k hk => ?_⟩
  rw [h3 k hk]
  have := fun j hj => hi k (by omega) j hj
  rw [this 0 (by omega), this 1 (by omega), this 2 (by omega), this 3 (by omega), this 4 (by omega), this 5 (by omega), this 6 (by omega)]
