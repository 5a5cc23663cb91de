/-! THE PURE LAW: what a text without fault leaves in the rows is in bounds -/
section LAWJ
variable {b f g f' g' : pR} {n P V A O N : Nat} {κ κ' : pK} {ψ : rS}
theorem vB_in {v lo hi : Int32} (h : pIn v lo hi = true) : vB v lo.toInt hi.toInt := by
  unfold pIn at h
  rw [Bool.and_eq_true, decide_eq_true_eq, decide_eq_true_eq] at h
  exact ⟨le_t.mp h.1, le_t.mp h.2⟩
theorem pLook_b {lo hi : Int32} (hl : lo.toInt ≤ hi.toInt) : vB (pLook κ lo hi).2 lo.toInt hi.toInt := by
  unfold pLook
  split
  · split
    · split
      · rename_i c; exact vB_in c
      · exact ⟨Int.le_refl _, hl⟩
    · exact ⟨Int.le_refl _, hl⟩
  · exact ⟨Int.le_refl _, hl⟩
/-- no fault behind: none before -/
def rSk (κ κ' : pK) : Prop := κ'.2.2.2.2.1 = 0 → κ.2.2.2.2.1 = 0
theorem rSk.t {k1 : pK} (a : rSk κ κ') (c : rSk κ' k1) : rSk κ k1 := fun z => a (c z)
theorem rSk_nx : rSk κ (pNx b n κ) := fun z => by
  by_cases c : κ.2.2.2.2.1 = 0
  · exact c
  · rwa [pNx_c c] at z
theorem rSk_fl {e : Nat} (he : e ≠ 0) : ¬ (pFl κ e).2.2.2.2.1 = 0 := fun z => by
  unfold pFl at z
  split at z
  · exact he z
  · rename_i c; exact c z
theorem rSk_look {lo hi : Int32} : rSk κ (pLook κ lo hi).1 := fun z => by
  unfold pLook at z
  split at z
  · rename_i c; exact c
  · exact z
theorem rSk_num {lo hi : Int32} : rSk κ (pNum b n κ lo hi).1 := rSk_look.t rSk_nx
theorem rSk_lat : rSk κ (pLatK b n κ).1 := by
  unfold pLatK
  split
  · exact rSk_nx.t rSk_num
  · exact rSk_num
theorem rSk_key {l : List Int32} : rSk κ (pKey b n κ l) := by
  unfold pKey
  split
  · exact rSk_nx
  · exact fun z => absurd z (rSk_fl (by decide))
theorem pLatK_b : vB (pLatK b n κ).2 (-90) 90 := by
  unfold pLatK
  split
  · have h : vB (pNum b n (pNx b n κ) (nI 0) (nI 90)).2 (nI 0).toInt (nI 90).toInt := pLook_b (by decide)
    rw [show (nI 0).toInt = 0 from by decide, show (nI 90).toInt = 90 from by decide] at h
    have e : (-(pNum b n (pNx b n κ) (nI 0) (nI 90)).2).toInt = -(pNum b n (pNx b n κ) (nI 0) (nI 90)).2.toInt := by
      have h1 := h.1
      have h2 := h.2
      rw [Int32.toInt_neg]
      exact bm_32 (by omega) (by omega)
    exact ⟨by show _ ≤ (-(pNum b n (pNx b n κ) (nI 0) (nI 90)).2).toInt; rw [e]; have := h.2; omega, by show (-(pNum b n (pNx b n κ) (nI 0) (nI 90)).2).toInt ≤ _; rw [e]; have := h.1; omega⟩
  · have h : vB (pNum b n κ (nI 0) (nI 90)).2 (nI 0).toInt (nI 90).toInt := pLook_b (by decide)
    rw [show (nI 0).toInt = 0 from by decide, show (nI 90).toInt = 90 from by decide] at h
    exact ⟨by have := h.1; omega, h.2⟩
theorem rN_y (b : pR) (n : Nat) (κ : pK) (lo hi : Int32) : ∃ (k : pK) (v : Int32), rSk κ k ∧ (lo.toInt ≤ hi.toInt → vB v lo.toInt hi.toInt) ∧ ∀ F : pK → Int32 → rS, rN b n κ lo hi F = F k v := ⟨_, _, rSk_num, fun h => pLook_b h, fun _ => rfl⟩
theorem rL_y (b : pR) (n : Nat) (κ : pK) : ∃ (k : pK) (v : Int32), rSk κ k ∧ vB v (-90) 90 ∧ ∀ F : pK → Int32 → rS, rL b n κ F = F k v := ⟨_, _, rSk_lat, pLatK_b, fun _ => rfl⟩
theorem rG_y (b : pR) (n : Nat) (κ : pK) (l : List Int32) (lo hi : Int32) : ∃ (k : pK) (v : Int32), rSk κ k ∧ (lo.toInt ≤ hi.toInt → vB v lo.toInt hi.toInt) ∧ ∀ F : pK → Int32 → rS, rG b n κ l lo hi F = F k v := ⟨_, _, rSk_key.t rSk_num, fun h => pLook_b h, fun _ => rfl⟩
theorem rPr_y (b : pR) (n : Nat) (κ : pK) (f : pR) (P : Nat) : ∃ (k : pK) (v : Int32), (k.2.2.2.2.1 = 0 → κ.2.2.2.2.1 = 0 ∧ ∃ q, q < P ∧ v = nI q) ∧ ∀ F : pK → Int32 → rS, rPr b n κ f P F = F k v := by
  refine ⟨_, _, fun z => ?_, fun _ => rfl⟩
  have z1 := rSk_nx z
  by_cases c : rPrV b (rPrA κ) f P = -1
  · rw [if_pos c] at z1; exact absurd z1 (rSk_fl (by decide))
  rw [if_neg c] at z1
  have z2 : κ.2.2.2.2.1 = 0 := by
    by_cases d : κ.2.2.2.2.1 = 0
    · exact d
    · unfold rPrA at z1; rwa [if_neg d] at z1
  refine ⟨z2, ?_⟩
  unfold rPrV at c ⊢
  rw [if_pos z1] at c ⊢
  cases e : rNm b (rPrA κ).2.2.1 (rLn (rPrA κ)) f P 0 with
  | none => rw [e] at c; exact absurd rfl c
  | some k => exact ⟨k, by have := (rNm_l e).2; omega, rfl⟩
/-- what is read of a visit -/
def rIv (f g : pR) (k : Nat) : Prop := (∃ q, q < 6 ∧ f (66 + 8 * k) = nI q) ∧ (vB (f (66 + 8 * k + 1)) 0 359 ∧ vB (f (66 + 8 * k + 2)) (-90) 90 ∧ vB (f (66 + 8 * k + 3)) 1 300 ∧ vB (f (66 + 8 * k + 5)) 0 99 ∧ vB (f (66 + 8 * k + 6)) 0 2000 ∧ vB (f (66 + 8 * k + 7)) 0 2000) ∧ vB (g (107 + k)) 1 9 ∧ g (87 + k) = -1
def rIa (g : pR) (k : Nat) : Prop := (∃ q, q < 6 ∧ g (127 + 10 * k) = nI q) ∧ (vB (g (127 + 10 * k + 1)) 0 2000 ∧ vB (g (127 + 10 * k + 2)) 0 359 ∧ vB (g (127 + 10 * k + 3)) (-90) 90 ∧ vB (g (127 + 10 * k + 4)) 1 300 ∧ vB (g (127 + 10 * k + 5)) 0 99 ∧ vB (g (127 + 10 * k + 6)) 0 999) ∧ g (127 + 10 * k + 7) = 0 ∧ g (127 + 10 * k + 8) = -1 ∧ g (127 + 10 * k + 9) = 0
def rIg (f g : pR) : Prop := (vB (f 0) 60 2000 ∧ vB (f 1) 0 60 ∧ vB (f 2) 1 90 ∧ vB (f 3) 1 9999 ∧ vB (f 4) 1 99 ∧ vB (f 6) 1 99 ∧ vB (f 7) 0 359 ∧ vB (f 8) 1 999 ∧ vB (f 9) 0 170) ∧ vB (g 15) 10 2000
def rIz (P V A i : Nat) : Prop := i ≠ 14 ∧ i ≠ 15 ∧ (i < 17 ∨ 17 + P ≤ i) ∧ (i < 87 ∨ 87 + V ≤ i) ∧ (i < 107 ∨ 107 + V ≤ i) ∧ (i < 127 ∨ 127 + 10 * A ≤ i)
/-- what is read of the rows, without a fault -/
def rI (f g : pR) (P V A : Nat) : Prop := rIg f g ∧ (∀ k, k < V → rIv f g k) ∧ (∀ k, V ≤ k → k < 20 → ∀ j, j < 8 → f (66 + 8 * k + j) = 0) ∧ (∀ k, k < A → rIa g k) ∧ (∀ p, p < P → vB (g (17 + p)) 0 9999) ∧ ∀ i, rIz P V A i → g i = 0
theorem rVisitB_v (hP : P ≤ 6) (h : ψ = rVisitB b n κ f g P V) (h0 : ψ.1.2.2.2.2.1 = 0) : κ.2.2.2.2.1 = 0 ∧ rIv ψ.2.1 ψ.2.2 V ∧ ψ.2.1 (66 + 8 * V + 4) = f (66 + 8 * V + 4) := by
  rw [rVisitB] at h
  obtain ⟨k0, v0, m0, e0⟩ := rPr_y b n κ f P
  rw [e0] at h
  obtain ⟨k1, v1, m1, o1, e1⟩ := rN_y b n k0 (nI 0) (nI 359)
  rw [e1] at h
  obtain ⟨k2, v2, m2, o2, e2⟩ := rL_y b n k1
  rw [e2] at h
  obtain ⟨k3, v3, m3, o3, e3⟩ := rN_y b n k2 (nI 1) (nI 300)
  rw [e3] at h
  obtain ⟨k4, v4, m4, o4, e4⟩ := rN_y b n k3 (nI 1) (nI 9)
  rw [e4] at h
  obtain ⟨k5, v5, m5, o5, e5⟩ := rN_y b n k4 (nI 0) (nI 99)
  rw [e5] at h
  obtain ⟨k6, v6, m6, o6, e6⟩ := rN_y b n k5 (nI 0) (nI 2000)
  rw [e6] at h
  obtain ⟨k7, v7, m7, o7, e7⟩ := rN_y b n k6 v6 (nI 2000)
  rw [e7] at h
  rw [h] at h0 ⊢
  obtain ⟨z0, q, hq, hv⟩ := m0 (m1 (m2 (m3 (m4 (m5 (m6 (m7 h0)))))))
  have b1 := o1 (by decide)
  have b3 := o3 (by decide)
  have b4 := o4 (by decide)
  have b5 := o5 (by decide)
  have b6 := o6 (by decide)
  rw [show (nI 0).toInt = 0 from by decide] at b1 b5 b6
  rw [show (nI 2000).toInt = 2000 from by decide] at b6
  have b7 := o7 b6.2
  rw [show (nI 2000).toInt = 2000 from by decide] at b7
  refine ⟨z0, ⟨⟨q, by omega, ?_⟩, ⟨?_, ?_, ?_, ?_, ?_, ?_⟩, ?_, ?_⟩, ?_⟩
  · show pAdd _ 65 _ (66 + 8 * V) = _
    rw [pad_ne (by omega), pu_ne (by omega), pu_ne (by omega), pu_ne (by omega), pu_ne (by omega), pu_ne (by omega), pu_ne (by omega), show 66 + 8 * V = 66 + 8 * V + 0 from rfl, pu_eq]; exact hv
  · show vB (pAdd _ 65 _ (66 + 8 * V + 1)) _ _
    rw [pad_ne (by omega), pu_ne (by omega), pu_ne (by omega), pu_ne (by omega), pu_ne (by omega), pu_ne (by omega), pu_eq]; exact b1
  · show vB (pAdd _ 65 _ (66 + 8 * V + 2)) _ _
    rw [pad_ne (by omega), pu_ne (by omega), pu_ne (by omega), pu_ne (by omega), pu_ne (by omega), pu_eq]; exact o2
  · show vB (pAdd _ 65 _ (66 + 8 * V + 3)) _ _
    rw [pad_ne (by omega), pu_ne (by omega), pu_ne (by omega), pu_ne (by omega), pu_eq]; exact b3
  · show vB (pAdd _ 65 _ (66 + 8 * V + 5)) _ _
    rw [pad_ne (by omega), pu_ne (by omega), pu_ne (by omega), pu_eq]; exact b5
  · show vB (pAdd _ 65 _ (66 + 8 * V + 6)) _ _
    rw [pad_ne (by omega), pu_ne (by omega), pu_eq]; exact b6
  · show vB (pAdd _ 65 _ (66 + 8 * V + 7)) _ _
    rw [pad_ne (by omega), pu_eq]; exact ⟨Int.le_trans b6.1 b7.1, b7.2⟩
  · show vB (upd (upd g _ _) _ _ (107 + V)) _ _
    rw [pu_ne (by omega), pu_eq]; exact b4
  · show upd (upd g _ _) _ _ (87 + V) = _
    rw [pu_eq]
  · show pAdd _ 65 _ (66 + 8 * V + 4) = _
    rw [pad_ne (by omega), pu_ne (by omega), pu_ne (by omega), pu_ne (by omega), pu_ne (by omega), pu_ne (by omega), pu_ne (by omega), pu_ne (by omega)]
theorem rAlertB_v (hP : P ≤ 6) (h7 : g (127 + 10 * A + 7) = 0) (h9 : g (127 + 10 * A + 9) = 0) (h : ψ = rAlertB b n κ f g P A) (h0 : ψ.1.2.2.2.2.1 = 0) : κ.2.2.2.2.1 = 0 ∧ rIa ψ.2.2 A := by
  rw [rAlertB] at h
  obtain ⟨k0, v0, m0, e0⟩ := rPr_y b n κ f P
  rw [e0] at h
  obtain ⟨k1, v1, m1, o1, e1⟩ := rN_y b n k0 (nI 0) (nI 2000)
  rw [e1] at h
  obtain ⟨k2, v2, m2, o2, e2⟩ := rN_y b n k1 (nI 0) (nI 359)
  rw [e2] at h
  obtain ⟨k3, v3, m3, o3, e3⟩ := rL_y b n k2
  rw [e3] at h
  obtain ⟨k4, v4, m4, o4, e4⟩ := rN_y b n k3 (nI 1) (nI 300)
  rw [e4] at h
  obtain ⟨k5, v5, m5, o5, e5⟩ := rN_y b n k4 (nI 0) (nI 99)
  rw [e5] at h
  obtain ⟨k6, v6, m6, o6, e6⟩ := rN_y b n k5 (nI 0) (nI 999)
  rw [e6] at h
  rw [h] at h0 ⊢
  obtain ⟨z0, q, hq, hv⟩ := m0 (m1 (m2 (m3 (m4 (m5 (m6 h0))))))
  have b1 := o1 (by decide)
  have b2 := o2 (by decide)
  have b4 := o4 (by decide)
  have b5 := o5 (by decide)
  have b6 := o6 (by decide)
  refine ⟨z0, ⟨⟨q, by omega, ?_⟩, ⟨?_, ?_, ?_, ?_, ?_, ?_⟩, ?_, ?_, ?_⟩⟩
  · show pAdd _ 14 _ (127 + 10 * A) = _
    rw [pad_ne (by omega), pu_ne (by omega), pu_ne (by omega), pu_ne (by omega), pu_ne (by omega), pu_ne (by omega), pu_ne (by omega), pu_ne (by omega), show 127 + 10 * A = 127 + 10 * A + 0 from rfl, pu_eq]; exact hv
  · show vB (pAdd _ 14 _ (127 + 10 * A + 1)) _ _
    rw [pad_ne (by omega), pu_ne (by omega), pu_ne (by omega), pu_ne (by omega), pu_ne (by omega), pu_ne (by omega), pu_ne (by omega), pu_eq]; exact b1
  · show vB (pAdd _ 14 _ (127 + 10 * A + 2)) _ _
    rw [pad_ne (by omega), pu_ne (by omega), pu_ne (by omega), pu_ne (by omega), pu_ne (by omega), pu_ne (by omega), pu_eq]; exact b2
  · show vB (pAdd _ 14 _ (127 + 10 * A + 3)) _ _
    rw [pad_ne (by omega), pu_ne (by omega), pu_ne (by omega), pu_ne (by omega), pu_ne (by omega), pu_eq]; exact o3
  · show vB (pAdd _ 14 _ (127 + 10 * A + 4)) _ _
    rw [pad_ne (by omega), pu_ne (by omega), pu_ne (by omega), pu_ne (by omega), pu_eq]; exact b4
  · show vB (pAdd _ 14 _ (127 + 10 * A + 5)) _ _
    rw [pad_ne (by omega), pu_ne (by omega), pu_ne (by omega), pu_eq]; exact b5
  · show vB (pAdd _ 14 _ (127 + 10 * A + 6)) _ _
    rw [pad_ne (by omega), pu_ne (by omega), pu_eq]; exact b6
  · show pAdd _ 14 _ (127 + 10 * A + 7) = _
    rw [pad_ne (by omega), pu_ne (by omega), pu_ne (by omega), pu_ne (by omega), pu_ne (by omega), pu_ne (by omega), pu_ne (by omega), pu_ne (by omega), pu_ne (by omega)]; exact h7
  · show pAdd _ 14 _ (127 + 10 * A + 8) = _
    rw [pad_ne (by omega), pu_eq]
  · show pAdd _ 14 _ (127 + 10 * A + 9) = _
    rw [pad_ne (by omega), pu_ne (by omega), pu_ne (by omega), pu_ne (by omega), pu_ne (by omega), pu_ne (by omega), pu_ne (by omega), pu_ne (by omega), pu_ne (by omega)]; exact h9
theorem rProposalB_v (hl : κ.2.1 = 2 → rLn κ ≤ 8) (h : ψ = rProposalB b n κ f g P) (h0 : ψ.1.2.2.2.2.1 = 0) : κ.2.2.2.2.1 = 0 ∧ vB (ψ.2.2 (17 + P)) 0 9999 ∧ ∀ i, i < 10 → ψ.2.1 i = f i := by
  rw [rProposalB] at h
  split at h
  · rename_i e2
    split at h
    · obtain ⟨k0, v0, m0, o0, e0⟩ := rN_y b n (pNx b n κ) (nI 0) (nI 9999)
      rw [e0] at h
      rw [h] at h0 ⊢
      have h8 := hl e2
      refine ⟨rSk_nx (m0 h0), ?_, fun i hi => ?_⟩
      · show vB (upd g _ _ (17 + P)) _ _
        rw [pu_eq]; exact o0 (by decide)
      · show pAdd _ 10 _ i = f i
        rw [pad_ne (by omega), rName, pPut_out (by omega), pu_ne (by omega)]
    · rw [h] at h0; exact absurd h0 (rSk_fl (by decide))
  · rw [h] at h0; exact absurd h0 (rSk_fl (by decide))
theorem rIv.cg {k : Nat} (x : rIv f g k) (e : ∀ j, j < 8 → f' (66 + 8 * k + j) = f (66 + 8 * k + j)) (e1 : g' (107 + k) = g (107 + k)) (e2 : g' (87 + k) = g (87 + k)) : rIv f' g' k := by
  unfold rIv at x ⊢
  rw [show f' (66 + 8 * k) = f (66 + 8 * k) from e 0 (by omega), e 1 (by omega), e 2 (by omega), e 3 (by omega), e 5 (by omega), e 6 (by omega), e 7 (by omega), e1, e2]
  exact x
theorem rIa.cg {k : Nat} (x : rIa g k) (e : ∀ j, j < 10 → g' (127 + 10 * k + j) = g (127 + 10 * k + j)) : rIa g' k := by
  unfold rIa at x ⊢
  rw [show g' (127 + 10 * k) = g (127 + 10 * k) from e 0 (by omega), e 1 (by omega), e 2 (by omega), e 3 (by omega), e 4 (by omega), e 5 (by omega), e 6 (by omega), e 7 (by omega), e 8 (by omega), e 9 (by omega)]
  exact x
theorem rIg.cg (x : rIg f g) (e : ∀ i, i < 10 → f' i = f i) (e1 : g' 15 = g 15) : rIg f' g' := by
  unfold rIg at x ⊢
  rw [e 0 (by omega), e 1 (by omega), e 2 (by omega), e 3 (by omega), e 4 (by omega), e 6 (by omega), e 7 (by omega), e 8 (by omega), e 9 (by omega), e1]
  exact x
/-- one kind more -/
theorem rI.visit (x : rI f g P V A) (hP : P ≤ 6) (hA : A ≤ 5) (hV : V < 20) (h1 : (∀ j, j ≠ 65 → (j < 66 + 8 * V ∨ 66 + 8 * V + 8 ≤ j) → f' j = f j) ∧ ∀ j, j ≠ 107 + V → j ≠ 87 + V → g' j = g j) (h2 : rIv f' g' V) : rI f' g' P (V + 1) A := by
  obtain ⟨x1, x2, x3, x4, x5, x6⟩ := x
  obtain ⟨y1, y2⟩ := h1
  refine ⟨x1.cg (fun i hi => y1 i (by omega) (by omega)) (y2 _ (by omega) (by omega)), fun k hk => ?_, fun k hk hk2 j hj => (y1 _ (by omega) (by omega)).trans (x3 k (by omega) hk2 j hj), fun k hk => (x4 k hk).cg fun j hj => y2 _ (by omega) (by omega), fun p hp => by rw [y2 _ (by omega) (by omega)]; exact x5 p hp, fun i hi => ?_⟩
  · by_cases e : k = V
    · subst e; exact h2
    · exact (x2 k (by omega)).cg (fun j hj => y1 _ (by omega) (by omega)) (y2 _ (by omega) (by omega)) (y2 _ (by omega) (by omega))
  · obtain ⟨i1, i2, i3, i4, i5, i6⟩ := hi
    rw [y2 _ (by omega) (by omega)]
    exact x6 i ⟨i1, i2, i3, by omega, by omega, i6⟩
theorem rI.alert (x : rI f g P V A) (hP : P ≤ 6) (hV : V ≤ 20) (hA : A < 5) (h1 : f' = f ∧ ∀ j, j ≠ 14 → (j < 127 + 10 * A ∨ 127 + 10 * A + 10 ≤ j) → g' j = g j) (h2 : rIa g' A) : rI f' g' P V (A + 1) := by
  obtain ⟨x1, x2, x3, x4, x5, x6⟩ := x
  obtain ⟨rfl, y2⟩ := h1
  refine ⟨x1.cg (fun i hi => rfl) (y2 _ (by omega) (by omega)), fun k hk => (x2 k hk).cg (fun j hj => rfl) (y2 _ (by omega) (by omega)) (y2 _ (by omega) (by omega)), x3, fun k hk => ?_, fun p hp => by rw [y2 _ (by omega) (by omega)]; exact x5 p hp, fun i hi => ?_⟩
  · by_cases e : k = A
    · subst e; exact h2
    · exact (x4 k (by omega)).cg fun j hj => y2 _ (by omega) (by omega)
  · obtain ⟨i1, i2, i3, i4, i5, i6⟩ := hi
    rw [y2 _ (by omega) (by omega)]
    exact x6 i ⟨i1, i2, i3, i4, i5, by omega⟩
theorem rI.outage (x : rI f g P V A) (hV : V ≤ 20) (h1 : (∀ j, j ≠ 226 → j ≠ 227 + 2 * O → j ≠ 227 + 2 * O + 1 → f' j = f j) ∧ g' = g) : rI f' g' P V A := by
  obtain ⟨x1, x2, x3, x4, x5, x6⟩ := x
  obtain ⟨y1, rfl⟩ := h1
  exact ⟨x1.cg (fun i hi => y1 i (by omega) (by omega) (by omega)) rfl, fun k hk => (x2 k hk).cg (fun j hj => y1 _ (by omega) (by omega) (by omega)) rfl rfl, fun k hk hk2 j hj => (y1 _ (by omega) (by omega) (by omega)).trans (x3 k hk hk2 j hj), x4, x5, x6⟩
theorem rI.proposal (x : rI f g P V A) (hP : P < 6) (h1 : (∀ j, 17 + 8 * P + 8 ≤ j → f' j = f j) ∧ ∀ j, j ≠ 17 + P → g' j = g j) (h2 : vB (g' (17 + P)) 0 9999) (h3 : ∀ i, i < 10 → f' i = f i) : rI f' g' (P + 1) V A := by
  obtain ⟨x1, x2, x3, x4, x5, x6⟩ := x
  obtain ⟨y1, y2⟩ := h1
  refine ⟨x1.cg h3 (y2 _ (by omega)), fun k hk => (x2 k hk).cg (fun j hj => y1 _ (by omega)) (y2 _ (by omega)) (y2 _ (by omega)), fun k hk hk2 j hj => (y1 _ (by omega)).trans (x3 k hk hk2 j hj), fun k hk => (x4 k hk).cg fun j hj => y2 _ (by omega), fun p hp => ?_, fun i hi => ?_⟩
  · by_cases e : p = P
    · subst e; exact h2
    · rw [y2 _ (by omega)]; exact x5 p (by omega)
  · obtain ⟨i1, i2, i3, i4, i5, i6⟩ := hi
    rw [y2 _ (by omega)]
    exact x6 i ⟨i1, i2, by omega, i4, i5, i6⟩
theorem rBeg_s {k mx : Nat} : rSk κ (rBeg b n κ k mx) := by
  unfold rBeg
  split
  · exact fun z => absurd (rSk_nx z) (rSk_fl (by decide))
  · exact rSk_nx
theorem rI.line (x : rI f g P V A) (c : rC f g P V A O) (h : ψ = rLine b n κ f g P V A O) (h0 : ψ.1.2.2.2.2.1 = 0) : κ.2.2.2.2.1 = 0 ∧ ∃ P' V' A' O', rC ψ.2.1 ψ.2.2 P' V' A' O' ∧ rI ψ.2.1 ψ.2.2 P' V' A' := by
  obtain ⟨-, hP, hV, hA, hO⟩ := id c
  unfold rLine at h
  split at h
  · by_cases z : (rBeg b n κ P 6).2.2.2.2.1 = 0
    · rw [rProposal_e z] at h
      have lt : P < 6 := by have := rBeg_lt z; omega
      have v := rProposalB_v (fun h2 => rBeg_w z h2) h h0
      have fr := rProposalB_f (fun h2 => rBeg_w z h2) h
      have e1 := rProposalB_n z (fun h2 => rBeg_w z h2) h h0
      exact ⟨rBeg_s z, _, _, _, _, c.proposal lt fr e1, x.proposal lt fr v.2.1 v.2.2⟩
    · rw [rProposal, if_neg z] at h; rw [h] at h0; exact absurd h0 z
  · split at h
    · by_cases z : (rBeg b n κ V 20).2.2.2.2.1 = 0
      · rw [rVisit_e z] at h
        have lt : V < 20 := by have := rBeg_lt z; omega
        have v := rVisitB_v hP h h0
        have fr := rVisitB_f h
        exact ⟨rBeg_s z, _, _, _, _, c.visit lt fr (rVisitB_n h), x.visit hP hA lt fr v.2.1⟩
      · rw [rVisit, if_neg z] at h; rw [h] at h0; exact absurd h0 z
    · split at h
      · by_cases z : (rBeg b n κ A 5).2.2.2.2.1 = 0
        · rw [rAlert_e z] at h
          have lt : A < 5 := by have := rBeg_lt z; omega
          have v := rAlertB_v hP (x.2.2.2.2.2 _ ⟨by omega, by omega, by omega, by omega, by omega, by omega⟩) (x.2.2.2.2.2 _ ⟨by omega, by omega, by omega, by omega, by omega, by omega⟩) h h0
          have fr := rAlertB_f h
          exact ⟨rBeg_s z, _, _, _, _, c.alert lt fr (rAlertB_n h), x.alert hP hV lt fr v.2⟩
        · rw [rAlert, if_neg z] at h; rw [h] at h0; exact absurd h0 z
      · split at h
        · by_cases z : (rBeg b n κ O 4).2.2.2.2.1 = 0
          · rw [rOutage_e z] at h
            have lt : O < 4 := by have := rBeg_lt z; omega
            have fr := rOutageB_f h
            exact ⟨rBeg_s z, _, _, _, _, c.outage lt fr (rOutageB_n h), x.outage hV fr⟩
          · rw [rOutage, if_neg z] at h; rw [h] at h0; exact absurd h0 z
        · rw [h] at h0; exact absurd h0 (rSk_fl (by decide))
/-- the counts are told by the rows -/
theorem rC.u {P' V' A' O' : Nat} (c : rC f g P V A O) (d : rC f g P' V' A' O') : P' = P ∧ V' = V ∧ A' = A ∧ O' = O := by
  obtain ⟨⟨c1, c2, c3, c4⟩, c5, c6, c7, c8⟩ := c
  obtain ⟨⟨d1, d2, d3, d4⟩, d5, d6, d7, d8⟩ := d
  exact ⟨(nI_eq (by omega) (by omega)).mp (d1.symm.trans c1), (nI_eq (by omega) (by omega)).mp (d2.symm.trans c2), (nI_eq (by omega) (by omega)).mp (d4.symm.trans c4), (nI_eq (by omega) (by omega)).mp (d3.symm.trans c3)⟩
def rJ (ψ : rS) : Prop := ψ.1.2.2.2.2.1 = 0 → ∃ P V A O, rC ψ.2.1 ψ.2.2 P V A O ∧ rI ψ.2.1 ψ.2.2 P V A
theorem rJ_loop {q : Nat} : ∀ {ψ : rS}, rJ ψ → rJ (rLoop b n q ψ) := by
  induction q with
  | zero => exact fun h => h
  | succ q ih =>
    intro ψ h
    rw [rLoop_s]
    split
    · rename_i hs
      obtain ⟨P, V, A, O, c, x⟩ := h (pSg_i hs).1
      obtain ⟨⟨c1, c2, c3, c4⟩, c5, c6, c7, c8⟩ := id c
      refine ih fun z => ?_
      rw [c1, c2, c3, c4, pN_nI (by omega), pN_nI (by omega), pN_nI (by omega), pN_nI (by omega)] at z ⊢
      exact (x.line c rfl z).2
    · exact h
theorem rJ_first : rJ (rFirst b n κ p0 p0) := by
  intro z
  obtain ⟨ψ, h⟩ : ∃ ψ, ψ = rFirst b n κ p0 p0 := ⟨_, rfl⟩
  rw [← h] at z ⊢
  rw [rFirst] at h
  obtain ⟨k1, v1, m1, o1, e1⟩ := rG_y b n (pKey b n κ (sL "scope")) (sL "horizon") (nI 60) (nI 2000)
  rw [e1] at h
  obtain ⟨k2, v2, m2, o2, e2⟩ := rG_y b n k1 (sL "settle") (nI 0) (nI 60)
  rw [e2] at h
  obtain ⟨k3, v3, m3, o3, e3⟩ := rG_y b n k2 (sL "speed") (nI 1) (nI 90)
  rw [e3] at h
  obtain ⟨k4, v4, m4, o4, e4⟩ := rG_y b n k3 (sL "cap") (nI 1) (nI 9999)
  rw [e4] at h
  obtain ⟨k5, v5, m5, o5, e5⟩ := rG_y b n k4 (sL "dump") (nI 1) (nI 99)
  rw [e5] at h
  obtain ⟨k6, v6, m6, o6, e6⟩ := rG_y b n k5 (sL "cadence") (nI 10) (nI 2000)
  rw [e6] at h
  obtain ⟨k7, v7, m7, o7, e7⟩ := rG_y b n k6 (sL "cal") (nI 1) (nI 99)
  rw [e7] at h
  obtain ⟨k8, v8, m8, o8, e8⟩ := rG_y b n k7 (sL "sun") (nI 0) (nI 359)
  rw [e8] at h
  obtain ⟨k9, v9, m9, o9, e9⟩ := rG_y b n k8 (sL "drift") (nI 1) (nI 999)
  rw [e9] at h
  obtain ⟨k10, v10, m10, o10, e10⟩ := rG_y b n k9 (sL "avoid") (nI 0) (nI 170)
  rw [e10] at h
  rw [h]
  have hf : ∀ i, 10 ≤ i → upd (upd (upd (upd (upd (upd (upd (upd (upd p0 0 v1) 1 v2) 2 v3) 3 v4) 4 v5) 6 v7) 7 v8) 8 v9) 9 v10 i = 0 := fun i hi => by
    rw [pu_ne (by omega), pu_ne (by omega), pu_ne (by omega), pu_ne (by omega), pu_ne (by omega), pu_ne (by omega), pu_ne (by omega), pu_ne (by omega), pu_ne (by omega)]; rfl
  have hg : ∀ i, i ≠ 15 → upd p0 15 v6 i = 0 := fun i hi => by rw [pu_ne hi]; rfl
  refine ⟨0, 0, 0, 0, ⟨⟨hf 10 (by omega), hf 65 (by omega), hf 226 (by omega), hg 14 (by omega)⟩, by omega, by omega, by omega, by omega⟩, ⟨⟨?_, ?_, ?_, ?_, ?_, ?_, ?_, ?_, ?_⟩, ?_⟩, fun k hk => absurd hk (Nat.not_lt_zero _), fun k _ _ j _ => hf _ (by omega), fun k hk => absurd hk (Nat.not_lt_zero _), fun k hk => absurd hk (Nat.not_lt_zero _), fun i hi => hg i hi.2.1⟩
  · exact o1 (by decide)
  · exact o2 (by decide)
  · exact o3 (by decide)
  · exact o4 (by decide)
  · exact o5 (by decide)
  · exact o7 (by decide)
  · exact o8 (by decide)
  · exact o9 (by decide)
  · exact o10 (by decide)
  · exact o6 (by decide)
theorem rJ_text : rJ (rText b n κ) := by
  have h : rJ (rLoop b n 1001 (rFirst b n (pNx b n κ) p0 p0)) := rJ_loop rJ_first
  unfold rText
  generalize rLoop b n 1001 (rFirst b n (pNx b n κ) p0 p0) = ψ at h
  intro z
  refine h ?_
  have z1 : (if ψ.1.2.2.2.2.1 = 0 then (if ψ.1.2.1 = 1 then ψ.1 else pFl ψ.1 1) else ψ.1).2.2.2.2.1 = 0 := by
    have z0 : (if ψ.2.1 10 = 0 then pFl (if ψ.1.2.2.2.2.1 = 0 then (if ψ.1.2.1 = 1 then ψ.1 else pFl ψ.1 1) else ψ.1) 5 else (if ψ.1.2.2.2.2.1 = 0 then (if ψ.1.2.1 = 1 then ψ.1 else pFl ψ.1 1) else ψ.1)).2.2.2.2.1 = 0 := z
    split at z0
    · exact absurd z0 (rSk_fl (by decide))
    · exact z0
  by_cases c : ψ.1.2.2.2.2.1 = 0
  · exact c
  · rw [if_neg c] at z1; exact z1
end LAWJ
