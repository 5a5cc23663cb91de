/-! WHAT IS READ: a text; its loop goes on -/
/-- κ' is behind κ; at a sign it has gone on -/
def pM (κ κ' : pK) : Prop := κ.1 ≤ κ'.1 ∧ (κ'.2.2.2.2.1 = 0 → κ'.2.1 = 4 → κ.1 < κ'.1)
section RT
variable {b f g : pR} {n P V A O : Nat} {κ κ' κ'' : pK}
theorem pM.trans (h1 : pM κ κ') (h2 : pM κ' κ'') : pM κ κ'' := ⟨Nat.le_trans h1.1 h2.1, fun a c => Nat.lt_of_le_of_lt h1.1 (h2.2 a c)⟩
theorem pM.le (h1 : κ.1 ≤ κ'.1) (h2 : pM κ' κ'') : pM κ κ'' := ⟨Nat.le_trans h1 h2.1, fun a c => Nat.lt_of_le_of_lt h1 (h2.2 a c)⟩
theorem pM_nx : pM κ (pNx b n κ) := by
  unfold pNx
  split
  · have hs := (pSkip_b b n (n - κ.1) κ.1).1
    unfold pTok pTokA
    generalize pSkip b n (n - κ.1) κ.1 = s at hs
    have h1 := (pRun_b b n (nI 97) (nI 122) (n - s) s).1
    have h2 := (pRun_b b n (nI 48) (nI 57) (n - s) s).1
    split
    · exact ⟨hs, fun _ z => by cases z⟩
    · split
      · refine ⟨Nat.le_trans hs h1, fun _ z => ?_⟩
        dsimp only at z
        split at z <;> cases z
      · split
        · refine ⟨Nat.le_trans hs h2, fun _ z => ?_⟩
          dsimp only at z
          split at z <;> cases z
        · exact ⟨by show κ.1 ≤ s + 1; omega, fun _ _ => by show κ.1 < s + 1; omega⟩
  · rename_i e
    exact ⟨Nat.le_refl _, fun z => absurd z e⟩
theorem pFl_1 {e : Nat} : (pFl κ e).1 = κ.1 := by unfold pFl; split <;> rfl
theorem pLook_1 {lo hi : Int32} : (pLook κ lo hi).1.1 = κ.1 := by
  unfold pLook
  split
  · split
    · split
      · rfl
      · exact pFl_1
    · exact pFl_1
  · rfl
theorem pM_num {lo hi : Int32} : pM κ (pNum b n κ lo hi).1 := pM.le (Nat.le_of_eq pLook_1.symm) pM_nx
theorem pM_lat : pM κ (pLatK b n κ).1 := by
  unfold pLatK
  split
  · exact pM_nx.trans pM_num
  · exact pM_num
theorem pM_beg {k mx : Nat} : pM κ (rBeg b n κ k mx) := by
  unfold rBeg
  split
  · exact pM.le (Nat.le_of_eq pFl_1.symm) pM_nx
  · exact pM_nx
theorem rPrA_1' : (rPrA κ).1 = κ.1 := by
  unfold rPrA
  split
  · split
    · rfl
    · exact pFl_1
  · rfl
theorem pM_pr : pM κ (pNx b n (if rPrV b (rPrA κ) f P = -1 then pFl (rPrA κ) 3 else rPrA κ)) := by
  refine pM.le ?_ pM_nx
  split
  · rw [pFl_1, rPrA_1']; exact Nat.le_refl _
  · rw [rPrA_1']; exact Nat.le_refl _
theorem pM_fl {e : Nat} (h : κ'.2.2.2.2.1 = 0) (he : e ≠ 0) (hm : κ.1 ≤ κ'.1) : pM κ (pFl κ' e) := ⟨by rw [pFl_1]; exact hm, fun z => by rw [pFl_c h] at z; exact absurd z he⟩
/-! reading on, by names -/
theorem rN_x (b : pR) (n : Nat) (κ : pK) (lo hi : Int32) : ∃ (k : pK) (v : Int32), pM κ k ∧ (pOK n κ → pOK n k) ∧ ∀ F : pK → Int32 → rS, rN b n κ lo hi F = F k v := ⟨_, _, pM_num, pNum_ok, fun _ => rfl⟩
theorem rL_x (b : pR) (n : Nat) (κ : pK) : ∃ (k : pK) (v : Int32), pM κ k ∧ (pOK n κ → pOK n k) ∧ ∀ F : pK → Int32 → rS, rL b n κ F = F k v := ⟨_, _, pM_lat, pLatK_ok, fun _ => rfl⟩
theorem rPr_x (b : pR) (n : Nat) (κ : pK) (f : pR) (P : Nat) : ∃ (k : pK) (v : Int32), pM κ k ∧ (pOK n κ → pOK n k) ∧ ∀ F : pK → Int32 → rS, rPr b n κ f P F = F k v := ⟨_, _, pM_pr, rPr_ok, fun _ => rfl⟩
theorem pM_proposal : pM κ (rProposal b n κ f g P).1 := by
  have hb := pM_beg (b := b) (n := n) (κ := κ) (k := P) (mx := 6)
  unfold rProposal
  split
  · rename_i h0
    split
    · split
      · obtain ⟨k0, v0, m0, o0, e0⟩ := rN_x b n (pNx b n (rBeg b n κ P 6)) (nI 0) (nI 9999)
        rw [e0]
        exact hb.trans (pM_nx.trans m0)
      · exact pM_fl h0 (by decide) hb.1
    · exact pM_fl h0 (by decide) hb.1
  · exact hb
theorem pM_visit : pM κ (rVisit b n κ f g P V).1 := by
  have hb := pM_beg (b := b) (n := n) (κ := κ) (k := V) (mx := 20)
  unfold rVisit
  split
  · obtain ⟨k0, v0, m0, o0, e0⟩ := rPr_x b n (rBeg b n κ V 20) f P
    rw [e0]
    obtain ⟨k1, v1, m1, o1, e1⟩ := rN_x b n k0 (nI 0) (nI 359)
    rw [e1]
    obtain ⟨k2, v2, m2, o2, e2⟩ := rL_x b n k1
    rw [e2]
    obtain ⟨k3, v3, m3, o3, e3⟩ := rN_x b n k2 (nI 1) (nI 300)
    rw [e3]
    obtain ⟨k4, v4, m4, o4, e4⟩ := rN_x b n k3 (nI 1) (nI 9)
    rw [e4]
    obtain ⟨k5, v5, m5, o5, e5⟩ := rN_x b n k4 (nI 0) (nI 99)
    rw [e5]
    obtain ⟨k6, v6, m6, o6, e6⟩ := rN_x b n k5 (nI 0) (nI 2000)
    rw [e6]
    obtain ⟨k7, v7, m7, o7, e7⟩ := rN_x b n k6 v6 (nI 2000)
    rw [e7]
    exact hb.trans (m0.trans (m1.trans (m2.trans (m3.trans (m4.trans (m5.trans (m6.trans (m7))))))))
  · exact hb
theorem pM_alert : pM κ (rAlert b n κ f g P A).1 := by
  have hb := pM_beg (b := b) (n := n) (κ := κ) (k := A) (mx := 5)
  unfold rAlert
  split
  · obtain ⟨k0, v0, m0, o0, e0⟩ := rPr_x b n (rBeg b n κ A 5) f P
    rw [e0]
    obtain ⟨k1, v1, m1, o1, e1⟩ := rN_x b n k0 (nI 0) (nI 2000)
    rw [e1]
    obtain ⟨k2, v2, m2, o2, e2⟩ := rN_x b n k1 (nI 0) (nI 359)
    rw [e2]
    obtain ⟨k3, v3, m3, o3, e3⟩ := rL_x b n k2
    rw [e3]
    obtain ⟨k4, v4, m4, o4, e4⟩ := rN_x b n k3 (nI 1) (nI 300)
    rw [e4]
    obtain ⟨k5, v5, m5, o5, e5⟩ := rN_x b n k4 (nI 0) (nI 99)
    rw [e5]
    obtain ⟨k6, v6, m6, o6, e6⟩ := rN_x b n k5 (nI 0) (nI 999)
    rw [e6]
    exact hb.trans (m0.trans (m1.trans (m2.trans (m3.trans (m4.trans (m5.trans (m6)))))))
  · exact hb
theorem pM_outage : pM κ (rOutage b n κ f g O).1 := by
  have hb := pM_beg (b := b) (n := n) (κ := κ) (k := O) (mx := 4)
  unfold rOutage
  split
  · obtain ⟨k0, v0, m0, o0, e0⟩ := rN_x b n (rBeg b n κ O 4) (nI 0) (nI 2000)
    rw [e0]
    obtain ⟨k1, v1, m1, o1, e1⟩ := rN_x b n k0 v0 (nI 2000)
    rw [e1]
    exact hb.trans (m0.trans (m1))
  · exact hb
theorem pM_line : κ.1 ≤ (rLine b n κ f g P V A O).1.1 ∧ ((rLine b n κ f g P V A O).1.2.2.2.2.1 = 0 → (rLine b n κ f g P V A O).1.2.1 = 4 → κ.1 < (rLine b n κ f g P V A O).1.1 ∨ pFl κ 1 = κ) := by
  unfold rLine
  split
  · have := pM_proposal (b := b) (n := n) (κ := κ) (f := f) (g := g) (P := P); exact ⟨this.1, fun a c => Or.inl (this.2 a c)⟩
  · split
    · have := pM_visit (b := b) (n := n) (κ := κ) (f := f) (g := g) (P := P) (V := V); exact ⟨this.1, fun a c => Or.inl (this.2 a c)⟩
    · split
      · have := pM_alert (b := b) (n := n) (κ := κ) (f := f) (g := g) (P := P) (A := A); exact ⟨this.1, fun a c => Or.inl (this.2 a c)⟩
      · split
        · have := pM_outage (b := b) (n := n) (κ := κ) (f := f) (g := g) (O := O); exact ⟨this.1, fun a c => Or.inl (this.2 a c)⟩
        · refine ⟨Nat.le_of_eq pFl_1.symm, fun a c => ?_⟩
          by_cases z : κ.2.2.2.2.1 = 0
          · rw [pFl_c z] at a; cases a
          · exact Or.inr (by rw [pFl, if_neg z])
/-- the lines of a text behind its first part, as long as a ';' stands there -/
def rLoop (b : pR) (n : Nat) : Nat → rS → rS
  | 0, ψ => ψ
  | q + 1, ψ => if pSg ψ.1 (nI 59) = true then rLoop b n q (rLine b n (pNx b n ψ.1) ψ.2.1 ψ.2.2 (pN (ψ.2.1 10)) (pN (ψ.2.1 65)) (pN (ψ.2.2 14)) (pN (ψ.2.1 226))) else ψ
theorem rLoop_s {q : Nat} {ψ : rS} : rLoop b n (q + 1) ψ = if pSg ψ.1 (nI 59) = true then rLoop b n q (rLine b n (pNx b n ψ.1) ψ.2.1 ψ.2.2 (pN (ψ.2.1 10)) (pN (ψ.2.1 65)) (pN (ψ.2.2 14)) (pN (ψ.2.1 226))) else ψ := rfl
theorem pSg_i {v : Int32} (h : pSg κ v = true) : κ.2.2.2.2.1 = 0 ∧ κ.2.1 = 4 := by
  unfold pSg at h
  split at h
  · split at h
    · rename_i a c; exact ⟨a, c⟩
    · cases h
  · cases h
/-- behind another line a sign stands farther on -/
theorem pM_loop {v : Int32} (h0 : pSg κ v = true) (h1 : pSg (rLine b n (pNx b n κ) f g P V A O).1 v = true) : κ.1 < (rLine b n (pNx b n κ) f g P V A O).1.1 := by
  obtain ⟨a, c⟩ := pSg_i h1
  have hn := pM_nx (b := b) (n := n) (κ := κ)
  have hl := pM_line (b := b) (n := n) (κ := pNx b n κ) (f := f) (g := g) (P := P) (V := V) (A := A) (O := O)
  rcases hl.2 a c with h | h
  · have := hn.1; omega
  · -- the register file had a fault already
    have hc : (pNx b n κ).2.2.2.2.1 = 0 := by
      obtain ⟨k0, -⟩ := pSg_i h0
      unfold pNx
      rw [if_pos k0]
      unfold pTok pTokA
      split
      · rfl
      · split
        · rfl
        · split <;> rfl
    have h2 : (pFl (pNx b n κ) 1).2.2.2.2.1 = 1 := pFl_c hc
    rw [h, hc] at h2; cases h2
theorem rLine_ok (h : pOK n κ) : pOK n (rLine b n κ f g P V A O).1 := by
  have hb := fun k mx => rBeg_ok (b := b) (n := n) (κ := κ) (k := k) (mx := mx) h
  unfold rLine
  split
  · unfold rProposal
    split
    · split
      · split
        · obtain ⟨k0, v0, m0, o0, e0⟩ := rN_x b n (pNx b n (rBeg b n κ P 6)) (nI 0) (nI 9999)
          rw [e0]
          exact o0 (pNx_ok (hb _ _))
        · exact pFl_ok (hb _ _) (by decide)
      · exact pFl_ok (hb _ _) (by decide)
    · exact hb _ _
  · split
    · unfold rVisit
      split
      · obtain ⟨k0, v0, m0, o0, e0⟩ := rPr_x b n (rBeg b n κ V 20) f P
        rw [e0]
        obtain ⟨k1, v1, m1, o1, e1⟩ := rN_x b n k0 (nI 0) (nI 359)
        rw [e1]
        obtain ⟨k2, v2, m2, o2, e2⟩ := rL_x b n k1
        rw [e2]
        obtain ⟨k3, v3, m3, o3, e3⟩ := rN_x b n k2 (nI 1) (nI 300)
        rw [e3]
        obtain ⟨k4, v4, m4, o4, e4⟩ := rN_x b n k3 (nI 1) (nI 9)
        rw [e4]
        obtain ⟨k5, v5, m5, o5, e5⟩ := rN_x b n k4 (nI 0) (nI 99)
        rw [e5]
        obtain ⟨k6, v6, m6, o6, e6⟩ := rN_x b n k5 (nI 0) (nI 2000)
        rw [e6]
        obtain ⟨k7, v7, m7, o7, e7⟩ := rN_x b n k6 v6 (nI 2000)
        rw [e7]
        exact o7 (o6 (o5 (o4 (o3 (o2 (o1 (o0 (hb _ _))))))))
      · exact hb _ _
    · split
      · unfold rAlert
        split
        · obtain ⟨k0, v0, m0, o0, e0⟩ := rPr_x b n (rBeg b n κ A 5) f P
          rw [e0]
          obtain ⟨k1, v1, m1, o1, e1⟩ := rN_x b n k0 (nI 0) (nI 2000)
          rw [e1]
          obtain ⟨k2, v2, m2, o2, e2⟩ := rN_x b n k1 (nI 0) (nI 359)
          rw [e2]
          obtain ⟨k3, v3, m3, o3, e3⟩ := rL_x b n k2
          rw [e3]
          obtain ⟨k4, v4, m4, o4, e4⟩ := rN_x b n k3 (nI 1) (nI 300)
          rw [e4]
          obtain ⟨k5, v5, m5, o5, e5⟩ := rN_x b n k4 (nI 0) (nI 99)
          rw [e5]
          obtain ⟨k6, v6, m6, o6, e6⟩ := rN_x b n k5 (nI 0) (nI 999)
          rw [e6]
          exact o6 (o5 (o4 (o3 (o2 (o1 (o0 (hb _ _)))))))
        · exact hb _ _
      · split
        · unfold rOutage
          split
          · obtain ⟨k0, v0, m0, o0, e0⟩ := rN_x b n (rBeg b n κ O 4) (nI 0) (nI 2000)
            rw [e0]
            obtain ⟨k1, v1, m1, o1, e1⟩ := rN_x b n k0 v0 (nI 2000)
            rw [e1]
            exact o1 (o0 (hb _ _))
          · exact hb _ _
        · exact pFl_ok h (by decide)
/-- the counts stay in their bounds -/
theorem rC_line (h : rC f g P V A O) : ∃ P' V' A' O', rC (rLine b n κ f g P V A O).2.1 (rLine b n κ f g P V A O).2.2 P' V' A' O' := by
  obtain ⟨⟨h1, h2, h3, h4⟩, hP, hV, hA, hO⟩ := h
  have same : ∃ P' V' A' O', rC f g P' V' A' O' := ⟨P, V, A, O, ⟨h1, h2, h3, h4⟩, hP, hV, hA, hO⟩
  unfold rLine
  split
  · unfold rProposal
    split
    · rename_i h0
      have hne := rBeg_lt h0
      split
      · rename_i ht
        have h8 := rBeg_w h0 ht
        split
        · obtain ⟨k0, v0, m0, o0, e0⟩ := rN_x b n (pNx b n (rBeg b n κ P 6)) (nI 0) (nI 9999)
          rw [e0]
          refine ⟨P + 1, V, A, O, ⟨?_, ?_, ?_, ?_⟩, by omega, hV, hA, hO⟩
          · show pAdd (rName _ _ _ _ _) 10 (nI 1) 10 = nI (P + 1)
            refine pAdd1 ?_
            unfold rName
            rw [pPut_out (by omega), pu_ne (by omega)]; exact h1
          · show pAdd (rName _ _ _ _ _) 10 (nI 1) 65 = nI V
            rw [pad_ne (by omega)]
            unfold rName
            rw [pPut_out (by omega), pu_ne (by omega)]; exact h2
          · show pAdd (rName _ _ _ _ _) 10 (nI 1) 226 = nI O
            rw [pad_ne (by omega)]
            unfold rName
            rw [pPut_out (by omega), pu_ne (by omega)]; exact h3
          · show upd g (17 + P) _ 14 = nI A
            rw [pu_ne (by omega)]; exact h4
        · exact same
      · exact same
    · exact same
  · split
    · unfold rVisit
      split
      · rename_i h0
        have hne := rBeg_lt h0
        obtain ⟨k0, v0, m0, o0, e0⟩ := rPr_x b n (rBeg b n κ V 20) f P
        rw [e0]
        obtain ⟨k1, v1, m1, o1, e1⟩ := rN_x b n k0 (nI 0) (nI 359)
        rw [e1]
        obtain ⟨k2, v2, m2, o2, e2⟩ := rL_x b n k1
        rw [e2]
        obtain ⟨k3, v3, m3, o3, e3⟩ := rN_x b n k2 (nI 1) (nI 300)
        rw [e3]
        obtain ⟨k4, v4, m4, o4, e4⟩ := rN_x b n k3 (nI 1) (nI 9)
        rw [e4]
        obtain ⟨k5, v5, m5, o5, e5⟩ := rN_x b n k4 (nI 0) (nI 99)
        rw [e5]
        obtain ⟨k6, v6, m6, o6, e6⟩ := rN_x b n k5 (nI 0) (nI 2000)
        rw [e6]
        obtain ⟨k7, v7, m7, o7, e7⟩ := rN_x b n k6 v6 (nI 2000)
        rw [e7]
        refine ⟨P, V + 1, A, O, ⟨?_, ?_, ?_, ?_⟩, hP, by omega, hA, hO⟩
        · dsimp only
          unfold pAdd
          rw [pu_ne (by omega), pu_ne (by omega), pu_ne (by omega), pu_ne (by omega), pu_ne (by omega), pu_ne (by omega), pu_ne (by omega), pu_ne (by omega)]; exact h1
        · dsimp only
          refine pAdd1 ?_
          rw [pu_ne (by omega), pu_ne (by omega), pu_ne (by omega), pu_ne (by omega), pu_ne (by omega), pu_ne (by omega), pu_ne (by omega)]; exact h2
        · dsimp only
          unfold pAdd
          rw [pu_ne (by omega), pu_ne (by omega), pu_ne (by omega), pu_ne (by omega), pu_ne (by omega), pu_ne (by omega), pu_ne (by omega), pu_ne (by omega)]; exact h3
        · dsimp only
          rw [pu_ne (by omega), pu_ne (by omega)]; exact h4
      · exact same
    · split
      · unfold rAlert
        split
        · rename_i h0
          have hne := rBeg_lt h0
          obtain ⟨k0, v0, m0, o0, e0⟩ := rPr_x b n (rBeg b n κ A 5) f P
          rw [e0]
          obtain ⟨k1, v1, m1, o1, e1⟩ := rN_x b n k0 (nI 0) (nI 2000)
          rw [e1]
          obtain ⟨k2, v2, m2, o2, e2⟩ := rN_x b n k1 (nI 0) (nI 359)
          rw [e2]
          obtain ⟨k3, v3, m3, o3, e3⟩ := rL_x b n k2
          rw [e3]
          obtain ⟨k4, v4, m4, o4, e4⟩ := rN_x b n k3 (nI 1) (nI 300)
          rw [e4]
          obtain ⟨k5, v5, m5, o5, e5⟩ := rN_x b n k4 (nI 0) (nI 99)
          rw [e5]
          obtain ⟨k6, v6, m6, o6, e6⟩ := rN_x b n k5 (nI 0) (nI 999)
          rw [e6]
          refine ⟨P, V, A + 1, O, ⟨h1, h2, h3, ?_⟩, hP, hV, by omega, hO⟩
          dsimp only
          refine pAdd1 ?_
          rw [pu_ne (by omega), pu_ne (by omega), pu_ne (by omega), pu_ne (by omega), pu_ne (by omega), pu_ne (by omega), pu_ne (by omega), pu_ne (by omega)]; exact h4
        · exact same
      · split
        · unfold rOutage
          split
          · rename_i h0
            have hne := rBeg_lt h0
            obtain ⟨k0, v0, m0, o0, e0⟩ := rN_x b n (rBeg b n κ O 4) (nI 0) (nI 2000)
            rw [e0]
            obtain ⟨k1, v1, m1, o1, e1⟩ := rN_x b n k0 v0 (nI 2000)
            rw [e1]
            refine ⟨P, V, A, O + 1, ⟨?_, ?_, ?_, h4⟩, hP, hV, hA, by omega⟩
            · dsimp only
              unfold pAdd
              rw [pu_ne (by omega), pu_ne (by omega), pu_ne (by omega)]; exact h1
            · dsimp only
              unfold pAdd
              rw [pu_ne (by omega), pu_ne (by omega), pu_ne (by omega)]; exact h2
            · dsimp only
              refine pAdd1 ?_
              rw [pu_ne (by omega), pu_ne (by omega)]; exact h3
          · exact same
        · exact same
/-- what ends a text -/
def rEnd (ψ : rS) : rS :=
  (if ψ.2.1 10 = 0 then pFl (if ψ.1.2.2.2.2.1 = 0 then (if ψ.1.2.1 = 1 then ψ.1 else pFl ψ.1 1) else ψ.1) 5 else (if ψ.1.2.2.2.2.1 = 0 then (if ψ.1.2.1 = 1 then ψ.1 else pFl ψ.1 1) else ψ.1), ψ.2.1, ψ.2.2)
def p0 : pR := fun _ => 0
/-- a text's reading from the register file κ on -/
def rText (b : pR) (n : Nat) (κ : pK) : rS := rEnd (rLoop b n 1001 (rFirst b n (pNx b n κ) p0 p0))
end RT
