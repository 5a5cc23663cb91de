/-! TelescopeQueue: the input buffer -/
/-- five words more in the buffer -/
def pFive (b : pR) (n : Nat) (v1 v2 v3 v4 v5 : Int32) : pR := pFour (pFour (pFour (pFour (pFour b n v1) (n + 1 + 1 + 1 + 1) v2) (n + 1 + 1 + 1 + 1 + 1 + 1 + 1 + 1) v3) (n + 1 + 1 + 1 + 1 + 1 + 1 + 1 + 1 + 1 + 1 + 1 + 1) v4) (n + 1 + 1 + 1 + 1 + 1 + 1 + 1 + 1 + 1 + 1 + 1 + 1 + 1 + 1 + 1 + 1) v5
theorem ax_last2 {Ω : ax_O} {Γ : ax_F} {kb nb pc : Nat} {h : ax_H} {xs : List (Option Value)} {v v2 : Value} {st : List Value} (k : ax_W Ω Γ kb nb h pc (xs ++ [none, none]) st) : ax_W Ω Γ kb nb h pc (xs ++ [some v, some v2]) st := by
  intro H locs cells slots L hR hl hL hn g1 g2
  refine k H locs cells slots L hR hl ⟨by rw [hL.1]; simp, hL.2.1, fun i w hi => hL.2.2 i w ?_⟩ (by rw [← hn]; simp) g1 g2
  by_cases hlt : i < xs.length
  · rw [List.getElem?_append_left hlt] at hi ⊢; exact hi
  · rw [List.getElem?_append_right (by omega)] at hi
    obtain ⟨j, hj⟩ : ∃ j, j = i - xs.length := ⟨_, rfl⟩
    rw [← hj] at hi
    match j, hi with
    | 0, hi => cases hi
    | 1, hi => cases hi
    | j + 2, hi => cases hi
/-- the row behind i words -/
def pWs (b : pR) (n : Nat) (f0 : Nat → Int32) : Nat → pR
  | 0 => b
  | i + 1 => pFour (pWs b n f0 i) (n + 4 * i) (f0 i)
theorem pWs5 {b : pR} {n : Nat} {f0 : Nat → Int32} : pWs b n f0 5 = pFive b n (f0 0) (f0 1) (f0 2) (f0 3) (f0 4) := rfl
theorem ct_put {Ω : ax_O} (hA : ax_Amb Ω) {h : ax_H} (wf : ax_wf h) (hz : Ω.2.1.heap.size ≤ h.2) {X bf q n : Nat} {vs : List Value} {tb b f0 : Nat → Int32} (hX : h.1 X = some (.inr (0, .ref bf :: .int (nI n) :: vs))) (bX : Ω.2.1.heap.size ≤ X) (hB : h.1 bf = some (.inl (.byte, 1000, .inl tb))) (bB : Ω.2.1.heap.size ≤ bf) (hq : h.1 q = some (.inl (.int, 5, .inl f0))) (hn : n + 20 ≤ 1000) (b0 : ∀ j, j < n → tb j &&& nI 255 = b j)  : ax_MetP Ω yX1_put 3 0 0 [.ref X, .ref q] h (ax_Nm (fun v h' => v = none ∧ ∃ tb', h'.1 X = some (.inr (0, .ref bf :: .int (nI (n + 20)) :: vs)) ∧ h'.1 bf = some (.inl (.byte, 1000, .inl tb')) ∧ (∀ j, j < n + 20 → tb' j &&& nI 255 = pFive b n (f0 0) (f0 1) (f0 2) (f0 3) (f0 4) j) ∧ (∀ q', q' ≠ X → q' ≠ bf → h'.1 q' = h.1 q') ∧ h'.2 = h.2 ∧ ax_wf h')) := by
  refine ax_metP q771 q113 (by decide +kernel) (by decide) hA (Nat.le_of_ble_eq_true rfl) (fun Γ G E => ?_)
  have hlX := wf.lt hX
  have hlB := wf.lt hB
  have hlq := wf.lt hq
  have nXB : X ≠ bf := fun z => by rw [z, hB] at hX; cases hX
  have nXq : X ≠ q := fun z => by rw [z, hq] at hX; cases hX
  have nBq : bf ≠ q := fun z => by rw [z, hq] at hB; cases hB
  show ax_W Ω Γ 0 0 h 0 [some (.ref X), some (.ref q), none, none, none, none, none] []
  refine ax_aload_n (pc := 0) G dX1_put_0 rfl rfl ?_
  refine ax_astore_n (pc := 1) G dX1_put_1 rfl (Nat.le_of_ble_eq_true rfl) rfl ?_
  refine ax_aload_n (pc := 2) G dX1_put_2 rfl rfl ?_
  refine ax_alen (pc := 3) (v := nI 5) G dX1_put_3 (hq) rfl ?_
  refine ax_istore_n (pc := 4) G dX1_put_4 rfl (Nat.le_of_ble_eq_true rfl) rfl ?_
  refine ax_iconst (pc := 5) (v := nI 0) G dX1_put_5 ic_0 ?_
  refine ax_istore (pc := 6) G dX1_put_6 (Nat.le_of_ble_eq_true rfl) rfl ?_
  have L1 : ∀ (k i : Nat) (hh1 : ax_H) (tb9 : Nat → Int32), i + k = 5 → hh1.1 X = some (.inr (0, .ref bf :: .int (nI (n + 4 * i)) :: vs)) → hh1.1 bf = some (.inl (.byte, 1000, .inl tb9)) → (∀ j, j < n + 4 * i → tb9 j &&& nI 255 = pWs b n f0 i j) → (∀ q, q ≠ X → q ≠ bf → hh1.1 q = h.1 q) → hh1.2 = h.2 → ax_wf hh1 → ax_W Ω Γ 0 0 hh1 8 [some (.ref X), some (.ref q), some (.ref q), some (.int (nI 5)), some (.int (nI i)), none, none] [] := by
    intro k
    induction k with
    | zero =>
      intro i hh1 tb9 hi gk1_0 gk1_1 iv1_0 fr1 zr1 wr1
      have hi9 : i = 5 := by omega
      subst hi9
      refine ax_iload (pc := 8) G dX1_put_8 rfl ?_
      refine ax_iload_n (pc := 10) G dX1_put_10 rfl rfl ?_
      refine ax_icmp_ge (pc := 11) (tgt := 66) G dX1_put_11 rfl (fun _ => ?_) (fun c9 => absurd (by decide) c9)
      exact ax_vretP (pc := 66) G E rfl dX1_put_66 (⟨_, rfl, rfl, _, gk1_0, gk1_1, (fun j hj => by rw [← pWs5]; exact iv1_0 j hj), fun q' a1 a2 => (fr1 _ (by omega) (by omega)), by omega, wr1⟩)
    | succ k ih =>
      intro i hh1 tb9 hi gk1_0 gk1_1 iv1_0 fr1 zr1 wr1
      refine ax_iload (pc := 8) G dX1_put_8 rfl ?_
      refine ax_iload_n (pc := 10) G dX1_put_10 rfl rfl ?_
      refine ax_icmp_geN (pc := 11) (tgt := 66) G dX1_put_11 rfl (by omega) (by omega) (fun c11 => ?_) (fun c11 => ?_)
      · omega
      · refine ax_aload_n (pc := 14) G dX1_put_14 rfl rfl ?_
        refine ax_iload (pc := 15) G dX1_put_15 rfl ?_
        refine ax_iaload (pc := 17) G i dX1_put_17 ((fr1 _ (by omega) (by omega)).trans (hq)) rfl (by omega) (by omega) ?_
        refine ax_istore (pc := 18) G dX1_put_18 (Nat.le_of_ble_eq_true rfl) rfl ?_
        refine ax_bipush (pc := 20) (v := nI 24) G dX1_put_20 ib_24 ?_
        refine ax_istore (pc := 22) G dX1_put_22 (Nat.le_of_ble_eq_true rfl) rfl ?_
        refine ax_iload (pc := 24) G dX1_put_24 rfl ?_
        refine ax_if_lt (pc := 26) (tgt := 60) G dX1_put_26 rfl (fun c9 => absurd c9 (by decide)) (fun _ => ?_)
        refine ax_aload_n (pc := 29) G dX1_put_29 rfl rfl ?_
        refine ax_getf (pc := 30) (v := .ref bf) G flX1_24_0 dX1_put_30 (gk1_0) rfl ?_
        refine ax_aload_n (pc := 33) G dX1_put_33 rfl rfl ?_
        refine ax_getf (pc := 34) (v := .int (nI (n + 4 * i))) G flX1_109_0 dX1_put_34 (gk1_0) rfl ?_
        refine ax_iload (pc := 37) G dX1_put_37 rfl ?_
        refine ax_iload (pc := 39) G dX1_put_39 rfl ?_
        refine ax_ishr (pc := 41) G dX1_put_41 ?_
        refine ax_i2b (pc := 42) G dX1_put_42 rfl ?_
        refine ax_bastore (pc := 43) G (n + 4 * i) dX1_put_43 (gk1_1) (bB) rfl (by omega) (by omega) ?_
        refine ax_hvS wr1 (by omega) (fun h17 g17 f17 z17 w17 => ?_)
        have b1 := xBuf (n := n + 4 * i) (k := 24) (v := f0 i) iv1_0
        refine ax_aload_n (pc := 44) G dX1_put_44 rfl rfl ?_
        refine ax_dup (pc := 45) G dX1_put_45 rfl ?_
        refine ax_getf (pc := 46) (v := .int (nI (n + 4 * i))) G flX1_109_0 dX1_put_46 ((f17 _ (by omega)).trans (gk1_0)) rfl ?_
        refine ax_iconst (pc := 49) (v := nI 1) G dX1_put_49 ic_1 ?_
        refine ax_iaddN (pc := 50) G dX1_put_50 ?_
        refine ax_putf (pc := 51) G flX1_109_0 dX1_put_51 ((f17 _ (by omega)).trans (gk1_0)) bX (by simp) rfl rfl ?_
        refine ax_hvS w17 (by omega) (fun h18 g18 f18 z18 w18 => ?_)
        replace g18 : h18.1 X = some (.inr (0, .ref bf :: .int (nI (n + 4 * i + 1)) :: vs)) := g18
        refine ax_iinc (pc := 54) (v := nI 16) G dX1_put_54 rfl (by decide) rfl ?_
        refine ax_goto (pc := 57) (tgt := 24) G dX1_put_57 rfl ?_
        refine ax_iload (pc := 24) G dX1_put_24 rfl ?_
        refine ax_if_lt (pc := 26) (tgt := 60) G dX1_put_26 rfl (fun c9 => absurd c9 (by decide)) (fun _ => ?_)
        refine ax_aload_n (pc := 29) G dX1_put_29 rfl rfl ?_
        refine ax_getf (pc := 30) (v := .ref bf) G flX1_24_0 dX1_put_30 (g18) rfl ?_
        refine ax_aload_n (pc := 33) G dX1_put_33 rfl rfl ?_
        refine ax_getf (pc := 34) (v := .int (nI (n + 4 * i + 1))) G flX1_109_0 dX1_put_34 (g18) rfl ?_
        refine ax_iload (pc := 37) G dX1_put_37 rfl ?_
        refine ax_iload (pc := 39) G dX1_put_39 rfl ?_
        refine ax_ishr (pc := 41) G dX1_put_41 ?_
        refine ax_i2b (pc := 42) G dX1_put_42 rfl ?_
        refine ax_bastore (pc := 43) G (n + 4 * i + 1) dX1_put_43 ((f18 _ (by omega)).trans (g17)) (bB) rfl (by omega) (by omega) ?_
        refine ax_hvS w18 (by omega) (fun h19 g19 f19 z19 w19 => ?_)
        have b2 := xBuf (n := n + 4 * i + 1) (k := 16) (v := f0 i) b1
        refine ax_aload_n (pc := 44) G dX1_put_44 rfl rfl ?_
        refine ax_dup (pc := 45) G dX1_put_45 rfl ?_
        refine ax_getf (pc := 46) (v := .int (nI (n + 4 * i + 1))) G flX1_109_0 dX1_put_46 ((f19 _ (by omega)).trans (g18)) rfl ?_
        refine ax_iconst (pc := 49) (v := nI 1) G dX1_put_49 ic_1 ?_
        refine ax_iaddN (pc := 50) G dX1_put_50 ?_
        refine ax_putf (pc := 51) G flX1_109_0 dX1_put_51 ((f19 _ (by omega)).trans (g18)) bX (by simp) rfl rfl ?_
        refine ax_hvS w19 (by omega) (fun h20 g20 f20 z20 w20 => ?_)
        replace g20 : h20.1 X = some (.inr (0, .ref bf :: .int (nI (n + 4 * i + 1 + 1)) :: vs)) := g20
        refine ax_iinc (pc := 54) (v := nI 8) G dX1_put_54 rfl (by decide) rfl ?_
        refine ax_goto (pc := 57) (tgt := 24) G dX1_put_57 rfl ?_
        refine ax_iload (pc := 24) G dX1_put_24 rfl ?_
        refine ax_if_lt (pc := 26) (tgt := 60) G dX1_put_26 rfl (fun c9 => absurd c9 (by decide)) (fun _ => ?_)
        refine ax_aload_n (pc := 29) G dX1_put_29 rfl rfl ?_
        refine ax_getf (pc := 30) (v := .ref bf) G flX1_24_0 dX1_put_30 (g20) rfl ?_
        refine ax_aload_n (pc := 33) G dX1_put_33 rfl rfl ?_
        refine ax_getf (pc := 34) (v := .int (nI (n + 4 * i + 1 + 1))) G flX1_109_0 dX1_put_34 (g20) rfl ?_
        refine ax_iload (pc := 37) G dX1_put_37 rfl ?_
        refine ax_iload (pc := 39) G dX1_put_39 rfl ?_
        refine ax_ishr (pc := 41) G dX1_put_41 ?_
        refine ax_i2b (pc := 42) G dX1_put_42 rfl ?_
        refine ax_bastore (pc := 43) G (n + 4 * i + 1 + 1) dX1_put_43 ((f20 _ (by omega)).trans (g19)) (bB) rfl (by omega) (by omega) ?_
        refine ax_hvS w20 (by omega) (fun h21 g21 f21 z21 w21 => ?_)
        have b3 := xBuf (n := n + 4 * i + 1 + 1) (k := 8) (v := f0 i) b2
        refine ax_aload_n (pc := 44) G dX1_put_44 rfl rfl ?_
        refine ax_dup (pc := 45) G dX1_put_45 rfl ?_
        refine ax_getf (pc := 46) (v := .int (nI (n + 4 * i + 1 + 1))) G flX1_109_0 dX1_put_46 ((f21 _ (by omega)).trans (g20)) rfl ?_
        refine ax_iconst (pc := 49) (v := nI 1) G dX1_put_49 ic_1 ?_
        refine ax_iaddN (pc := 50) G dX1_put_50 ?_
        refine ax_putf (pc := 51) G flX1_109_0 dX1_put_51 ((f21 _ (by omega)).trans (g20)) bX (by simp) rfl rfl ?_
        refine ax_hvS w21 (by omega) (fun h22 g22 f22 z22 w22 => ?_)
        replace g22 : h22.1 X = some (.inr (0, .ref bf :: .int (nI (n + 4 * i + 1 + 1 + 1)) :: vs)) := g22
        refine ax_iinc (pc := 54) (v := nI 0) G dX1_put_54 rfl (by decide) rfl ?_
        refine ax_goto (pc := 57) (tgt := 24) G dX1_put_57 rfl ?_
        refine ax_iload (pc := 24) G dX1_put_24 rfl ?_
        refine ax_if_lt (pc := 26) (tgt := 60) G dX1_put_26 rfl (fun c9 => absurd c9 (by decide)) (fun _ => ?_)
        refine ax_aload_n (pc := 29) G dX1_put_29 rfl rfl ?_
        refine ax_getf (pc := 30) (v := .ref bf) G flX1_24_0 dX1_put_30 (g22) rfl ?_
        refine ax_aload_n (pc := 33) G dX1_put_33 rfl rfl ?_
        refine ax_getf (pc := 34) (v := .int (nI (n + 4 * i + 1 + 1 + 1))) G flX1_109_0 dX1_put_34 (g22) rfl ?_
        refine ax_iload (pc := 37) G dX1_put_37 rfl ?_
        refine ax_iload (pc := 39) G dX1_put_39 rfl ?_
        refine ax_ishr (pc := 41) G dX1_put_41 ?_
        refine ax_i2b (pc := 42) G dX1_put_42 rfl ?_
        refine ax_bastore (pc := 43) G (n + 4 * i + 1 + 1 + 1) dX1_put_43 ((f22 _ (by omega)).trans (g21)) (bB) rfl (by omega) (by omega) ?_
        refine ax_hvS w22 (by omega) (fun h23 g23 f23 z23 w23 => ?_)
        have b4 := xBuf (n := n + 4 * i + 1 + 1 + 1) (k := 0) (v := f0 i) b3
        refine ax_aload_n (pc := 44) G dX1_put_44 rfl rfl ?_
        refine ax_dup (pc := 45) G dX1_put_45 rfl ?_
        refine ax_getf (pc := 46) (v := .int (nI (n + 4 * i + 1 + 1 + 1))) G flX1_109_0 dX1_put_46 ((f23 _ (by omega)).trans (g22)) rfl ?_
        refine ax_iconst (pc := 49) (v := nI 1) G dX1_put_49 ic_1 ?_
        refine ax_iaddN (pc := 50) G dX1_put_50 ?_
        refine ax_putf (pc := 51) G flX1_109_0 dX1_put_51 ((f23 _ (by omega)).trans (g22)) bX (by simp) rfl rfl ?_
        refine ax_hvS w23 (by omega) (fun h24 g24 f24 z24 w24 => ?_)
        replace g24 : h24.1 X = some (.inr (0, .ref bf :: .int (nI (n + 4 * i + 1 + 1 + 1 + 1)) :: vs)) := g24
        refine ax_iinc (pc := 54) (v := (-8)) G dX1_put_54 rfl (by decide) rfl ?_
        refine ax_goto (pc := 57) (tgt := 24) G dX1_put_57 rfl ?_
        refine ax_iload (pc := 24) G dX1_put_24 rfl ?_
        refine ax_if_lt (pc := 26) (tgt := 60) G dX1_put_26 rfl (fun _ => ?_) (fun c9 => absurd (by decide) c9)
        refine ax_iincN (pc := 60) (n := 1) G dX1_put_60 rfl rfl ic_1 ?_
        refine ax_last2 (xs := [some (.ref X), some (.ref q), some (.ref q), some (.int (nI 5)), some (.int (nI (i + 1)))]) ?_
        refine ax_goto (pc := 63) (tgt := 8) G dX1_put_63 rfl ?_
        exact ih (i + 1) h24 _ (by omega) (g24) ((f24 _ (by omega)).trans (g23)) (fun j hj => b4 j (by omega)) (fun q a0 a1 => (f24 _ (by omega)).trans ((f23 _ (by omega)).trans ((f22 _ (by omega)).trans ((f21 _ (by omega)).trans ((f20 _ (by omega)).trans ((f19 _ (by omega)).trans ((f18 _ (by omega)).trans ((f17 _ (by omega)).trans ((fr1 _ (by omega) (by omega))))))))))) (by omega) w24
  exact L1 5 0 h tb (by omega) (hX) (hB) (b0) (fun q a0 a1 => rfl) rfl wf

theorem si_e {μ : md_S} {k : Nat} {v : Int32} : (md_si μ k v).1 k = v := by simp [md_si, upd]
theorem si_n {μ : md_S} {i k : Nat} {v : Int32} (h : i ≠ k) : (md_si μ k v).1 i = μ.1 i := by simp [md_si, upd, h]
theorem xGk.kd {Ω : ax_O} {h h' : ax_H} {w w' : Nat → Nat} {hi sv a tr : Nat} {pl : pR} {N V O u : Nat} {μ μ' : md_S} {S : Nat → Prop} (x : xGk Ω h w hi sv a tr pl N V O μ u) (wf : ax_wf h) (F : xFr S h h' w w') (s1 : ¬ S 1) (so : ∀ b, ¬ S (b + 10))
    (k : ∀ q e, h.1 q = some e → ((∃ fs, e = .inr (7, fs)) ∨ (∃ fs, e = .inr (17, fs)) ∨ (∃ m, e = .inl (.object "java/lang/Object", m)) ∨ ∃ m, e = .inl (.object "TelescopeQueue$State", m)) → h'.1 q = some e) (e18 : μ'.1 18 = μ.1 18) (r7 : μ'.2 7 = μ.2 7) (r8 : μ'.2 8 = μ.2 8) (r9 : μ'.2 9 = μ.2 9) : xGk Ω h' w' hi sv a tr pl N V O μ' u := by
  obtain ⟨Q, e, hd, f, B, fs, ⟨x1, x2, x3⟩, ⟨y1, y2, y3, y4⟩, ⟨z1, z2, z3⟩, x5, x6, ⟨x7, x8, x9⟩, x10⟩ := x
  refine ⟨Q, e, hd, f, B, fs, ⟨k _ _ x1 (Or.inl ⟨_, rfl⟩), k _ _ x2 (Or.inr (Or.inl ⟨_, rfl⟩)), k _ _ x3 (Or.inr (Or.inr (Or.inl ⟨_, rfl⟩)))⟩, ⟨(F.2.1 _ (wf.lt x1)).trans y1, (F.2.1 _ (wf.lt x2)).trans y2, (F.2.1 _ (wf.lt x3)).trans y3, y4⟩, ⟨z1, z2, e18.trans z3⟩, fun i hi => ?_, x6, ⟨k _ _ x7 (Or.inr (Or.inr (Or.inr ⟨_, rfl⟩))), (F.2.1 _ (wf.lt x7)).trans x8, x9⟩, fun j hj => ?_⟩
  · rw [r7]; exact ⟨(x5 i hi).1, (x5 i hi).2.fr wf F s1 (so _)⟩
  · rw [r8, r9]
    rcases x10 j hj with c | ⟨b, c1, c2, c3, c4⟩
    · exact Or.inl c
    · exact Or.inr ⟨b, c1, c2, c3.fr wf F s1 (so _), c4⟩
theorem cj_append {Ω : ax_O} (hA : ax_Amb Ω) {h : ax_H} {w : Nat → Nat} {X bf tr hi sv lb a : Nat} {stv : Value} {pl : pR} {N V O u : Nat} {μ : md_S} (J : xG Ω h w X bf tr hi sv lb stv a pl N V O μ u) {n : Nat} (hB : μ.1 2 = nI n) (hn : n + 20 ≤ 1000) (r1 r2 r3 r4 r5 : Int32)  : ax_MetP Ω yX1_append 20 2 10 [.ref X, .int r1, .int r2, .int r3, .int r4, .int r5] h (ax_Nm fun v h' => v = some (.int (nI (n + 20))) ∧ xFr (fun o => o = 2) h h' w w ∧ xG Ω h' w X bf tr hi sv lb stv a pl N V O (md_si (md_sa μ 1 (pFive (μ.2 1) n r1 r2 r3 r4 r5)) 2 (nI (n + 20))) u) := by
  refine ax_metP q767 q113 (by decide +kernel) (by decide) hA (Nat.le_of_ble_eq_true rfl) (fun Γ G E => ?_)
  obtain ⟨⟨gx1, gx2, gx3⟩, gb, gl, ⟨Q, e, hd, f, Bk, fs, ⟨x1, x2, x3⟩, ⟨y1, y2, y3, y4, y5, y6⟩, ⟨z1, z2, z3⟩, z4, z5, ⟨v1, v2, v3⟩, v4⟩, gt, wf, hz⟩ := id J
  have hlX := wf.lt gx1
  have hlH := wf.lt x1
  have hlQ := wf.lt x2
  have hlE := wf.lt x3
  have hlS := wf.lt v1
  have nXQ : X ≠ Q := fun z => by rw [z, x2] at gx1; cases gx1
  have nXe : X ≠ e := fun z => by rw [z, x3] at gx1; cases gx1
  have nXH : X ≠ hi := fun z => by rw [z, x1] at gx1; cases gx1
  have nHQ : hi ≠ Q := fun z => by rw [z, x2] at x1; cases x1
  have nHe : hi ≠ e := fun z => by rw [z, x3] at x1; cases x1
  have nQe : Q ≠ e := fun z => by rw [z, x3] at x2; cases x2
  have nXS : X ≠ sv := fun z => by rw [z, v1] at gx1; cases gx1
  have nHS : hi ≠ sv := fun z => by rw [z, v1] at x1; cases x1
  have nQS : Q ≠ sv := fun z => by rw [z, v1] at x2; cases x2
  have neS : e ≠ sv := fun z => by rw [z, v1] at x3; simp at x3
  obtain ⟨nb, tb, gb1, gb2, gb3, gb4, gb5, gb6⟩ := gb
  have en : nb = n := (nI_eq (by omega) (by omega)).mp (gb1.symm.trans hB)
  rw [en] at gb6
  rw [hB] at gx1
  obtain ⟨el, nl, tl, ⟨ml, mml, al, s1, s2, s3, s4⟩, gl2, gl3, gl4⟩ := gl
  have hlB := wf.lt gb3
  have hlL := wf.lt s1
  have hlA := wf.lt s2
  have nXB : X ≠ bf := fun z => by rw [z, gb3] at gx1; cases gx1
  have nHB : hi ≠ bf := fun z => by rw [z, gb3] at x1; cases x1
  have nQB : Q ≠ bf := fun z => by rw [z, gb3] at x2; cases x2
  have neB : e ≠ bf := fun z => by rw [z, gb3] at x3; cases x3
  have nSB : sv ≠ bf := fun z => by rw [z, gb3] at v1; cases v1
  have nLB : lb ≠ bf := fun z => by rw [z, gb3] at s1; cases s1
  have nLX : lb ≠ X := fun z => by rw [z, gx1] at s1; cases s1
  have nAB : el ≠ bf := fun z => by rw [z, gb3] at s2; cases s2; omega
  have nAX : el ≠ X := fun z => by rw [z, gx1] at s2; cases s2
  show ax_W Ω Γ 2 10 h 0 [some (.ref X), some (.int r1), some (.int r2), some (.int r3), some (.int r4), some (.int r5)] []
  refine ax_aload_n (pc := 0) G dX1_append_0 rfl rfl ?_
  refine ax_getf (pc := 1) (v := .int (nI n)) G flX1_109_0 dX1_append_1 (gx1) rfl ?_
  refine ax_bipush (pc := 4) (v := nI 20) G dX1_append_4 ib_20 ?_
  refine ax_iaddN (pc := 6) G dX1_append_6 ?_
  refine ax_sipush (pc := 7) (v := nI 1000) G dX1_append_7 is_1000 ?_
  refine ax_icmp_leN (pc := 10) (tgt := 15) G dX1_append_10 rfl (by omega) (by omega) (fun c10 => ?_) (fun c10 => ?_)
  · refine ax_aload_n (pc := 15) G dX1_append_15 rfl rfl ?_
    refine ax_iconst (pc := 16) (v := nI 5) G dX1_append_16 ic_5 ?_
    refine ax_newarray (pc := 17) (kb := 1) (nb := 5) G 5 (5, .inl fun _ => 0) dX1_append_17 rfl q600 rfl (by omega) rfl (fun j => rfl) ?_
    refine ax_hvA wf (fun h25 g25 f25 z25 w25 => ?_)
    refine ax_dup (pc := 19) G dX1_append_19 rfl ?_
    refine ax_iconst (pc := 20) (v := nI 0) G dX1_append_20 ic_0 ?_
    refine ax_iload_n (pc := 21) G dX1_append_21 rfl rfl ?_
    refine ax_iastore (pc := 22) G 0 dX1_append_22 (g25) (by omega) rfl (by omega) (by omega) ?_
    refine ax_hvS w25 (by omega) (fun h26 g26 f26 z26 w26 => ?_)
    refine ax_dup (pc := 23) G dX1_append_23 rfl ?_
    refine ax_iconst (pc := 24) (v := nI 1) G dX1_append_24 ic_1 ?_
    refine ax_iload_n (pc := 25) G dX1_append_25 rfl rfl ?_
    refine ax_iastore (pc := 26) G 1 dX1_append_26 (g26) (by omega) rfl (by omega) (by omega) ?_
    refine ax_hvS w26 (by omega) (fun h27 g27 f27 z27 w27 => ?_)
    refine ax_dup (pc := 27) G dX1_append_27 rfl ?_
    refine ax_iconst (pc := 28) (v := nI 2) G dX1_append_28 ic_2 ?_
    refine ax_iload_n (pc := 29) G dX1_append_29 rfl rfl ?_
    refine ax_iastore (pc := 30) G 2 dX1_append_30 (g27) (by omega) rfl (by omega) (by omega) ?_
    refine ax_hvS w27 (by omega) (fun h28 g28 f28 z28 w28 => ?_)
    refine ax_dup (pc := 31) G dX1_append_31 rfl ?_
    refine ax_iconst (pc := 32) (v := nI 3) G dX1_append_32 ic_3 ?_
    refine ax_iload (pc := 33) G dX1_append_33 rfl ?_
    refine ax_iastore (pc := 35) G 3 dX1_append_35 (g28) (by omega) rfl (by omega) (by omega) ?_
    refine ax_hvS w28 (by omega) (fun h29 g29 f29 z29 w29 => ?_)
    refine ax_dup (pc := 36) G dX1_append_36 rfl ?_
    refine ax_iconst (pc := 37) (v := nI 4) G dX1_append_37 ic_4 ?_
    refine ax_iload (pc := 38) G dX1_append_38 rfl ?_
    refine ax_iastore (pc := 40) G 4 dX1_append_40 (g29) (by omega) rfl (by omega) (by omega) ?_
    refine ax_hvS w29 (by omega) (fun h30 g30 f30 z30 w30 => ?_)
    refine ax_nV (pc := 41) (kb := 1) (nb := 5) G (ct_put hA w30 (by omega) ((f30 _ (by omega)).trans ((f29 _ (by omega)).trans ((f28 _ (by omega)).trans ((f27 _ (by omega)).trans ((f26 _ (by omega)).trans ((f25 _ (by omega)).trans (gx1))))))) gx3 ((f30 _ (by omega)).trans ((f29 _ (by omega)).trans ((f28 _ (by omega)).trans ((f27 _ (by omega)).trans ((f26 _ (by omega)).trans ((f25 _ (by omega)).trans (gb3))))))) gb5 (g30) hn gb6) lVX1_112_0 dX1_append_41 ((f30 _ (by omega)).trans ((f29 _ (by omega)).trans ((f28 _ (by omega)).trans ((f27 _ (by omega)).trans ((f26 _ (by omega)).trans ((f25 _ (by omega)).trans (gx1))))))) rfl (by decide) (Nat.le_of_ble_eq_true rfl) rfl (fun v9 h31 q9 => ?_)
    obtain ⟨rfl, tb9, G31, k31, e31, f31, z31, w31⟩ := q9
    show ax_W Ω Γ _ _ (h31) _ _ (_)
    refine ax_aload_n (pc := 44) G dX1_append_44 rfl rfl ?_
    refine ax_getf (pc := 45) (v := .int (nI (n + 20))) G flX1_109_0 dX1_append_45 (G31) rfl ?_
    have F9 : xFr (fun o => o = 2) h h31 w w := ⟨fun q hl h2 => by
      have a0 : q ≠ X := fun z => h2 (by rw [z]; exact gx2)
      have a1 : q ≠ bf := fun z => h2 (by rw [z]; exact gb4)
      exact (f31 _ (by omega) (by omega)).trans ((f30 _ (by omega)).trans ((f29 _ (by omega)).trans ((f28 _ (by omega)).trans ((f27 _ (by omega)).trans ((f26 _ (by omega)).trans ((f25 _ (by omega)))))))), fun q hl => rfl, by omega, w31⟩
    have kk : ∀ q e, h.1 q = some e → ((∃ fs, e = .inr (7, fs)) ∨ (∃ fs, e = .inr (17, fs)) ∨ (∃ m, e = .inl (.object "java/lang/Object", m)) ∨ ∃ m, e = .inl (.object "TelescopeQueue$State", m)) → h31.1 q = some e := fun q e hq he => by
      have hl := wf.lt hq
      have a0 : q ≠ X := fun z => by rw [z, gx1] at hq; cases hq; rcases he with ⟨_, z⟩ | ⟨_, z⟩ | ⟨_, z⟩ | ⟨_, z⟩ <;> cases z
      have a1 : q ≠ bf := fun z => by rw [z, gb3] at hq; cases hq; rcases he with ⟨_, z⟩ | ⟨_, z⟩ | ⟨_, z⟩ | ⟨_, z⟩ <;> cases z
      exact ((f31 _ (by omega) (by omega)).trans ((f30 _ (by omega)).trans ((f29 _ (by omega)).trans ((f28 _ (by omega)).trans ((f27 _ (by omega)).trans ((f26 _ (by omega)).trans ((f25 _ (by omega))))))))).trans hq
    have e9 : ∀ j, j < n + 20 → tb9 j &&& nI 255 = pFive (μ.2 1) n r1 r2 r3 r4 r5 j := e31
    have K9 := J.k.kd (μ' := (md_si (md_sa μ 1 (pFive (μ.2 1) n r1 r2 r3 r4 r5)) 2 (nI (n + 20)))) wf F9 (by decide) (fun b => by omega) kk (si_n (by decide)) (by simp [md_si, md_sa, va_up]) (by simp [md_si, md_sa, va_up]) (by simp [md_si, md_sa, va_up])
    have B9 : xGb Ω h31 w bf (md_si (md_sa μ 1 (pFive (μ.2 1) n r1 r2 r3 r4 r5)) 2 (nI (n + 20))) := ⟨_, _, si_e, by omega, k31, gb4, gb5, fun j hj => (e9 j hj).trans (congrFun (sa_e (μ := μ) (j := 1)).symm j)⟩
    have L9 : xGl Ω h31 w lb (md_si (md_sa μ 1 (pFive (μ.2 1) n r1 r2 r3 r4 r5)) 2 (nI (n + 20))) := ⟨el, nl, tl, ⟨ml, mml, al, ((f31 _ (by omega) (by omega)).trans ((f30 _ (by omega)).trans ((f29 _ (by omega)).trans ((f28 _ (by omega)).trans ((f27 _ (by omega)).trans ((f26 _ (by omega)).trans ((f25 _ (by omega))))))))).trans s1, ((f31 _ (by omega) (by omega)).trans ((f30 _ (by omega)).trans ((f29 _ (by omega)).trans ((f28 _ (by omega)).trans ((f27 _ (by omega)).trans ((f26 _ (by omega)).trans ((f25 _ (by omega))))))))).trans s2, s3, s4⟩, gl2, gl3, gl4.1, gl4.2.1, (si_n (by decide)).trans gl4.2.2.1, fun j hj => by rw [show ((md_si (md_sa μ 1 (pFive (μ.2 1) n r1 r2 r3 r4 r5)) 2 (nI (n + 20)))).2 10 = μ.2 10 from by simp [md_si, md_sa, va_up]]; exact gl4.2.2.2 j hj⟩
    have X9 : h31.1 X = some (.inr (0, [.ref bf, .int ((md_si (md_sa μ 1 (pFive (μ.2 1) n r1 r2 r3 r4 r5)) 2 (nI (n + 20))).1 2), .int ((md_si (md_sa μ 1 (pFive (μ.2 1) n r1 r2 r3 r4 r5)) 2 (nI (n + 20))).1 5), .int ((md_si (md_sa μ 1 (pFive (μ.2 1) n r1 r2 r3 r4 r5)) 2 (nI (n + 20))).1 6), stv, .ref tr, .ref hi, .ref sv, .ref lb])) := by rw [si_e, si_n (by decide), si_n (by decide)]; exact G31
    exact ax_iretP (pc := 48) G E rfl rfl dX1_append_48 ⟨_, rfl, rfl, F9, ⟨X9, gx2, gx3⟩, B9, L9, K9, gt.fr wf F9 (by decide) (by omega), w31, by omega⟩
  · omega

theorem cj_append_N {Ω : ax_O} (hA : ax_Amb Ω) {h : ax_H} {w : Nat → Nat} {X bf tr hi sv lb a : Nat} {stv : Value} {pl : pR} {N V O u : Nat} {μ : md_S} (J : xG Ω h w X bf tr hi sv lb stv a pl N V O μ u) {n : Nat} (hB : μ.1 2 = nI n) (hn0 : n ≤ 1000) (hn : 1000 < n + 20) (r1 r2 r3 r4 r5 : Int32)  : ax_MetP Ω yX1_append 20 2 10 [.ref X, .int r1, .int r2, .int r3, .int r4, .int r5] h (ax_Nm fun v h' => v = some (.int (-1)) ∧ h' = h) := by
  refine ax_metP q767 q113 (by decide +kernel) (by decide) hA (Nat.le_of_ble_eq_true rfl) (fun Γ G E => ?_)
  obtain ⟨⟨gx1, gx2, gx3⟩, gb, gl, ⟨Q, e, hd, f, Bk, fs, ⟨x1, x2, x3⟩, ⟨y1, y2, y3, y4, y5, y6⟩, ⟨z1, z2, z3⟩, z4, z5, ⟨v1, v2, v3⟩, v4⟩, gt, wf, hz⟩ := id J
  have hlX := wf.lt gx1
  have hlH := wf.lt x1
  have hlQ := wf.lt x2
  have hlE := wf.lt x3
  have hlS := wf.lt v1
  have nXQ : X ≠ Q := fun z => by rw [z, x2] at gx1; cases gx1
  have nXe : X ≠ e := fun z => by rw [z, x3] at gx1; cases gx1
  have nXH : X ≠ hi := fun z => by rw [z, x1] at gx1; cases gx1
  have nHQ : hi ≠ Q := fun z => by rw [z, x2] at x1; cases x1
  have nHe : hi ≠ e := fun z => by rw [z, x3] at x1; cases x1
  have nQe : Q ≠ e := fun z => by rw [z, x3] at x2; cases x2
  have nXS : X ≠ sv := fun z => by rw [z, v1] at gx1; cases gx1
  have nHS : hi ≠ sv := fun z => by rw [z, v1] at x1; cases x1
  have nQS : Q ≠ sv := fun z => by rw [z, v1] at x2; cases x2
  have neS : e ≠ sv := fun z => by rw [z, v1] at x3; simp at x3
  obtain ⟨nb, tb, gb1, gb2, gb3, gb4, gb5, gb6⟩ := gb
  have en : nb = n := (nI_eq (by omega) (by omega)).mp (gb1.symm.trans hB)
  rw [en] at gb6
  rw [hB] at gx1
  obtain ⟨el, nl, tl, ⟨ml, mml, al, s1, s2, s3, s4⟩, gl2, gl3, gl4⟩ := gl
  have hlB := wf.lt gb3
  have hlL := wf.lt s1
  have hlA := wf.lt s2
  have nXB : X ≠ bf := fun z => by rw [z, gb3] at gx1; cases gx1
  have nHB : hi ≠ bf := fun z => by rw [z, gb3] at x1; cases x1
  have nQB : Q ≠ bf := fun z => by rw [z, gb3] at x2; cases x2
  have neB : e ≠ bf := fun z => by rw [z, gb3] at x3; cases x3
  have nSB : sv ≠ bf := fun z => by rw [z, gb3] at v1; cases v1
  have nLB : lb ≠ bf := fun z => by rw [z, gb3] at s1; cases s1
  have nLX : lb ≠ X := fun z => by rw [z, gx1] at s1; cases s1
  have nAB : el ≠ bf := fun z => by rw [z, gb3] at s2; cases s2; omega
  have nAX : el ≠ X := fun z => by rw [z, gx1] at s2; cases s2
  show ax_W Ω Γ 2 10 h 0 [some (.ref X), some (.int r1), some (.int r2), some (.int r3), some (.int r4), some (.int r5)] []
  refine ax_aload_n (pc := 0) G dX1_append_0 rfl rfl ?_
  refine ax_getf (pc := 1) (v := .int (nI n)) G flX1_109_0 dX1_append_1 (gx1) rfl ?_
  refine ax_bipush (pc := 4) (v := nI 20) G dX1_append_4 ib_20 ?_
  refine ax_iaddN (pc := 6) G dX1_append_6 ?_
  refine ax_sipush (pc := 7) (v := nI 1000) G dX1_append_7 is_1000 ?_
  refine ax_icmp_leN (pc := 10) (tgt := 15) G dX1_append_10 rfl (by omega) (by omega) (fun c10 => ?_) (fun c10 => ?_)
  · omega
  · refine ax_iconst (pc := 13) (v := (-1)) G dX1_append_13 (by decide) ?_
    exact ax_iretP (pc := 14) G E rfl (rfl) dX1_append_14 (⟨_, rfl, rfl, rfl⟩)

