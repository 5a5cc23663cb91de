/-! THE MODEL: a whole text -/
/-- the first i of f, then g -/
def pC (g f : pR) (i : Nat) : pR := fun j => if j < i then f j else g j
theorem pC_0 (g f : pR) : pC g f 0 = g := by funext j; unfold pC; rw [if_neg (by omega)]
theorem pC_s (g f : pR) (i : Nat) : upd (pC g f i) i (f i) = pC g f (i + 1) := by
  funext j; unfold pC upd
  by_cases e : j = i
  · subst e; rw [if_pos rfl, if_pos (by omega)]
  · rw [if_neg e]
    show (if j < i then f j else g j) = _
    by_cases e1 : j < i
    · rw [if_pos e1, if_pos (by omega)]
    · rw [if_neg e1, if_neg (by omega)]
theorem pC_z (g : pR) (i : Nat) : upd (pC g p0 i) i (nI 0) = pC g p0 (i + 1) := pC_s g p0 i
theorem pC_l {g f : pR} {i j : Nat} (h : j < i) : pC g f i j = f j := if_pos h
theorem mP_e (μ : md_S) (ψ : rS) : mP μ ψ = md_sa (md_sa (mK μ ψ.1) 3 ψ.2.1) 5 ψ.2.2 := rfl
theorem rG_x (b : pR) (n : Nat) (κ : pK) (l : List Int32) (lo hi : Int32) : ∃ (k : pK) (v : Int32), (pOK n κ → pOK n k) ∧ ∀ F : pK → Int32 → rS, rG b n κ l lo hi F = F k v := ⟨_, _, pGauge_ok, fun _ => rfl⟩
theorem rFirst_ok {b : pR} {n : Nat} {κ : pK} {f g : pR} (h : pOK n κ) : pOK n (rFirst b n κ f g).1 := by
  unfold rFirst
  obtain ⟨k0, v0, o0, e0⟩ := rG_x b n (pKey b n κ (sL "scope")) (sL "horizon") (nI 60) (nI 2000)
  rw [e0]
  obtain ⟨k1, v1, o1, e1⟩ := rG_x b n k0 (sL "settle") (nI 0) (nI 60)
  rw [e1]
  obtain ⟨k2, v2, o2, e2⟩ := rG_x b n k1 (sL "speed") (nI 1) (nI 90)
  rw [e2]
  obtain ⟨k3, v3, o3, e3⟩ := rG_x b n k2 (sL "cap") (nI 1) (nI 9999)
  rw [e3]
  obtain ⟨k4, v4, o4, e4⟩ := rG_x b n k3 (sL "dump") (nI 1) (nI 99)
  rw [e4]
  obtain ⟨k5, v5, o5, e5⟩ := rG_x b n k4 (sL "cadence") (nI 10) (nI 2000)
  rw [e5]
  obtain ⟨k6, v6, o6, e6⟩ := rG_x b n k5 (sL "cal") (nI 1) (nI 99)
  rw [e6]
  obtain ⟨k7, v7, o7, e7⟩ := rG_x b n k6 (sL "sun") (nI 0) (nI 359)
  rw [e7]
  obtain ⟨k8, v8, o8, e8⟩ := rG_x b n k7 (sL "drift") (nI 1) (nI 999)
  rw [e8]
  obtain ⟨k9, v9, o9, e9⟩ := rG_x b n k8 (sL "avoid") (nI 0) (nI 170)
  rw [e9]
  exact o9 (o8 (o7 (o6 (o5 (o4 (o3 (o2 (o1 (o0 (pKey_ok h))))))))))
theorem rC_first {b : pR} {n : Nat} {κ : pK} : rC (rFirst b n κ p0 p0).2.1 (rFirst b n κ p0 p0).2.2 0 0 0 0 := by
  unfold rFirst
  obtain ⟨k0, v0, o0, e0⟩ := rG_x b n (pKey b n κ (sL "scope")) (sL "horizon") (nI 60) (nI 2000)
  rw [e0]
  obtain ⟨k1, v1, o1, e1⟩ := rG_x b n k0 (sL "settle") (nI 0) (nI 60)
  rw [e1]
  obtain ⟨k2, v2, o2, e2⟩ := rG_x b n k1 (sL "speed") (nI 1) (nI 90)
  rw [e2]
  obtain ⟨k3, v3, o3, e3⟩ := rG_x b n k2 (sL "cap") (nI 1) (nI 9999)
  rw [e3]
  obtain ⟨k4, v4, o4, e4⟩ := rG_x b n k3 (sL "dump") (nI 1) (nI 99)
  rw [e4]
  obtain ⟨k5, v5, o5, e5⟩ := rG_x b n k4 (sL "cadence") (nI 10) (nI 2000)
  rw [e5]
  obtain ⟨k6, v6, o6, e6⟩ := rG_x b n k5 (sL "cal") (nI 1) (nI 99)
  rw [e6]
  obtain ⟨k7, v7, o7, e7⟩ := rG_x b n k6 (sL "sun") (nI 0) (nI 359)
  rw [e7]
  obtain ⟨k8, v8, o8, e8⟩ := rG_x b n k7 (sL "drift") (nI 1) (nI 999)
  rw [e8]
  obtain ⟨k9, v9, o9, e9⟩ := rG_x b n k8 (sL "avoid") (nI 0) (nI 170)
  rw [e9]
  refine ⟨⟨?_, ?_, ?_, ?_⟩, by decide, by decide, by decide, by decide⟩
  all_goals
    dsimp only
    simp (disch := omega) only [↓pu_ne]
    rfl
theorem kt_nextToken0 {Ω : ax_O} (hA : ax_Amb Ω) {h : ax_H} {m : Nat} {μ : md_S} (hm : Ω.2.1.heap.size ≤ m) {n : Nat} (hend : μ.1 3 = nI n) (hn : n ≤ 1000) {b : pR} (hb : μ.2 1 = b) (nx tk st : Nat) (vl p : Int32) (hnx : nx ≤ n) {k1 : pK} (e1 : k1 = pTok b n nx vl p) : ax_Met Ω yX10_nextToken 2 0 0 [.ref m] (md_H h m (mK μ (nx, tk, st, vl, 0, p))) (.inl none) (md_H h m (mK μ k1)) := by
  subst hb e1
  exact mt_nextToken0 hA hm hend hn nx tk st vl p hnx
theorem mt_readText {Ω : ax_O} (hA : ax_Amb Ω) {h : ax_H} {m : Nat} {μ : md_S} (hm : Ω.2.1.heap.size ≤ m) {n : Nat} (hend : μ.1 3 = nI n) (hn : n ≤ 1000) {b : pR} (hb : μ.2 1 = b) (tk st : Nat) (vl : Int32) (hL : mLit Ω h m)  : ax_Met Ω yX10_readText 14 0 0 [.ref m] (md_H h m (mK μ (0, tk, st, vl, 0, (-1)))) (.inl none) (md_H h m (mP μ (rText b n (0, tk, st, vl, 0, -1)))) := by
  refine ax_met q2670 q142 (by decide +kernel) (by decide) hA (Nat.le_of_ble_eq_true rfl) (fun Γ G E => ?_)
  obtain ⟨T, hT⟩ : ∃ T, T = rText b n (0, tk, st, vl, 0, -1) := ⟨_, rfl⟩
  rw [← hT] at E
  have KE : ∀ (k : pK) (f g : pR), pOK n k → rEnd (k, f, g) = T → ax_W Ω Γ 0 0 (md_H h m (md_sa (md_sa (mK μ k) 3 f) 5 g)) 72 [some (.ref m), some (.int (nI 627))] [] := by
    intro k f g hk hE
    have hc8 : k.2.2.2.2.1 < 8 := hk.2.2.1
    have ht8 : k.2.1 < 8 := hk.2.2.2
    refine ax_aload_n (pc := 72) G dX10_readText_72 rfl rfl ?_
    refine md_get (pc := 73) (v := .int (nI k.2.2.2.2.1)) G flX10_55_8 dX10_readText_73 rfl ?_
    refine ax_if_ne (pc := 76) (tgt := 92) G dX10_readText_76 rfl (fun c76 => ?_) (fun c76 => ?_)
    · replace c76 : ¬ (nI k.2.2.2.2.1) = 0 := c76
      have c76b : ¬ k.2.2.2.2.1 = 0 := nz_ne c76
      refine ax_aload_n (pc := 92) G dX10_readText_92 rfl rfl ?_
      refine md_get (pc := 93) (v := .ref (m + 3)) G flX10_20_8 dX10_readText_93 rfl ?_
      refine ax_bipush (pc := 96) (v := nI 10) G dX10_readText_96 ib_10 ?_
      refine md_ld (pc := 98) (i := 10) (j := 3) G 235 dX10_readText_98 (by decide) (by decide) rfl rfl rfl (by omega) (by decide) ?_
      refine ax_if_ne (pc := 99) (tgt := 107) G dX10_readText_99 rfl (fun c99 => ?_) (fun c99 => ?_)
      · replace c99 : ¬ (f 10) = 0 := c99
        exact ax_vretE (pc := 107) G E rfl dX10_readText_107 (by rw [← hE, rEnd]; dsimp only; rw [if_neg c99, if_neg c76b]; rfl)
      · replace c99 : (f 10) = 0 := c99
        refine ax_aload_n (pc := 102) G dX10_readText_102 rfl rfl ?_
        refine ax_iconst (pc := 103) (v := nI 5) G dX10_readText_103 ic_5 ?_
        obtain ⟨k1, e1⟩ : ∃ a : pK, a = pFl k 5 := ⟨_, rfl⟩
        have o1 : pOK n k1 := by rw [e1]; exact pFl_ok hk (by decide)
        have oc1 : k1.2.2.2.2.1 < 8 := o1.2.2.1
        have ot1 : k1.2.1 < 8 := o1.2.2.2
        refine ax_cV0 (pc := 104) (kb := 0) (nb := 0) G (kt_faults hA (h := h) (m := m) (μ := (md_sa (md_sa μ 3 f) 5 g)) hm (n := n) hend hn (b := b) hb k hk 5 e1) lVX10_105_8 dX10_readText_104 md_obj rfl (by decide) (Nat.le_of_ble_eq_true rfl) rfl ?_
        show ax_W Ω Γ _ _ (md_H h m (md_sa (md_sa (mK μ k1) 3 f) 5 g)) _ _ _
        exact ax_vretE (pc := 107) G E rfl dX10_readText_107 (by rw [← hE, rEnd]; dsimp only; rw [if_pos c99, if_neg c76b, ← e1]; rfl)
    · replace c76 : (nI k.2.2.2.2.1) = 0 := c76
      have c76b : k.2.2.2.2.1 = 0 := nz_eq c76 (by omega)
      refine ax_aload_n (pc := 79) G dX10_readText_79 rfl rfl ?_
      refine md_get (pc := 80) (v := .int (nI k.2.1)) G flX10_71_8 dX10_readText_80 rfl ?_
      refine ax_iconst (pc := 83) (v := nI 1) G dX10_readText_83 ic_1 ?_
      refine ax_icmp_eqN (pc := 84) (tgt := 92) G dX10_readText_84 rfl (by omega) (by omega) (fun c84 => ?_) (fun c84 => ?_)
      · refine ax_aload_n (pc := 92) G dX10_readText_92 rfl rfl ?_
        refine md_get (pc := 93) (v := .ref (m + 3)) G flX10_20_8 dX10_readText_93 rfl ?_
        refine ax_bipush (pc := 96) (v := nI 10) G dX10_readText_96 ib_10 ?_
        refine md_ld (pc := 98) (i := 10) (j := 3) G 235 dX10_readText_98 (by decide) (by decide) rfl rfl rfl (by omega) (by decide) ?_
        refine ax_if_ne (pc := 99) (tgt := 107) G dX10_readText_99 rfl (fun c99 => ?_) (fun c99 => ?_)
        · replace c99 : ¬ (f 10) = 0 := c99
          exact ax_vretE (pc := 107) G E rfl dX10_readText_107 (by rw [← hE, rEnd]; dsimp only; rw [if_neg c99, if_pos c76b, if_pos c84]; rfl)
        · replace c99 : (f 10) = 0 := c99
          refine ax_aload_n (pc := 102) G dX10_readText_102 rfl rfl ?_
          refine ax_iconst (pc := 103) (v := nI 5) G dX10_readText_103 ic_5 ?_
          obtain ⟨k2, e2⟩ : ∃ a : pK, a = pFl k 5 := ⟨_, rfl⟩
          have o2 : pOK n k2 := by rw [e2]; exact pFl_ok hk (by decide)
          have oc2 : k2.2.2.2.2.1 < 8 := o2.2.2.1
          have ot2 : k2.2.1 < 8 := o2.2.2.2
          refine ax_cV0 (pc := 104) (kb := 0) (nb := 0) G (kt_faults hA (h := h) (m := m) (μ := (md_sa (md_sa μ 3 f) 5 g)) hm (n := n) hend hn (b := b) hb k hk 5 e2) lVX10_105_8 dX10_readText_104 md_obj rfl (by decide) (Nat.le_of_ble_eq_true rfl) rfl ?_
          show ax_W Ω Γ _ _ (md_H h m (md_sa (md_sa (mK μ k2) 3 f) 5 g)) _ _ _
          exact ax_vretE (pc := 107) G E rfl dX10_readText_107 (by rw [← hE, rEnd]; dsimp only; rw [if_pos c99, if_pos c76b, if_pos c84, ← e2]; rfl)
      · refine ax_aload_n (pc := 87) G dX10_readText_87 rfl rfl ?_
        refine ax_iconst (pc := 88) (v := nI 1) G dX10_readText_88 ic_1 ?_
        obtain ⟨k3, e3⟩ : ∃ a : pK, a = pFl k 1 := ⟨_, rfl⟩
        have o3 : pOK n k3 := by rw [e3]; exact pFl_ok hk (by decide)
        have oc3 : k3.2.2.2.2.1 < 8 := o3.2.2.1
        have ot3 : k3.2.1 < 8 := o3.2.2.2
        refine ax_cV0 (pc := 89) (kb := 0) (nb := 0) G (kt_faults hA (h := h) (m := m) (μ := (md_sa (md_sa μ 3 f) 5 g)) hm (n := n) hend hn (b := b) hb k hk 1 e3) lVX10_105_8 dX10_readText_89 md_obj rfl (by decide) (Nat.le_of_ble_eq_true rfl) rfl ?_
        show ax_W Ω Γ _ _ (md_H h m (md_sa (md_sa (mK μ k3) 3 f) 5 g)) _ _ _
        refine ax_aload_n (pc := 92) G dX10_readText_92 rfl rfl ?_
        refine md_get (pc := 93) (v := .ref (m + 3)) G flX10_20_8 dX10_readText_93 rfl ?_
        refine ax_bipush (pc := 96) (v := nI 10) G dX10_readText_96 ib_10 ?_
        refine md_ld (pc := 98) (i := 10) (j := 3) G 235 dX10_readText_98 (by decide) (by decide) rfl rfl rfl (by omega) (by decide) ?_
        refine ax_if_ne (pc := 99) (tgt := 107) G dX10_readText_99 rfl (fun c99 => ?_) (fun c99 => ?_)
        · replace c99 : ¬ (f 10) = 0 := c99
          exact ax_vretE (pc := 107) G E rfl dX10_readText_107 (by rw [← hE, rEnd]; dsimp only; rw [if_neg c99, if_pos c76b, if_neg c84, ← e3]; rfl)
        · replace c99 : (f 10) = 0 := c99
          refine ax_aload_n (pc := 102) G dX10_readText_102 rfl rfl ?_
          refine ax_iconst (pc := 103) (v := nI 5) G dX10_readText_103 ic_5 ?_
          obtain ⟨k4, e4⟩ : ∃ a : pK, a = pFl k3 5 := ⟨_, rfl⟩
          have o4 : pOK n k4 := by rw [e4]; exact pFl_ok o3 (by decide)
          have oc4 : k4.2.2.2.2.1 < 8 := o4.2.2.1
          have ot4 : k4.2.1 < 8 := o4.2.2.2
          refine ax_cV0 (pc := 104) (kb := 0) (nb := 0) G (kt_faults hA (h := h) (m := m) (μ := (md_sa (md_sa μ 3 f) 5 g)) hm (n := n) hend hn (b := b) hb k3 o3 5 e4) lVX10_105_8 dX10_readText_104 md_obj rfl (by decide) (Nat.le_of_ble_eq_true rfl) rfl ?_
          show ax_W Ω Γ _ _ (md_H h m (md_sa (md_sa (mK μ k4) 3 f) 5 g)) _ _ _
          exact ax_vretE (pc := 107) G E rfl dX10_readText_107 (by rw [← hE, rEnd]; dsimp only; rw [if_pos c99, if_pos c76b, if_neg c84, ← e3, ← e4]; rfl)
  have LM : ∀ (q : Nat) (k : pK) (f g : pR) (P V A O : Nat), pOK n k → rC f g P V A O → (pSg k (nI 59) = true → n + 1 ≤ k.1 + q) → rEnd (rLoop b n q (k, f, g)) = T → ax_W Ω Γ 0 0 (md_H h m (md_sa (md_sa (mK μ k) 3 f) 5 g)) 52 [some (.ref m), some (.int (nI 627))] [] := by
    intro q
    induction q with
    | zero =>
      intro k f g P V A O hk hC hq hE
      have hc8 : k.2.2.2.2.1 < 8 := hk.2.2.1
      have ht8 : k.2.1 < 8 := hk.2.2.2
      have hk1 := hk.1
      refine ax_aload_n (pc := 52) G dX10_readText_52 rfl rfl ?_
      refine ax_bipush (pc := 53) (v := nI 59) G dX10_readText_53 ib_59 ?_
      refine ax_cV1 (pc := 55) (kb := 0) (nb := 0) G (kt_isSignHere hA (h := h) (m := m) (μ := (md_sa (md_sa μ 3 f) 5 g)) hm (n := n) hend hn (b := b) hb k hk (nI 59)) lVX10_148_8 dX10_readText_55 md_obj rfl (by decide) (Nat.le_of_ble_eq_true rfl) rfl ?_
      refine ax_if_eq (pc := 58) (tgt := 72) G dX10_readText_58 rfl (fun c58 => ?_) (fun c58 => ?_)
      · replace c58 : (bI (pSg k (nI 59))) = 0 := c58
        have c58b := bI_f c58
        exact KE k f g hk hE
      · replace c58 : ¬ (bI (pSg k (nI 59))) = 0 := c58
        have c58b := bI_t c58
        exact absurd (hq c58b) (by omega)
    | succ q ih =>
      intro k f g P V A O hk hC hq hE
      have hc8 : k.2.2.2.2.1 < 8 := hk.2.2.1
      have ht8 : k.2.1 < 8 := hk.2.2.2
      have hP6 : P ≤ 6 := hC.2.1
      have hV20 : V ≤ 20 := hC.2.2.1
      have hA5 : A ≤ 5 := hC.2.2.2.1
      have hO4 : O ≤ 4 := hC.2.2.2.2
      refine ax_aload_n (pc := 52) G dX10_readText_52 rfl rfl ?_
      refine ax_bipush (pc := 53) (v := nI 59) G dX10_readText_53 ib_59 ?_
      refine ax_cV1 (pc := 55) (kb := 0) (nb := 0) G (kt_isSignHere hA (h := h) (m := m) (μ := (md_sa (md_sa μ 3 f) 5 g)) hm (n := n) hend hn (b := b) hb k hk (nI 59)) lVX10_148_8 dX10_readText_55 md_obj rfl (by decide) (Nat.le_of_ble_eq_true rfl) rfl ?_
      refine ax_if_eq (pc := 58) (tgt := 72) G dX10_readText_58 rfl (fun c58 => ?_) (fun c58 => ?_)
      · replace c58 : (bI (pSg k (nI 59))) = 0 := c58
        have c58b := bI_f c58
        rw [rLoop_s, if_neg (by rw [c58b]; decide)] at hE
        exact KE k f g hk hE
      · replace c58 : ¬ (bI (pSg k (nI 59))) = 0 := c58
        have c58b := bI_t c58
        refine ax_aload_n (pc := 61) G dX10_readText_61 rfl rfl ?_
        obtain ⟨k5, e5⟩ : ∃ a : pK, a = pNx b n k := ⟨_, rfl⟩
        have o5 : pOK n k5 := by rw [e5]; exact pNx_ok hk
        have oc5 : k5.2.2.2.2.1 < 8 := o5.2.2.1
        have ot5 : k5.2.1 < 8 := o5.2.2.2
        refine ax_cV0 (pc := 62) (kb := 0) (nb := 0) G (kt_nextToken hA (h := h) (m := m) (μ := (md_sa (md_sa μ 3 f) 5 g)) hm (n := n) hend hn (b := b) hb k hk e5) lVX10_99_8 dX10_readText_62 md_obj rfl (by decide) (Nat.le_of_ble_eq_true rfl) rfl ?_
        show ax_W Ω Γ _ _ (md_H h m (md_sa (md_sa (mK μ k5) 3 f) 5 g)) _ _ _
        refine ax_aload_n (pc := 65) G dX10_readText_65 rfl rfl ?_
        refine ax_cV0 (pc := 66) (kb := 0) (nb := 0) G (mt_readLine hA (h := h) (m := m) (μ := μ) hm (n := n) hend hn (b := b) hb k5 o5 hC hL) lVX10_180_8 dX10_readText_66 md_obj rfl (by decide) (Nat.le_of_ble_eq_true rfl) rfl ?_
        show ax_W Ω Γ _ _ (md_H h m (mP μ (rLine b n k5 f g P V A O))) _ _ _
        refine ax_goto (pc := 69) (tgt := 52) G dX10_readText_69 rfl ?_
        rw [rLoop_s, if_pos c58b] at hE
        dsimp only at hE
        rw [hC.1.1, hC.1.2.1, hC.1.2.2.1, hC.1.2.2.2, pN_nI (by omega), pN_nI (by omega), pN_nI (by omega), pN_nI (by omega)] at hE
        rw [e5]
        obtain ⟨P2, V2, A2, O2, hC2⟩ := rC_line (b := b) (n := n) (κ := pNx b n k) hC
        have hg9 := pM_loop (b := b) (n := n) (κ := k) (f := f) (g := g) (P := P) (V := V) (A := A) (O := O) (v := nI 59) c58b
        have hq9 := hq c58b
        exact ih _ _ _ _ _ _ _ (rLine_ok (pNx_ok hk)) hC2 (fun z => by have := hg9 z; omega) hE
  have KF : ax_W Ω Γ 0 0 (md_H h m (md_sa (md_sa (mK μ (0, tk, st, vl, 0, (-1))) 3 p0) 5 p0)) 44 [some (.ref m), some (.int (nI 627))] [] := by
    refine ax_aload_n (pc := 44) G dX10_readText_44 rfl rfl ?_
    obtain ⟨k6, e6⟩ : ∃ a : pK, a = pTok b n 0 vl (-1) := ⟨_, rfl⟩
    have o6 : pOK n k6 := by rw [e6]; exact pTokA_ok (by have := (pSkip_b b n (n - 0) 0).2; omega)
    have oc6 : k6.2.2.2.2.1 < 8 := o6.2.2.1
    have ot6 : k6.2.1 < 8 := o6.2.2.2
    refine ax_cV0 (pc := 45) (kb := 0) (nb := 0) G (kt_nextToken0 hA (h := h) (m := m) (μ := (md_sa (md_sa μ 3 p0) 5 p0)) hm (n := n) hend hn (b := b) hb 0 tk st vl (-1) (by omega) e6) lVX10_99_8 dX10_readText_45 md_obj rfl (by decide) (Nat.le_of_ble_eq_true rfl) rfl ?_
    show ax_W Ω Γ _ _ (md_H h m (md_sa (md_sa (mK μ k6) 3 p0) 5 p0)) _ _ _
    refine ax_aload_n (pc := 48) G dX10_readText_48 rfl rfl ?_
    refine ax_cV0 (pc := 49) (kb := 0) (nb := 0) G (mt_readFirst hA (h := h) (m := m) (μ := μ) hm (n := n) hend hn (b := b) hb k6 o6 hL) lVX10_177_8 dX10_readText_49 md_obj rfl (by decide) (Nat.le_of_ble_eq_true rfl) rfl ?_
    show ax_W Ω Γ _ _ (md_H h m (mP μ (rFirst b n k6 p0 p0))) _ _ _
    have hT2 : rEnd (rLoop b n 1001 (rFirst b n k6 p0 p0)) = T := by rw [hT, rText, show pNx b n (0, tk, st, vl, 0, -1) = k6 from by rw [e6]; rfl]
    obtain ⟨N9, hN9⟩ : ∃ x : Nat, x = 1001 := ⟨_, rfl⟩
    rw [← hN9] at hT2
    have hok9 := rFirst_ok (b := b) (f := p0) (g := p0) o6
    have hrc9 := rC_first (b := b) (n := n) (κ := k6)
    generalize rFirst b n k6 p0 p0 = ψ at hT2 hok9 hrc9 ⊢
    obtain ⟨k9, f9, g9⟩ := ψ
    exact LM N9 k9 f9 g9 0 0 0 0 hok9 hrc9 (fun _ => by omega) hT2
  have LB : ∀ (q i : Nat), i + q = 627 → ax_W Ω Γ 0 0 (md_H h m (md_sa (md_sa (mK μ (0, tk, st, vl, 0, (-1))) 3 p0) 5 (pC (μ.2 5) p0 i))) 24 [some (.ref m), some (.int (nI i))] [] := by
    intro q
    induction q with
    | zero =>
      intro i hi
      have hi9 : i = 627 := by omega
      subst hi9
      refine ax_iload_n (pc := 24) G dX10_readText_24 rfl rfl ?_
      refine ax_sipush (pc := 25) (v := nI 627) G dX10_readText_25 is_627 ?_
      refine ax_icmp_ge (pc := 28) (tgt := 44) G dX10_readText_28 rfl (fun _ => ?_) (fun c9 => absurd (by decide) c9)
      refine ax_W_le (md_le (by decide) (by decide) (fun j hj => pC_l (show j < 627 from hj))) ?_
      exact KF
    | succ q ih =>
      intro i hi
      refine ax_iload_n (pc := 24) G dX10_readText_24 rfl rfl ?_
      refine ax_sipush (pc := 25) (v := nI 627) G dX10_readText_25 is_627 ?_
      refine ax_icmp_geN (pc := 28) (tgt := 44) G dX10_readText_28 rfl (by omega) (by omega) (fun c28 => ?_) (fun c28 => ?_)
      · omega
      · refine ax_aload_n (pc := 31) G dX10_readText_31 rfl rfl ?_
        refine md_get (pc := 32) (v := .ref (m + 5)) G flX10_26_8 dX10_readText_32 rfl ?_
        refine ax_iload_n (pc := 35) G dX10_readText_35 rfl rfl ?_
        refine ax_iconst (pc := 36) (v := nI 0) G dX10_readText_36 ic_0 ?_
        refine md_st (pc := 37) (i := i) (j := 5) G 627 dX10_readText_37 hm (by decide) (by decide) rfl rfl rfl (by omega) (by decide) ?_
        show ax_W Ω Γ _ _ (md_H h m (md_sa (md_sa (md_sa (mK μ (0, tk, st, vl, 0, (-1))) 3 p0) 5 (pC (μ.2 5) p0 i)) 5 (upd (pC (μ.2 5) p0 i) i (nI 0)))) _ _ _
        rw [md_saa]
        show ax_W Ω Γ _ _ (md_H h m (md_sa (md_sa (mK μ (0, tk, st, vl, 0, (-1))) 3 p0) 5 (upd (pC (μ.2 5) p0 i) i (nI 0)))) _ _ _
        refine ax_iincN (pc := 38) (n := 1) G dX10_readText_38 rfl rfl ic_1 ?_
        refine ax_goto (pc := 41) (tgt := 24) G dX10_readText_41 rfl ?_
        have q9 := ih (i + 1) (by omega)
        rw [← pC_z] at q9
        exact q9
  have KA : ax_W Ω Γ 0 0 (md_H h m (md_sa (mK μ (0, tk, st, vl, 0, (-1))) 3 p0)) 22 [some (.ref m), some (.int (nI 235))] [] := by
    refine ax_iconst (pc := 22) (v := nI 0) G dX10_readText_22 ic_0 ?_
    refine ax_istore_n (pc := 23) G dX10_readText_23 rfl (Nat.le_of_ble_eq_true rfl) rfl ?_
    have q8 := LB 627 0 (by omega)
    rw [pC_0, show md_sa (md_sa (mK μ (0, tk, st, vl, 0, -1)) 3 p0) 5 (μ.2 5) = md_sa (mK μ (0, tk, st, vl, 0, -1)) 3 p0 from md_same (md_sa (mK μ (0, tk, st, vl, 0, -1)) 3 p0) 5] at q8
    exact q8
  have LA : ∀ (q i : Nat), i + q = 235 → ax_W Ω Γ 0 0 (md_H h m (md_sa (mK μ (0, tk, st, vl, 0, (-1))) 3 (pC (μ.2 3) p0 i))) 2 [some (.ref m), some (.int (nI i))] [] := by
    intro q
    induction q with
    | zero =>
      intro i hi
      have hi9 : i = 235 := by omega
      subst hi9
      refine ax_iload_n (pc := 2) G dX10_readText_2 rfl rfl ?_
      refine ax_sipush (pc := 3) (v := nI 235) G dX10_readText_3 is_235 ?_
      refine ax_icmp_ge (pc := 6) (tgt := 22) G dX10_readText_6 rfl (fun _ => ?_) (fun c9 => absurd (by decide) c9)
      refine ax_W_le (md_le (by decide) (by decide) (fun j hj => pC_l (show j < 235 from hj))) ?_
      exact KA
    | succ q ih =>
      intro i hi
      refine ax_iload_n (pc := 2) G dX10_readText_2 rfl rfl ?_
      refine ax_sipush (pc := 3) (v := nI 235) G dX10_readText_3 is_235 ?_
      refine ax_icmp_geN (pc := 6) (tgt := 22) G dX10_readText_6 rfl (by omega) (by omega) (fun c6 => ?_) (fun c6 => ?_)
      · omega
      · refine ax_aload_n (pc := 9) G dX10_readText_9 rfl rfl ?_
        refine md_get (pc := 10) (v := .ref (m + 3)) G flX10_20_8 dX10_readText_10 rfl ?_
        refine ax_iload_n (pc := 13) G dX10_readText_13 rfl rfl ?_
        refine ax_iconst (pc := 14) (v := nI 0) G dX10_readText_14 ic_0 ?_
        refine md_st (pc := 15) (i := i) (j := 3) G 235 dX10_readText_15 hm (by decide) (by decide) rfl rfl rfl (by omega) (by decide) ?_
        show ax_W Ω Γ _ _ (md_H h m (md_sa (md_sa (mK μ (0, tk, st, vl, 0, (-1))) 3 (pC (μ.2 3) p0 i)) 3 (upd (pC (μ.2 3) p0 i) i (nI 0)))) _ _ _
        rw [md_saa]
        show ax_W Ω Γ _ _ (md_H h m (md_sa (mK μ (0, tk, st, vl, 0, (-1))) 3 (upd (pC (μ.2 3) p0 i) i (nI 0)))) _ _ _
        refine ax_iincN (pc := 16) (n := 1) G dX10_readText_16 rfl rfl ic_1 ?_
        refine ax_goto (pc := 19) (tgt := 2) G dX10_readText_19 rfl ?_
        have q9 := ih (i + 1) (by omega)
        rw [← pC_z] at q9
        exact q9
  show ax_W Ω Γ 0 0 (md_H h m (mK μ (0, tk, st, vl, 0, (-1)))) 0 [some (.ref m), none] []
  refine ax_iconst (pc := 0) (v := nI 0) G dX10_readText_0 ic_0 ?_
  refine ax_istore_n (pc := 1) G dX10_readText_1 rfl (Nat.le_of_ble_eq_true rfl) rfl ?_
  have q8 := LA 235 0 (by omega)
  rw [pC_0, show md_sa (mK μ (0, tk, st, vl, 0, -1)) 3 (μ.2 3) = mK μ (0, tk, st, vl, 0, -1) from md_same (mK μ (0, tk, st, vl, 0, -1)) 3] at q8
  exact q8

