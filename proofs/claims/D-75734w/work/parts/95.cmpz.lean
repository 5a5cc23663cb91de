/-! THE COMPONENT: names -/
/-- a list of n things x, all of class C -/
def xLi (h : ax_H) (L e n : Nat) (x : Nat → Nat) (C : Nat) : Prop := ∃ (mc : Int32) (cap : Nat) (F : Nat → Option Nat), h.1 L = some (.inr (16, [.int mc, .ref e, .int (nI n)])) ∧ h.1 e = some (.inl (.object "java/lang/Object", cap, .inr (.inr (.inr (.inr F))))) ∧ 0 < cap ∧ cap < 100 ∧ n ≤ cap ∧ (∀ k, k < n → F k = some (x k)) ∧ ∀ i, i < cap → ∀ q, F i = some q → ∃ fs, h.1 q = some (.inr (C, fs))
theorem xLi.fr {h h' : ax_H} {L e n C : Nat} {x : Nat → Nat} (z : xLi h L e n x C) (h1 : h'.1 L = h.1 L) (h2 : h'.1 e = h.1 e) (hc : ∀ q fs, h.1 q = some (.inr (C, fs)) → h'.1 q = some (.inr (C, fs))) : xLi h' L e n x C := by
  obtain ⟨mc, cap, F, a1, a2, a3, a4, a5, a6, a7⟩ := z
  exact ⟨mc, cap, F, h1.trans a1, h2.trans a2, a3, a4, a5, a6, fun i hi q hq => by
    obtain ⟨fs, hf⟩ := a7 i hi q hq
    exact ⟨fs, hc q fs hf⟩⟩
theorem xLi.c {h : ax_H} {L e n C : Nat} {x : Nat → Nat} (z : xLi h L e n x C) {k : Nat} (hk : k < n) : ∃ fs, h.1 (x k) = some (.inr (C, fs)) := by
  obtain ⟨mc, cap, F, a1, a2, a3, a4, a5, a6, a7⟩ := z
  exact a7 k (by omega) _ (a6 k hk)
theorem xLi.o {h : ax_H} {L e n C : Nat} {x : Nat → Nat} (z : xLi h L e n x C) : ∃ fs, h.1 L = some (.inr (16, fs)) := by
  obtain ⟨mc, cap, F, a1, -⟩ := z
  exact ⟨_, a1⟩
theorem xLi.a {h : ax_H} {L e n C : Nat} {x : Nat → Nat} (z : xLi h L e n x C) : ∃ a, h.1 e = some (.inl a) := by
  obtain ⟨mc, cap, F, a1, a2, -⟩ := z
  exact ⟨_, a2⟩
theorem xLi.add {h h' : ax_H} {L e n C xn cap : Nat} {x : Nat → Nat} {F : Nat → Option Nat} {mc : Int32} {fs : List Value} {L0 : List Value} {a0 : FieldType × vp_A} (hL : h.1 L = some (.inr (16, L0))) (hE : h.1 e = some (.inl a0)) (hn : n ≤ 20) (hcap : n ≤ cap) (hc100 : cap < 100) (hF : ∀ k, k < n → F k = some (x k)) (hcl : ∀ i, i < cap → ∀ q, F i = some q → ∃ fs, h.1 q = some (.inr (C, fs))) (hx : h.1 xn = some (.inr (C, fs))) (hC : C ≠ 16) (wf : ax_wf h) (z : cAdd h h' L e cap n xn F mc) :
    ∃ e', xLi h' L e' (n + 1) (fun k => if k = n then xn else x k) C ∧ (e' = e ∨ h.2 ≤ e') := by
  obtain ⟨e', cap', F', b1, b2, b3, b4, b5, b6, b7, b8, b9, b10⟩ := z
  have keep : ∀ q fs, h.1 q = some (.inr (C, fs)) → h'.1 q = some (.inr (C, fs)) := fun q fs hq => by
    rw [b9 q (wf.lt hq) (fun y => by rw [y, hL] at hq; cases hq; exact hC rfl) (fun y => by rw [y, hE] at hq; cases hq)]; exact hq
  refine ⟨e', ⟨mc, cap', F', b1, b2, by omega, by rcases b4 with b4 | b4 <;> omega, by omega, fun k hk => ?_, fun i hi q hq => ?_⟩, by rcases b8 with ⟨y, -⟩ | ⟨y, -⟩ <;> omega⟩
  · by_cases y : k = n
    · show F' k = some (if k = n then xn else x k); rw [if_pos y, y]; exact b6
    · show F' k = some (if k = n then xn else x k); rw [if_neg y, b5 k (by omega)]; exact hF k (by omega)
  · rcases b7 i hi q hq with y | ⟨k, hk, y⟩
    · exact ⟨fs, by rw [y]; exact keep _ _ hx⟩
    · obtain ⟨fs', hf⟩ := hcl k hk q y
      exact ⟨fs', keep _ _ hf⟩
/-- the names read so far -/
def xNm (h : ax_H) (x nm ln : Nat → Nat) (lt : Nat → Nat → Nat) (f g : pR) (P : Nat) : Prop := ∀ k, k < P → h.1 (x k) = some (.inr (12, [.ref (nm k), .int (g (17 + k))])) ∧ sStr h (nm k) (ln k) (lt k) ∧ ln k ≤ 8 ∧ f (11 + k) = nI (ln k) ∧ ∀ i, i < ln k → f (17 + 8 * k + i) = nI (lt k i) ∧ lt k i < 256
theorem xNm.kp {h h' : ax_H} {x nm ln : Nat → Nat} {lt : Nat → Nat → Nat} {f g : pR} {P : Nat} (z : xNm h x nm ln lt f g P) (k : xKp h h') : xNm h' x nm ln lt f g P := fun i hi => by
  obtain ⟨a1, a2, a3, a4, a5⟩ := z i hi
  exact ⟨k _ _ a1 (xIm_o (by decide)), a2.kp k, a3, a4, a5⟩
theorem rEq_i {b : pR} {st : Nat} {f : pR} {k : Nat} : ∀ {n : Nat}, rEq b st f k n = true ↔ ∀ i, i < n → f (17 + 8 * k + i) = b (st + i)
  | 0 => ⟨fun _ i hi => absurd hi (Nat.not_lt_zero i), fun _ => rfl⟩
  | n + 1 => by
    rw [rEq, Bool.and_eq_true, decide_eq_true_iff, rEq_i (n := n)]
    constructor
    · intro ⟨h1, h2⟩ i hi
      by_cases e : i = n
      · subst e; exact h2
      · exact h1 i (by omega)
    · intro h
      exact ⟨fun i hi => h i (by omega), h n (by omega)⟩
theorem xIs_e {b : pR} {β : Nat → Nat} (hβ : xBy b β) {κ : pK} (hx : xLex β κ) (h2 : κ.2.1 = 2) {f : pR} {k m : Nat} {t : Nat → Nat} (hm : m ≤ 8) (h1 : f (11 + k) = nI m) (hl : ∀ i, i < m → f (17 + 8 * k + i) = nI (t i) ∧ t i < 256) :
    (decide (m = xLen κ) && lEq t (xLet β κ) m) = rIs b κ.2.2.1 (rLn κ) f k := by
  have exl : xLen κ = rLn κ := by unfold xLen rLn; rw [if_neg (by omega), if_pos h2]
  have h8 := (hx.2.1 h2).2.1
  unfold rIs
  rw [exl]
  by_cases e : m = rLn κ
  · subst e
    rw [decide_eq_true rfl, Bool.true_and, if_pos h1]
    apply Bool.eq_iff_iff.mpr
    rw [lEq_i, rEq_i]
    constructor
    · intro h i hi
      have := h i hi
      unfold xLet at this
      rw [if_pos h2] at this
      rw [(hl i hi).1, this, (hβ _).1]
    · intro h i hi
      have := h i hi
      rw [(hl i hi).1, (hβ _).1] at this
      unfold xLet
      rw [if_pos h2]
      exact (nI_eq (by have := (hl i hi).2; omega) (by have := (hβ (κ.2.2.1 + i)).2; omega)).mp this
  · rw [decide_eq_false e, Bool.false_and, if_neg (fun z => e (by rw [h1] at z; exact (nI_eq (by omega) (by omega)).mp z))]
theorem rNm_s {b : pR} {st ln : Nat} {f : pR} {n k : Nat} : rNm b st ln f (n + 1) k = if rIs b st ln f k = true then some k else rNm b st ln f n (k + 1) := rfl
theorem ct_xcheckWord {Ω : ax_O} (hA : ax_Amb Ω) {h : ax_H} (wf : ax_wf h) (hz : Ω.2.1.heap.size ≤ h.2) {P tx n sc sa : Nat} {tb b : Nat → Int32} {β : Nat → Nat} (hbP : Ω.2.1.heap.size ≤ P) (hEn : xEn Ω h tx n tb b β) {κ : pK} (hP : xPs h P tx n sc sa β κ) (hK : xK n β κ) {k1 : pK} (e1 : k1 = rPrA κ)  : ax_MetP Ω yX11_checkWord 6 1 8 [.ref P] h (xOut h P tx n sc sa β k1 (none)) := by
  refine ax_metP q1182 q145 (by decide +kernel) (by decide) hA (Nat.le_of_ble_eq_true rfl) (fun Γ G E => ?_)
  obtain ⟨nm, tk, hPo, hTk⟩ := id hP
  have hlP := wf.lt hPo
  have hβ := hEn.2.2.2.1
  have hlx := xLen_l hK.2.2
  show ax_W Ω Γ 1 8 h 0 [some (.ref P)] []
  refine ax_aload_n (pc := 0) G dX11_checkWord_0 rfl rfl ?_
  refine ax_getf (pc := 1) (v := .ref tk) G flX11_11_9 dX11_checkWord_1 (hPo) rfl ?_
  refine ax_cV1 (pc := 4) (kb := 1) (nb := 8) G (ct_semptyS hA (hTk.1) (by omega)) lVX11_167_19 dX11_checkWord_4 (hTk.1.o.choose_spec) rfl (by decide) (Nat.le_of_ble_eq_true rfl) rfl ?_
  refine ax_top (show Value.int (bI (decide (xLen κ = 0))) = .int (bI (decide (κ.2.1 = 1))) from congrArg (fun z => Value.int (bI z)) (xEq_end hK.2.2)) ?_
  refine ax_if_ne (pc := 7) (tgt := 31) G dX11_checkWord_7 rfl (fun c7 => ?_) (fun c7 => ?_)
  · have c7b := bI_t c7
    refine ax_aload_n (pc := 31) G dX11_checkWord_31 rfl rfl ?_
    refine ax_iconst (pc := 32) (v := nI 1) G dX11_checkWord_32 ic_1 ?_
    refine ax_nV (pc := 33) (kb := 0) (nb := 0) G (ct_xflaw (b := b) (tb := tb) hA wf (by omega) (hPo) 1) lVX11_110_9 dX11_checkWord_33 (hPo) rfl (by decide) (Nat.le_of_ble_eq_true rfl) rfl (fun v283 h283 q9 => ?_)
    obtain ⟨rfl, g283, f283, z283, w283⟩ := q9
    show ax_W Ω Γ _ _ (h283) _ _ (.ref h.2 :: _)
    refine ax_athrow (pc := 36) G dX11_checkWord_36 ?_
    have hk9 : k1 = pFl κ 1 := by rw [e1]; first | (rw [rPrA_0 hK.1 (of_decide_eq_true c28b)]) | (rw [rPrA_1 hK.1 (of_decide_eq_false c28b)]) | (rw [rPrA_1 hK.1 (by have := of_decide_eq_true c7b; omega)])
    exact ax_outP G E (fun x hx => by cases hx) ⟨((xSt.rfl' wf).trans ⟨fun q a1 _ => f283 q a1, by omega, w283⟩), Or.inr ⟨by rw [hk9, pFl_c hK.1]; decide, _, rfl, by rw [xFl, hk9, pFl_v hK.1]; exact g283⟩⟩
  · have c7b := bI_f c7
    refine ax_aload_n (pc := 10) G dX11_checkWord_10 rfl rfl ?_
    refine ax_getf (pc := 11) (v := .ref tk) G flX11_11_9 dX11_checkWord_11 (hPo) rfl ?_
    refine ax_iconst (pc := 14) (v := nI 0) G dX11_checkWord_14 ic_0 ?_
    refine ax_cV1 (pc := 15) (kb := 1) (nb := 8) G (ct_satS hA (hTk.1) (by omega) 0 (by have := mt (fun z => (xEq_end hK.2.2 ▸ decide_eq_true z : decide (κ.2.1 = 1) = true)) (by rw [c7b]; decide); omega)) lVX11_221_19 dX11_checkWord_15 (hTk.1.o.choose_spec) rfl (by decide) (Nat.le_of_ble_eq_true rfl) rfl ?_
    refine ax_i2l (pc := 18) G dX11_checkWord_18 rfl ?_
    refine ax_ldc2 (pc := 19) G q997 dX11_checkWord_19 ?_
    refine ax_ldc2 (pc := 22) G q998 dX11_checkWord_22 ?_
    refine ax_cSN1 (pc := 25) (kb := 1) (nb := 8) G (ct_in hA ((nI (xLet β κ 0)).toInt64) 97 122) lSX11_55 dX11_checkWord_25 rfl (by decide) (Nat.le_of_ble_eq_true rfl) rfl ?_
    rw [cIn_k (A := 97) (B := 122) (a := (nI 97)) (b := (nI 122)) (nI (xLet β κ 0)) (by decide) (by decide)]
    rw [xEq_first hK.2.2 (of_decide_eq_false c7b)]
    refine ax_if_ne (pc := 28) (tgt := 37) G dX11_checkWord_28 rfl (fun c28 => ?_) (fun c28 => ?_)
    · have c28b := bI_t c28
      have hk9 : k1 = κ := by rw [e1]; first | (rw [rPrA_0 hK.1 (of_decide_eq_true c28b)]) | (rw [rPrA_1 hK.1 (of_decide_eq_false c28b)]) | (rw [rPrA_1 hK.1 (by have := of_decide_eq_true c7b; omega)])
      exact ax_vretP (pc := 37) G E rfl dX11_checkWord_37 ⟨(xSt.rfl' wf), Or.inl ⟨rfl, by rw [hk9]; exact hP, by rw [hk9]; exact hK⟩⟩
    · have c28b := bI_f c28
      refine ax_aload_n (pc := 31) G dX11_checkWord_31 rfl rfl ?_
      refine ax_iconst (pc := 32) (v := nI 1) G dX11_checkWord_32 ic_1 ?_
      refine ax_nV (pc := 33) (kb := 0) (nb := 0) G (ct_xflaw (b := b) (tb := tb) hA wf (by omega) (hPo) 1) lVX11_110_9 dX11_checkWord_33 (hPo) rfl (by decide) (Nat.le_of_ble_eq_true rfl) rfl (fun v284 h284 q9 => ?_)
      obtain ⟨rfl, g284, f284, z284, w284⟩ := q9
      show ax_W Ω Γ _ _ (h284) _ _ (.ref h.2 :: _)
      refine ax_athrow (pc := 36) G dX11_checkWord_36 ?_
      have hk9 : k1 = pFl κ 1 := by rw [e1]; first | (rw [rPrA_0 hK.1 (of_decide_eq_true c28b)]) | (rw [rPrA_1 hK.1 (of_decide_eq_false c28b)]) | (rw [rPrA_1 hK.1 (by have := of_decide_eq_true c7b; omega)])
      exact ax_outP G E (fun x hx => by cases hx) ⟨((xSt.rfl' wf).trans ⟨fun q a1 _ => f284 q a1, by omega, w284⟩), Or.inr ⟨by rw [hk9, pFl_c hK.1]; decide, _, rfl, by rw [xFl, hk9, pFl_v hK.1]; exact g284⟩⟩

theorem ct_xnamed {Ω : ax_O} (hA : ax_Amb Ω) {h : ax_H} (wf : ax_wf h) (hz : Ω.2.1.heap.size ≤ h.2) {P tx n sc sa : Nat} {tb b : Nat → Int32} {β : Nat → Nat} (hbP : Ω.2.1.heap.size ≤ P) (hEn : xEn Ω h tx n tb b β) {κ : pK} (hK : xK n β κ) {nm : Int32} {tk : Nat} (hPo : h.1 P = some (.inr (9, [.ref tx, .int (nI n), .int (nI κ.1), .int (nI κ.2.2.1), .int nm, .ref tk, .ref sc, .ref sa]))) (hTk : xTk h tk nm β κ) {L e N : Nat} {xs : Nat → Nat} (hsc : ∃ rs, h.1 sc = some (.inr (10, .ref L :: rs))) (hLi : xLi h L e N xs 12) {nm0 ln : Nat → Nat} {lt : Nat → Nat → Nat} {f g : pR} (hNm : xNm h xs nm0 ln lt f g N) (hN : N ≤ 6) (h2 : κ.2.1 = 2)  : ax_Met Ω yX11_named 5 0 0 [.ref P, .ref tk] h (.inl (some (.int (oI (rNm b κ.2.2.1 (rLn κ) f N 0))))) h := by
  refine ax_met q1201 q145 (by decide +kernel) (by decide) hA (Nat.le_of_ble_eq_true rfl) (fun Γ G E => ?_)
  have hlP := wf.lt hPo
  have hβ := hEn.2.2.2.1
  have hlx := xLen_l hK.2.2
  obtain ⟨rs, hSc⟩ := hsc
  obtain ⟨mc, cap, F, hLo, hEo, hc0, hc1, hc2, hF, hCl⟩ := id hLi
  have hPsc : P ≠ sc := fun z => by rw [z, hSc] at hPo; cases hPo
  have hPL : P ≠ L := fun z => by rw [z, hLo] at hPo; cases hPo
  have hPe : P ≠ e := fun z => by rw [z, hEo] at hPo; cases hPo
  have hlsc := wf.lt hSc
  have hlL := wf.lt hLo
  have hle := wf.lt hEo
  have LN : ∀ (q i : Nat), i + q = N → rNm b κ.2.2.1 (rLn κ) f q i = rNm b κ.2.2.1 (rLn κ) f N 0 → ax_W Ω Γ 0 0 h 2 [some (.ref P), some (.ref tk), some (.int (nI i))] [] := by
    intro q
    induction q with
    | zero =>
      intro i hi hv
      have hv0 : none = rNm b κ.2.2.1 (rLn κ) f N 0 := hv
      refine ax_iload_n (pc := 2) G dX11_named_2 rfl rfl ?_
      refine ax_aload_n (pc := 3) G dX11_named_3 rfl rfl ?_
      refine ax_getf (pc := 4) (v := .ref sc) G flX11_20_9 dX11_named_4 (hPo) rfl ?_
      refine ax_getf (pc := 7) (v := .ref L) G flX11_171_10 dX11_named_7 (hSc) rfl ?_
      refine ax_cJ1 (pc := 10) (kb := 0) (nb := 0) G (ct_lsize hA (hLo)) lJX11_182_16 dX11_named_10 (hLo) rfl (by decide) (Nat.le_of_ble_eq_true rfl) rfl ?_
      refine ax_icmp_geN (pc := 15) (tgt := 52) G dX11_named_15 rfl (by omega) (by omega) (fun c15 => ?_) (fun c15 => ?_)
      · refine ax_iconst (pc := 52) (v := (-1)) G dX11_named_52 (by decide) ?_
        exact ax_iretE (pc := 53) G E rfl (rfl) dX11_named_53 (by rw [← hv0]; rfl) (rfl)
      · omega
    | succ q ih =>
      intro i hi hv
      rw [rNm_s] at hv
      have hIs := xIs_e hβ hK.2.2 h2 (f := f) (k := i) (hNm i (by omega)).2.2.1 (hNm i (by omega)).2.2.2.1 (hNm i (by omega)).2.2.2.2
      have hl8 := (hNm i (by omega)).2.2.1
      refine ax_iload_n (pc := 2) G dX11_named_2 rfl rfl ?_
      refine ax_aload_n (pc := 3) G dX11_named_3 rfl rfl ?_
      refine ax_getf (pc := 4) (v := .ref sc) G flX11_20_9 dX11_named_4 (hPo) rfl ?_
      refine ax_getf (pc := 7) (v := .ref L) G flX11_171_10 dX11_named_7 (hSc) rfl ?_
      refine ax_cJ1 (pc := 10) (kb := 0) (nb := 0) G (ct_lsize hA (hLo)) lJX11_182_16 dX11_named_10 (hLo) rfl (by decide) (Nat.le_of_ble_eq_true rfl) rfl ?_
      refine ax_icmp_geN (pc := 15) (tgt := 52) G dX11_named_15 rfl (by omega) (by omega) (fun c15 => ?_) (fun c15 => ?_)
      · omega
      · refine ax_aload_n (pc := 18) G dX11_named_18 rfl rfl ?_
        refine ax_getf (pc := 19) (v := .ref sc) G flX11_20_9 dX11_named_19 (hPo) rfl ?_
        refine ax_getf (pc := 22) (v := .ref L) G flX11_171_10 dX11_named_22 (hSc) rfl ?_
        refine ax_iload_n (pc := 25) G dX11_named_25 rfl rfl ?_
        refine ax_cJ1 (pc := 26) (kb := 0) (nb := 0) G (ct_lget hA (hLo) (hEo) i (by omega) hc2 (by omega) (hF i (by omega))) lJX11_225_16 dX11_named_26 (hLo) rfl (by decide) (Nat.le_of_ble_eq_true rfl) rfl ?_
        refine ax_checkcast (pc := 31) G q1219 ⟨_, rfl, Or.inl rfl⟩ dX11_named_31 ((hNm i (by omega)).1) ?_
        refine ax_getf (pc := 34) (v := .ref (nm0 i)) G flX11_231_12 dX11_named_34 ((hNm i (by omega)).1) rfl ?_
        refine ax_aload_n (pc := 37) G dX11_named_37 rfl rfl ?_
        refine ax_cV1 (pc := 38) (kb := 0) (nb := 0) G (ct_seqS hA ((hNm i (by omega)).2.1) (hTk.1) (by omega) (by first | omega | decide)) lVX11_97_19 dX11_named_38 ((hNm i (by omega)).2.1.o.choose_spec) rfl (by decide) (Nat.le_of_ble_eq_true rfl) rfl ?_
        refine ax_top (show Value.int (bI (decide ((ln i) = xLen κ) && lEq ((lt i)) (xLet β κ) ((ln i)))) = .int (bI (rIs b κ.2.2.1 (rLn κ) f i)) from congrArg (fun z => Value.int (bI z)) hIs) ?_
        refine ax_if_eq (pc := 41) (tgt := 46) G dX11_named_41 rfl (fun c41 => ?_) (fun c41 => ?_)
        · have c41b := bI_f c41
          refine ax_iincN (pc := 46) (n := 1) G dX11_named_46 rfl rfl ic_1 ?_
          refine ax_goto (pc := 49) (tgt := 2) G dX11_named_49 rfl ?_
          exact ih (i + 1) (by omega) (by rw [← hv, if_neg (by rw [c41b]; decide)])
        · have c41b := bI_t c41
          refine ax_iload_n (pc := 44) G dX11_named_44 rfl rfl ?_
          exact ax_iretE (pc := 45) G E rfl (rfl) dX11_named_45 (by rw [← hv, if_pos c41b]; rfl) (rfl)
  show ax_W Ω Γ 0 0 h 0 [some (.ref P), some (.ref tk), none] []
  refine ax_iconst (pc := 0) (v := nI 0) G dX11_named_0 ic_0 ?_
  refine ax_istore_n (pc := 1) G dX11_named_1 rfl (Nat.le_of_ble_eq_true rfl) rfl ?_
  exact LN N 0 (by omega) rfl

theorem rPrA_t {κ : pK} (h : κ.2.2.2.2.1 = 0) (h2 : (rPrA κ).2.2.2.2.1 = 0) : (rPrA κ).2.1 = 2 := by
  by_cases e : κ.2.1 = 2
  · rw [rPrA_0 h e]; exact e
  · rw [rPrA_1 h e, pFl_c h] at h2; cases h2
theorem ct_xearlier {Ω : ax_O} (hA : ax_Amb Ω) {h : ax_H} (wf : ax_wf h) (hz : Ω.2.1.heap.size ≤ h.2) {P tx n sc sa : Nat} {tb b : Nat → Int32} {β : Nat → Nat} (hbP : Ω.2.1.heap.size ≤ P) (hEn : xEn Ω h tx n tb b β) {κ : pK} (hP : xPs h P tx n sc sa β κ) (hK : xK n β κ) {L e N : Nat} {xs : Nat → Nat} (hsc : ∃ rs, h.1 sc = some (.inr (10, .ref L :: rs))) (hLi : xLi h L e N xs 12) {nm0 ln : Nat → Nat} {lt : Nat → Nat → Nat} {f g : pR} (hNm : xNm h xs nm0 ln lt f g N) (hN : N ≤ 6) {k1 : pK} (e1 : k1 = pNx b n (if rPrV b (rPrA κ) f N = -1 then pFl (rPrA κ) 3 else rPrA κ)) {v1 : Int32} (y1 : v1 = rPrV b (rPrA κ) f N)  : ax_MetP Ω yX11_earlier 10 6 110 [.ref P] h (xOut h P tx n sc sa β k1 (some (.int v1))) := by
  refine ax_metP q1305 q145 (by decide +kernel) (by decide) hA (Nat.le_of_ble_eq_true rfl) (fun Γ G E => ?_)
  obtain ⟨nm, tk, hPo, hTk⟩ := id hP
  have hlP := wf.lt hPo
  have hβ := hEn.2.2.2.1
  have hlx := xLen_l hK.2.2
  obtain ⟨rs, hSc⟩ := hsc
  obtain ⟨mc, cap, F, hLo, hEo, hc0, hc1, hc2, hF, hCl⟩ := id hLi
  have hPsc : P ≠ sc := fun z => by rw [z, hSc] at hPo; cases hPo
  have hPL : P ≠ L := fun z => by rw [z, hLo] at hPo; cases hPo
  have hPe : P ≠ e := fun z => by rw [z, hEo] at hPo; cases hPo
  have hlsc := wf.lt hSc
  have hlL := wf.lt hLo
  have hle := wf.lt hEo
  show ax_W Ω Γ 6 110 h 0 [some (.ref P), none] []
  refine ax_aload_n (pc := 0) G dX11_earlier_0 rfl rfl ?_
  obtain ⟨k285, e285⟩ : ∃ a : pK, a = rPrA κ := ⟨_, rfl⟩
  refine ax_pV (pc := 1) (kb := 5) (nb := 102) G (ct_xcheckWord hA wf (by omega) hbP hEn hP hK  e285) lVX11_234_9 dX11_earlier_1 (hPo) rfl (by decide) (Nat.le_of_ble_eq_true rfl) rfl (fun v9 h285 q9 => ?_) (fun x9 h9x q9 => ?_)
  rotate_left
  obtain ⟨c285x, fl285, s285⟩ := q9.x
  have hk9 : k1 = k285 := by rw [e1, rPrV, ← e285, if_neg c285x, if_neg (by decide), pNx_c c285x]
  exact ax_outP G E (fun x hx => by cases hx) ⟨(xSt.rfl' wf).trans s285, Or.inr ⟨by rw [hk9]; exact c285x, _, rfl, by rw [hk9]; exact fl285⟩⟩
  obtain ⟨rfl, p285, c285, s285⟩ := q9.n
  obtain ⟨nm285, tk285, o285, t285⟩ := id p285
  obtain ⟨f285, z285, w285⟩ := id s285
  have n285 := hEn.kp (xKp.one wf (hPo) (by decide) f285)
  have x285 := xLen_l c285.2.2
  show ax_W Ω Γ _ _ (h285) _ _ (_)
  refine ax_aload_n (pc := 4) G dX11_earlier_4 rfl rfl ?_
  refine ax_aload_n (pc := 5) G dX11_earlier_5 rfl rfl ?_
  refine ax_getf (pc := 6) (v := .ref tk285) G flX11_11_9 dX11_earlier_6 (o285) rfl ?_
  refine ax_cV1 (pc := 9) (kb := 5) (nb := 102) G (ct_xnamed hA w285 (by omega) hbP n285 c285 (o285) t285 (L := L) (e := e) ⟨_, (f285 _ (by omega) (by omega)).trans (hSc)⟩ (hLi.fr ((f285 _ (by omega) (by omega))) ((f285 _ (by omega) (by omega))) (fun q fs hq => ((xKp.rfl' h).trans (xKp.one wf (hPo) (by decide) f285)) q _ hq (xIm_o (by decide)))) (hNm.kp ((xKp.rfl' h).trans (xKp.one wf (hPo) (by decide) f285))) hN (by rw [e285]; exact rPrA_t hK.1 (by rw [← e285]; exact c285.1))) lVX11_237_9 dX11_earlier_9 (o285) rfl (by decide) (Nat.le_of_ble_eq_true rfl) rfl ?_
  refine ax_istore_n (pc := 12) G dX11_earlier_12 rfl (Nat.le_of_ble_eq_true rfl) rfl ?_
  refine ax_iload_n (pc := 13) G dX11_earlier_13 rfl rfl ?_
  refine ax_iconst (pc := 14) (v := (-1)) G dX11_earlier_14 (by decide) ?_
  refine ax_icmp_ne (pc := 15) (tgt := 24) G dX11_earlier_15 rfl (fun c15 => ?_) (fun c15 => ?_)
  · refine ax_aload_n (pc := 24) G dX11_earlier_24 rfl rfl ?_
    obtain ⟨k286, e286⟩ : ∃ a : pK, a = pNx b n k285 := ⟨_, rfl⟩
    refine ax_pV (pc := 25) (kb := 1) (nb := 8) G (ct_xadv hA w285 (by omega) hbP n285 p285 c285  e286) lVX11_103_9 dX11_earlier_25 (o285) rfl (by decide) (Nat.le_of_ble_eq_true rfl) rfl (fun v9 h286 q9 => ?_) (fun x9 h9x q9 => ?_)
    rotate_left
    exact absurd (c285.nx hβ).1 (by have z9 := q9.x.1; rw [e286] at z9; exact z9)
    obtain ⟨rfl, p286, c286, s286⟩ := q9.n
    obtain ⟨nm286, tk286, o286, t286⟩ := id p286
    obtain ⟨f286, z286, w286⟩ := id s286
    have n286 := n285.kp (xKp.one w285 (o285) (by decide) f286)
    have x286 := xLen_l c286.2.2
    show ax_W Ω Γ _ _ (h286) _ _ (_)
    refine ax_iload_n (pc := 28) G dX11_earlier_28 rfl rfl ?_
    have hk9 : k1 = k286 := by rw [e1, rPrV, ← e285, if_pos c285.1, if_neg c15, e286]
    exact ax_iretP (pc := 29) G E rfl (rfl) dX11_earlier_29 ⟨(((xSt.rfl' wf).trans s285).trans s286), Or.inl ⟨by rw [y1, rPrV, ← e285, if_pos c285.1], by rw [hk9]; exact p286, by rw [hk9]; exact c286⟩⟩
  · refine ax_aload_n (pc := 18) G dX11_earlier_18 rfl rfl ?_
    refine ax_iconst (pc := 19) (v := nI 3) G dX11_earlier_19 ic_3 ?_
    refine ax_nV (pc := 20) (kb := 4) (nb := 94) G (ct_xflaw (b := b) (tb := tb) hA w285 (by omega) (o285) 3) lVX11_110_9 dX11_earlier_20 (o285) rfl (by decide) (Nat.le_of_ble_eq_true rfl) rfl (fun v287 h287 q9 => ?_)
    obtain ⟨rfl, g287, f287, z287, w287⟩ := q9
    show ax_W Ω Γ _ _ (h287) _ _ (.ref h285.2 :: _)
    refine ax_athrow (pc := 23) G dX11_earlier_23 ?_
    have hk9 : k1 = pFl k285 3 := by rw [e1, rPrV, ← e285, if_pos c285.1, if_pos c15]; exact pNx_c (by rw [pFl_c c285.1]; decide)
    exact ax_outP G E (fun x hx => by cases hx) ⟨(((xSt.rfl' wf).trans s285).trans ⟨fun q a1 _ => f287 q a1, by omega, w287⟩), Or.inr ⟨by rw [hk9, pFl_c c285.1]; decide, _, rfl, by rw [xFl, hk9, pFl_v c285.1]; exact g287⟩⟩

theorem ct_xbegin {Ω : ax_O} (hA : ax_Amb Ω) {h : ax_H} (wf : ax_wf h) (hz : Ω.2.1.heap.size ≤ h.2) {P tx n sc sa : Nat} {tb b : Nat → Int32} {β : Nat → Nat} (hbP : Ω.2.1.heap.size ≤ P) (hEn : xEn Ω h tx n tb b β) {κ : pK} (hP : xPs h P tx n sc sa β κ) (hK : xK n β κ) {L e N C : Nat} {xs : Nat → Nat} (hLi : xLi h L e N xs C) (hN : N ≤ 20) (mx : Nat) (hmx : mx ≤ 20) {k1 : pK} (e1 : k1 = rBeg b n κ N mx)  : ax_MetP Ω yX11_begin 9 5 102 [.ref P, .ref L, .int (nI mx)] h (xOut h P tx n sc sa β k1 (none)) := by
  refine ax_metP q1172 q145 (by decide +kernel) (by decide) hA (Nat.le_of_ble_eq_true rfl) (fun Γ G E => ?_)
  obtain ⟨nm, tk, hPo, hTk⟩ := id hP
  have hlP := wf.lt hPo
  have hβ := hEn.2.2.2.1
  have hlx := xLen_l hK.2.2
  obtain ⟨mc, cap, F, hLo, hEo, hc0, hc1, hc2, hF, hCl⟩ := id hLi
  have hPL : P ≠ L := fun z => by rw [z, hLo] at hPo; cases hPo
  have hPe : P ≠ e := fun z => by rw [z, hEo] at hPo; cases hPo
  have hlL := wf.lt hLo
  have hle := wf.lt hEo
  show ax_W Ω Γ 5 102 h 0 [some (.ref P), some (.ref L), some (.int (nI mx))] []
  refine ax_aload_n (pc := 0) G dX11_begin_0 rfl rfl ?_
  refine ax_cJ1 (pc := 1) (kb := 5) (nb := 102) G (ct_lsize hA (hLo)) lJX11_182_16 dX11_begin_1 (hLo) rfl (by decide) (Nat.le_of_ble_eq_true rfl) rfl ?_
  refine ax_iload_n (pc := 6) G dX11_begin_6 rfl rfl ?_
  refine ax_icmp_neN (pc := 7) (tgt := 16) G dX11_begin_7 rfl (by omega) (by omega) (fun c7 => ?_) (fun c7 => ?_)
  · refine ax_aload_n (pc := 16) G dX11_begin_16 rfl rfl ?_
    obtain ⟨k288, e288⟩ : ∃ a : pK, a = pNx b n κ := ⟨_, rfl⟩
    refine ax_pV (pc := 17) (kb := 1) (nb := 8) G (ct_xadv hA wf (by omega) hbP hEn hP hK  e288) lVX11_103_9 dX11_begin_17 (hPo) rfl (by decide) (Nat.le_of_ble_eq_true rfl) rfl (fun v9 h288 q9 => ?_) (fun x9 h9x q9 => ?_)
    rotate_left
    exact absurd (hK.nx hβ).1 (by have z9 := q9.x.1; rw [e288] at z9; exact z9)
    obtain ⟨rfl, p288, c288, s288⟩ := q9.n
    obtain ⟨nm288, tk288, o288, t288⟩ := id p288
    obtain ⟨f288, z288, w288⟩ := id s288
    have n288 := hEn.kp (xKp.one wf (hPo) (by decide) f288)
    have x288 := xLen_l c288.2.2
    show ax_W Ω Γ _ _ (h288) _ _ (_)
    have hk9 : k1 = k288 := by rw [e1, rBeg, if_neg c7, e288]
    exact ax_vretP (pc := 20) G E rfl dX11_begin_20 ⟨((xSt.rfl' wf).trans s288), Or.inl ⟨rfl, by rw [hk9]; exact p288, by rw [hk9]; exact c288⟩⟩
  · refine ax_aload_n (pc := 10) G dX11_begin_10 rfl rfl ?_
    refine ax_iconst (pc := 11) (v := nI 4) G dX11_begin_11 ic_4 ?_
    refine ax_nV (pc := 12) (kb := 4) (nb := 94) G (ct_xflaw (b := b) (tb := tb) hA wf (by omega) (hPo) 4) lVX11_110_9 dX11_begin_12 (hPo) rfl (by decide) (Nat.le_of_ble_eq_true rfl) rfl (fun v289 h289 q9 => ?_)
    obtain ⟨rfl, g289, f289, z289, w289⟩ := q9
    show ax_W Ω Γ _ _ (h289) _ _ (.ref h.2 :: _)
    refine ax_athrow (pc := 15) G dX11_begin_15 ?_
    have hk9 : k1 = pFl κ 4 := by rw [e1, rBeg, if_pos c7]; exact pNx_c (by rw [pFl_c hK.1]; decide)
    exact ax_outP G E (fun x hx => by cases hx) ⟨((xSt.rfl' wf).trans ⟨fun q a1 _ => f289 q a1, by omega, w289⟩), Or.inr ⟨by rw [hk9, pFl_c hK.1]; decide, _, rfl, by rw [xFl, hk9, pFl_v hK.1]; exact g289⟩⟩

