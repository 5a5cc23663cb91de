/-! TelescopeQueue: what is asked, with loops and plans -/
theorem ax_last {Ω : ax_O} {Γ : ax_F} {kb nb pc : Nat} {h : ax_H} {xs : List (Option Value)} {v : Value} {st : List Value} (k : ax_W Ω Γ kb nb h pc (xs ++ [none]) st) : ax_W Ω Γ kb nb h pc (xs ++ [some v]) st := by
  intro H locs cells slots L hR hl hL hn g1 g2
  refine k H locs cells slots L hR hl ⟨by rw [hL.1]; simp, hL.2.1, fun i w hi => hL.2.2 i w ?_⟩ (by rw [← hn]; simp) g1 g2
  by_cases hlt : i < xs.length
  · rw [List.getElem?_append_left hlt] at hi ⊢; exact hi
  · rw [List.getElem?_append_right (by omega)] at hi
    rcases Nat.eq_zero_or_pos (i - xs.length) with e | e
    · rw [e] at hi; cases hi
    · rw [List.getElem?_eq_none (by simp; omega)] at hi; cases hi
def cOf (pl s : pR) (p st : Int32) : Nat → Int32
  | 0 => nI 0
  | n + 1 => cOf pl s p st n + (if pProp pl s n = p then (if s (47 + n) = st then nI 1 else nI 0) else nI 0)
def cNext (pl : pR) (lon : Int32) : Nat → Nat → Int32
  | 0, _ => -1
  | n + 1, t => if cVis pl lon (nI t) = true then nI t else cNext pl lon n (t + 1)
def cLate (pl s : pR) (O : Nat) (D : cD) (v T : Nat) : Nat → Int32
  | 0 => -1
  | n + 1 => if (cPl pl (upd s 0 (nI (T + n))) v O (D.2.1 1 v) (nI v) (decide (s (47 + v) = 0)) (pLeft s (pQ pl s v))).2 8 = 0 then nI (T + n) else cLate pl s O D v T n
def cLong (s : pR) (kd : Int32) : Nat → Int32 × Int32
  | 0 => (-1, -1)
  | n + 1 => if s (227 + 4 * n) = kd then (if s (227 + (4 * n + 3)) - s (227 + (4 * n + 2)) ≤ (cLong s kd n).2 then cLong s kd n else (nI n, s (227 + (4 * n + 3)) - s (227 + (4 * n + 2)))) else cLong s kd n
theorem cx_of {Ω : ax_O} (hA : ax_Amb Ω) {h : ax_H} {a : Nat} {pl s : pR} {π : Nat → cP} {N V O A : Nat} {D : cD} (ha : Ω.2.1.heap.size ≤ a) (hp : pWP pl N V O) (hs : pWS s A) (hE : cEn h a pl s N V O A D) (p st : Int32)  : ax_Met Ω yX1_of 6 0 0 [.int p, .ref (D.1 2), .ref (a + 8), .int st] (sH h a (s, π, (.ref (D.1 0)), (D.1 8))) (.inl (some (.int (cOf pl s p st V)))) (sH h a (s, π, (.ref (D.1 0)), (D.1 8))) := by
  refine ax_met q1462 q113 (by decide +kernel) (by decide) hA (Nat.le_of_ble_eq_true rfl) (fun Γ G E => ?_)
  have hV9 := hp.lV
  have hA9 := hs.lA
  have hO9 := hp.lO
  have L0 : ∀ (n i : Nat), i + n = V → ax_W Ω Γ 0 0 (sH h a (s, π, (.ref (D.1 0)), (D.1 8))) 6 [some (.int p), some (.ref (D.1 2)), some (.ref (a + 8)), some (.int st), some (.int (cOf pl s p st i)), some (.int (nI i))] [] := by
    intro n
    induction n with
    | zero =>
      intro i hi
      have hi9 : V = i := by omega
      subst hi9
      refine ax_iload (pc := 6) G dX1_of_6 rfl ?_
      refine ax_aload_n (pc := 8) G dX1_of_8 rfl rfl ?_
      refine ax_cJ1 (pc := 9) (kb := 0) (nb := 0) G (ct_lsize hA ((hE (s, π, (.ref (D.1 0)), (D.1 8))).1.2.2.1).1) lJX1_1_16 dX1_of_9 (((hE (s, π, (.ref (D.1 0)), (D.1 8))).1.2.2.1).1) rfl (by decide) (Nat.le_of_ble_eq_true rfl) rfl ?_
      refine ax_icmp_geN (pc := 14) (tgt := 61) G dX1_of_14 rfl (by omega) (by omega) (fun c14 => ?_) (fun c14 => ?_)
      · refine ax_iload (pc := 61) G dX1_of_61 rfl ?_
        exact ax_iretE (pc := 63) G E rfl (rfl) dX1_of_63 (rfl) (rfl)
      · omega
    | succ n ih =>
      intro i hi
      refine ax_iload (pc := 6) G dX1_of_6 rfl ?_
      refine ax_aload_n (pc := 8) G dX1_of_8 rfl rfl ?_
      refine ax_cJ1 (pc := 9) (kb := 0) (nb := 0) G (ct_lsize hA ((hE (s, π, (.ref (D.1 0)), (D.1 8))).1.2.2.1).1) lJX1_1_16 dX1_of_9 (((hE (s, π, (.ref (D.1 0)), (D.1 8))).1.2.2.1).1) rfl (by decide) (Nat.le_of_ble_eq_true rfl) rfl ?_
      refine ax_icmp_geN (pc := 14) (tgt := 61) G dX1_of_14 rfl (by omega) (by omega) (fun c14 => ?_) (fun c14 => ?_)
      · omega
      · refine ax_iload (pc := 17) G dX1_of_17 rfl ?_
        refine ax_aload_n (pc := 19) G dX1_of_19 rfl rfl ?_
        refine ax_iload (pc := 20) G dX1_of_20 rfl ?_
        refine ax_cJ1 (pc := 22) (kb := 0) (nb := 0) G (ct_lget hA ((hE (s, π, (.ref (D.1 0)), (D.1 8))).1.2.2.1).1 ((hE (s, π, (.ref (D.1 0)), (D.1 8))).1.2.2.1).2.1 (q := D.2.1 1 i) i (by omega) ((hE (s, π, (.ref (D.1 0)), (D.1 8))).1.2.2.1).2.2.1 ((hE (s, π, (.ref (D.1 0)), (D.1 8))).1.2.2.1).2.2.2.1 (((hE (s, π, (.ref (D.1 0)), (D.1 8))).1.2.2.1).2.2.2.2 i (by omega))) lJX1_7_16 dX1_of_22 (((hE (s, π, (.ref (D.1 0)), (D.1 8))).1.2.2.1).1) rfl (by decide) (Nat.le_of_ble_eq_true rfl) rfl ?_
        refine ax_checkcast (pc := 27) G q1465 ⟨_, rfl, Or.inr q1476⟩ dX1_of_27 (((hE (s, π, (.ref (D.1 0)), (D.1 8))).1.2.2.2.2.1 i (by omega)).choose_spec) ?_
        refine wk_proposal (pc := 30) G ((hE (s, π, (.ref (D.1 0)), (D.1 8))).1.wk (r := s) (k := i) (by omega) (by omega)) lJX1_13_13 lJX1_13_14 dX1_of_30 (by decide) (Nat.le_of_ble_eq_true rfl) ?_
        refine ax_iload_n (pc := 35) G dX1_of_35 rfl rfl ?_
        have J52 : ax_W Ω Γ 0 0 (sH h a (s, π, (.ref (D.1 0)), (D.1 8))) 52 [some (.int p), some (.ref (D.1 2)), some (.ref (a + 8)), some (.int st), some (.int (cOf pl s p st i)), some (.int (nI i))] [.int (if pProp pl s i = p then (if s (47 + i) = st then nI 1 else nI 0) else nI 0), .int (cOf pl s p st i)] := by
          refine ax_iadd (pc := 52) G dX1_of_52 ?_
          refine ax_istore (pc := 53) G dX1_of_53 (Nat.le_of_ble_eq_true rfl) rfl ?_
          refine ax_iincN (pc := 55) (n := 1) G dX1_of_55 rfl rfl ic_1 ?_
          refine ax_goto (pc := 58) (tgt := 6) G dX1_of_58 rfl ?_
          have eX : cOf pl s p st (i + 1) = (cOf pl s p st i) + (if pProp pl s i = p then (if s (47 + i) = st then nI 1 else nI 0) else nI 0) := rfl
          have q := ih (i + 1) (by omega)
          rw [eX] at q
          exact q
        refine ax_icmp_ne (pc := 36) (tgt := 51) G dX1_of_36 rfl (fun c36 => ?_) (fun c36 => ?_)
        · refine ax_iconst (pc := 51) (v := nI 0) G dX1_of_51 ic_0 ?_
          refine ax_top (show (.int (nI 0) : Value) = .int (if pProp pl s i = p then (if s (47 + i) = st then nI 1 else nI 0) else nI 0) from congrArg Value.int (by first | (simp only [c14, c36, if_true, if_false, Bool.false_eq_true, not_false_eq_true, not_true_eq_false, decide_true, decide_false, Bool.and_true, Bool.true_and, Bool.and_false, Bool.false_and, Bool.or_true, Bool.true_or, Bool.or_false, Bool.false_or, and_self, and_true, true_and, and_false, false_and, or_true, true_or, or_false, false_or, ne_eq]; done) | (simp only [c14, c36, if_true, if_false, Bool.false_eq_true, not_false_eq_true, not_true_eq_false, decide_true, decide_false, Bool.and_true, Bool.true_and, Bool.and_false, Bool.false_and, Bool.or_true, Bool.true_or, Bool.or_false, Bool.false_or, and_self, and_true, true_and, and_false, false_and, or_true, true_or, or_false, false_or, ne_eq]; rfl))) ?_
          exact J52
        · refine ax_aload_n (pc := 39) G dX1_of_39 rfl rfl ?_
          refine ax_iload (pc := 40) G dX1_of_40 rfl ?_
          refine sr_ld (pc := 42) (k := 8) (j := i) (r := 47 + i) G dX1_of_42 (by decide) (by decide) rfl rfl (show i < 20 by omega) ?_
          show ax_W Ω Γ _ _ _ _ _ (.int (s (47 + i)) :: _)
          refine ax_iload_n (pc := 43) G dX1_of_43 rfl rfl ?_
          refine ax_icmp_ne (pc := 44) (tgt := 51) G dX1_of_44 rfl (fun c44 => ?_) (fun c44 => ?_)
          · refine ax_iconst (pc := 51) (v := nI 0) G dX1_of_51 ic_0 ?_
            refine ax_top (show (.int (nI 0) : Value) = .int (if pProp pl s i = p then (if s (47 + i) = st then nI 1 else nI 0) else nI 0) from congrArg Value.int (by first | (simp only [c14, c36, c44, if_true, if_false, Bool.false_eq_true, not_false_eq_true, not_true_eq_false, decide_true, decide_false, Bool.and_true, Bool.true_and, Bool.and_false, Bool.false_and, Bool.or_true, Bool.true_or, Bool.or_false, Bool.false_or, and_self, and_true, true_and, and_false, false_and, or_true, true_or, or_false, false_or, ne_eq]; done) | (simp only [c14, c36, c44, if_true, if_false, Bool.false_eq_true, not_false_eq_true, not_true_eq_false, decide_true, decide_false, Bool.and_true, Bool.true_and, Bool.and_false, Bool.false_and, Bool.or_true, Bool.true_or, Bool.or_false, Bool.false_or, and_self, and_true, true_and, and_false, false_and, or_true, true_or, or_false, false_or, ne_eq]; rfl) | (simp only [c14, if_pos c36, decide_eq_true c36, c44, if_true, if_false, Bool.false_eq_true, not_false_eq_true, not_true_eq_false, decide_true, decide_false, Bool.and_true, Bool.true_and, Bool.and_false, Bool.false_and, Bool.or_true, Bool.true_or, Bool.or_false, Bool.false_or, and_self, and_true, true_and, and_false, false_and, or_true, true_or, or_false, false_or, ne_eq]; done) | (simp only [c14, if_pos c36, decide_eq_true c36, c44, if_true, if_false, Bool.false_eq_true, not_false_eq_true, not_true_eq_false, decide_true, decide_false, Bool.and_true, Bool.true_and, Bool.and_false, Bool.false_and, Bool.or_true, Bool.true_or, Bool.or_false, Bool.false_or, and_self, and_true, true_and, and_false, false_and, or_true, true_or, or_false, false_or, ne_eq]; rfl))) ?_
            exact J52
          · refine ax_iconst (pc := 47) (v := nI 1) G dX1_of_47 ic_1 ?_
            refine ax_goto (pc := 48) (tgt := 52) G dX1_of_48 rfl ?_
            refine ax_top (show (.int (nI 1) : Value) = .int (if pProp pl s i = p then (if s (47 + i) = st then nI 1 else nI 0) else nI 0) from congrArg Value.int (by first | (simp only [c14, c36, c44, if_true, if_false, Bool.false_eq_true, not_false_eq_true, not_true_eq_false, decide_true, decide_false, Bool.and_true, Bool.true_and, Bool.and_false, Bool.false_and, Bool.or_true, Bool.true_or, Bool.or_false, Bool.false_or, and_self, and_true, true_and, and_false, false_and, or_true, true_or, or_false, false_or, ne_eq]; done) | (simp only [c14, c36, c44, if_true, if_false, Bool.false_eq_true, not_false_eq_true, not_true_eq_false, decide_true, decide_false, Bool.and_true, Bool.true_and, Bool.and_false, Bool.false_and, Bool.or_true, Bool.true_or, Bool.or_false, Bool.false_or, and_self, and_true, true_and, and_false, false_and, or_true, true_or, or_false, false_or, ne_eq]; rfl) | (simp only [c14, if_pos c36, decide_eq_true c36, if_pos c44, decide_eq_true c44, if_true, if_false, Bool.false_eq_true, not_false_eq_true, not_true_eq_false, decide_true, decide_false, Bool.and_true, Bool.true_and, Bool.and_false, Bool.false_and, Bool.or_true, Bool.true_or, Bool.or_false, Bool.false_or, and_self, and_true, true_and, and_false, false_and, or_true, true_or, or_false, false_or, ne_eq]; done) | (simp only [c14, if_pos c36, decide_eq_true c36, if_pos c44, decide_eq_true c44, if_true, if_false, Bool.false_eq_true, not_false_eq_true, not_true_eq_false, decide_true, decide_false, Bool.and_true, Bool.true_and, Bool.and_false, Bool.false_and, Bool.or_true, Bool.true_or, Bool.or_false, Bool.false_or, and_self, and_true, true_and, and_false, false_and, or_true, true_or, or_false, false_or, ne_eq]; rfl))) ?_
            exact J52
  show ax_W Ω Γ 0 0 (sH h a (s, π, (.ref (D.1 0)), (D.1 8))) 0 [some (.int p), some (.ref (D.1 2)), some (.ref (a + 8)), some (.int st), none, none] []
  refine ax_iconst (pc := 0) (v := nI 0) G dX1_of_0 ic_0 ?_
  refine ax_istore (pc := 1) G dX1_of_1 (Nat.le_of_ble_eq_true rfl) rfl ?_
  refine ax_iconst (pc := 3) (v := nI 0) G dX1_of_3 ic_0 ?_
  refine ax_istore (pc := 4) G dX1_of_4 (Nat.le_of_ble_eq_true rfl) rfl ?_
  exact L0 V 0 (by omega)

theorem cq_proposal_0 {Ω : ax_O} (hA : ax_Amb Ω) {h : ax_H} {a : Nat} {pl s : pR} {π : Nat → cP} {N V O A : Nat} {D : cD} (ha : Ω.2.1.heap.size ≤ a) (hp : pWP pl N V O) (hs : pWS s A) (hE : cEn h a pl s N V O A D) {X bf tr hi sv lb : Nat} {x1 x2 x3 : Int32} (hX : ∀ σ, (sH h a σ).1 X = some (.inr (0, [.ref bf, .int x1, .int x2, .int x3, .ref a, .ref tr, .ref hi, .ref sv, .ref lb]))) (k : Nat) (hk : k < N)  : ax_Met Ω yX1_proposal 20 4 24 [.ref X, .int (nI k), .int (nI 0)] (sH h a (s, π, (.ref (D.1 0)), (D.1 8))) (.inl (some (.int (s (17 + k))))) (sH h a (s, π, (.ref (D.1 0)), (D.1 8))) := by
  refine ax_met q1425 q113 (by decide +kernel) (by decide) hA (Nat.le_of_ble_eq_true rfl) (fun Γ G E => ?_)
  have hV9 := hp.lV
  have hA9 := hs.lA
  have hO9 := hp.lO
  have hN9 := hp.2.1.1
  show ax_W Ω Γ 4 24 (sH h a (s, π, (.ref (D.1 0)), (D.1 8))) 0 [some (.ref X), some (.int (nI k)), some (.int (nI 0)), none] []
  refine ax_aload_n (pc := 0) G dX1_proposal_0 rfl rfl ?_
  refine ax_iload_n (pc := 1) G dX1_proposal_1 rfl rfl ?_
  refine ax_cV1 (pc := 2) (kb := 1) (nb := 6) G (cx_withProposalY hA (π := π) ha hp hs hE hX k (by omega)) lVX1_138_0 dX1_proposal_2 (hX _) rfl (by decide) (Nat.le_of_ble_eq_true rfl) rfl ?_
  refine ax_astore_n (pc := 5) G dX1_proposal_5 rfl (Nat.le_of_ble_eq_true rfl) rfl ?_
  refine ax_iload_n (pc := 6) G dX1_proposal_6 rfl rfl ?_
  refine ax_i2l (pc := 7) G dX1_proposal_7 rfl ?_
  refine ax_lconst (pc := 8) (v := 0) G dX1_proposal_8 rfl ?_
  refine ax_ldc2 (pc := 9) G q1452 dX1_proposal_9 ?_
  refine ax_cS1 (pc := 12) (kb := 1) (nb := 6) G (ct_in hA ((nI 0).toInt64) 0 7) lSX1_62 dX1_proposal_12 rfl (by decide) (Nat.le_of_ble_eq_true rfl) rfl ?_
  rw [cIn_k (A := 0) (B := 7) (a := (nI 0)) (b := (nI 7)) (nI 0) (by decide) (by decide)]
  refine ax_cS0 (pc := 15) (kb := 0) (nb := 0) G (ct_argYb hA (B := (pIn (nI 0) (nI 0) (nI 7))) (by decide)) lSX1_144 dX1_proposal_15 rfl (by decide) (Nat.le_of_ble_eq_true rfl) rfl ?_
  refine ax_iload_n (pc := 18) G dX1_proposal_18 rfl rfl ?_
  refine ax_tabIn (pc := 19) (tgt := 60) G dX1_proposal_19 (by decide) (by decide) (by decide) rfl rfl ?_
  refine ax_aload_n (pc := 60) G dX1_proposal_60 rfl rfl ?_
  refine sr_get (pc := 61) (v := .ref (a + 4)) G flX1_147_1 dX1_proposal_61 rfl ?_
  refine ax_iload_n (pc := 64) G dX1_proposal_64 rfl rfl ?_
  refine sr_ld (pc := 65) (k := 4) (j := k) (r := 17 + k) G dX1_proposal_65 (by decide) (by decide) rfl rfl (show k < 6 by omega) ?_
  show ax_W Ω Γ _ _ _ _ _ (.int (s (17 + k)) :: _)
  refine ax_goto (pc := 66) (tgt := 164) G dX1_proposal_66 rfl ?_
  exact ax_iretE (pc := 164) G E rfl (rfl) dX1_proposal_164 (rfl) (rfl)

theorem cq_proposal_1 {Ω : ax_O} (hA : ax_Amb Ω) {h : ax_H} {a : Nat} {pl s : pR} {π : Nat → cP} {N V O A : Nat} {D : cD} (ha : Ω.2.1.heap.size ≤ a) (hp : pWP pl N V O) (hs : pWS s A) (hE : cEn h a pl s N V O A D) {X bf tr hi sv lb : Nat} {x1 x2 x3 : Int32} (hX : ∀ σ, (sH h a σ).1 X = some (.inr (0, [.ref bf, .int x1, .int x2, .int x3, .ref a, .ref tr, .ref hi, .ref sv, .ref lb]))) (k : Nat) (hk : k < N)  : ax_Met Ω yX1_proposal 20 4 24 [.ref X, .int (nI k), .int (nI 1)] (sH h a (s, π, (.ref (D.1 0)), (D.1 8))) (.inl (some (.int (s (23 + k))))) (sH h a (s, π, (.ref (D.1 0)), (D.1 8))) := by
  refine ax_met q1425 q113 (by decide +kernel) (by decide) hA (Nat.le_of_ble_eq_true rfl) (fun Γ G E => ?_)
  have hV9 := hp.lV
  have hA9 := hs.lA
  have hO9 := hp.lO
  have hN9 := hp.2.1.1
  show ax_W Ω Γ 4 24 (sH h a (s, π, (.ref (D.1 0)), (D.1 8))) 0 [some (.ref X), some (.int (nI k)), some (.int (nI 1)), none] []
  refine ax_aload_n (pc := 0) G dX1_proposal_0 rfl rfl ?_
  refine ax_iload_n (pc := 1) G dX1_proposal_1 rfl rfl ?_
  refine ax_cV1 (pc := 2) (kb := 1) (nb := 6) G (cx_withProposalY hA (π := π) ha hp hs hE hX k (by omega)) lVX1_138_0 dX1_proposal_2 (hX _) rfl (by decide) (Nat.le_of_ble_eq_true rfl) rfl ?_
  refine ax_astore_n (pc := 5) G dX1_proposal_5 rfl (Nat.le_of_ble_eq_true rfl) rfl ?_
  refine ax_iload_n (pc := 6) G dX1_proposal_6 rfl rfl ?_
  refine ax_i2l (pc := 7) G dX1_proposal_7 rfl ?_
  refine ax_lconst (pc := 8) (v := 0) G dX1_proposal_8 rfl ?_
  refine ax_ldc2 (pc := 9) G q1452 dX1_proposal_9 ?_
  refine ax_cS1 (pc := 12) (kb := 1) (nb := 6) G (ct_in hA ((nI 1).toInt64) 0 7) lSX1_62 dX1_proposal_12 rfl (by decide) (Nat.le_of_ble_eq_true rfl) rfl ?_
  rw [cIn_k (A := 0) (B := 7) (a := (nI 0)) (b := (nI 7)) (nI 1) (by decide) (by decide)]
  refine ax_cS0 (pc := 15) (kb := 0) (nb := 0) G (ct_argYb hA (B := (pIn (nI 1) (nI 0) (nI 7))) (by decide)) lSX1_144 dX1_proposal_15 rfl (by decide) (Nat.le_of_ble_eq_true rfl) rfl ?_
  refine ax_iload_n (pc := 18) G dX1_proposal_18 rfl rfl ?_
  refine ax_tabIn (pc := 19) (tgt := 69) G dX1_proposal_19 (by decide) (by decide) (by decide) rfl rfl ?_
  refine ax_aload_n (pc := 69) G dX1_proposal_69 rfl rfl ?_
  refine sr_get (pc := 70) (v := .ref (a + 5)) G flX1_151_1 dX1_proposal_70 rfl ?_
  refine ax_iload_n (pc := 73) G dX1_proposal_73 rfl rfl ?_
  refine sr_ld (pc := 74) (k := 5) (j := k) (r := 23 + k) G dX1_proposal_74 (by decide) (by decide) rfl rfl (show k < 6 by omega) ?_
  show ax_W Ω Γ _ _ _ _ _ (.int (s (23 + k)) :: _)
  refine ax_goto (pc := 75) (tgt := 164) G dX1_proposal_75 rfl ?_
  exact ax_iretE (pc := 164) G E rfl (rfl) dX1_proposal_164 (rfl) (rfl)

theorem cq_proposal_2 {Ω : ax_O} (hA : ax_Amb Ω) {h : ax_H} {a : Nat} {pl s : pR} {π : Nat → cP} {N V O A : Nat} {D : cD} (ha : Ω.2.1.heap.size ≤ a) (hp : pWP pl N V O) (hs : pWS s A) (hE : cEn h a pl s N V O A D) {X bf tr hi sv lb : Nat} {x1 x2 x3 : Int32} (hX : ∀ σ, (sH h a σ).1 X = some (.inr (0, [.ref bf, .int x1, .int x2, .int x3, .ref a, .ref tr, .ref hi, .ref sv, .ref lb]))) (k : Nat) (hk : k < N)  : ax_Met Ω yX1_proposal 20 4 24 [.ref X, .int (nI k), .int (nI 2)] (sH h a (s, π, (.ref (D.1 0)), (D.1 8))) (.inl (some (.int (s (29 + k))))) (sH h a (s, π, (.ref (D.1 0)), (D.1 8))) := by
  refine ax_met q1425 q113 (by decide +kernel) (by decide) hA (Nat.le_of_ble_eq_true rfl) (fun Γ G E => ?_)
  have hV9 := hp.lV
  have hA9 := hs.lA
  have hO9 := hp.lO
  have hN9 := hp.2.1.1
  show ax_W Ω Γ 4 24 (sH h a (s, π, (.ref (D.1 0)), (D.1 8))) 0 [some (.ref X), some (.int (nI k)), some (.int (nI 2)), none] []
  refine ax_aload_n (pc := 0) G dX1_proposal_0 rfl rfl ?_
  refine ax_iload_n (pc := 1) G dX1_proposal_1 rfl rfl ?_
  refine ax_cV1 (pc := 2) (kb := 1) (nb := 6) G (cx_withProposalY hA (π := π) ha hp hs hE hX k (by omega)) lVX1_138_0 dX1_proposal_2 (hX _) rfl (by decide) (Nat.le_of_ble_eq_true rfl) rfl ?_
  refine ax_astore_n (pc := 5) G dX1_proposal_5 rfl (Nat.le_of_ble_eq_true rfl) rfl ?_
  refine ax_iload_n (pc := 6) G dX1_proposal_6 rfl rfl ?_
  refine ax_i2l (pc := 7) G dX1_proposal_7 rfl ?_
  refine ax_lconst (pc := 8) (v := 0) G dX1_proposal_8 rfl ?_
  refine ax_ldc2 (pc := 9) G q1452 dX1_proposal_9 ?_
  refine ax_cS1 (pc := 12) (kb := 1) (nb := 6) G (ct_in hA ((nI 2).toInt64) 0 7) lSX1_62 dX1_proposal_12 rfl (by decide) (Nat.le_of_ble_eq_true rfl) rfl ?_
  rw [cIn_k (A := 0) (B := 7) (a := (nI 0)) (b := (nI 7)) (nI 2) (by decide) (by decide)]
  refine ax_cS0 (pc := 15) (kb := 0) (nb := 0) G (ct_argYb hA (B := (pIn (nI 2) (nI 0) (nI 7))) (by decide)) lSX1_144 dX1_proposal_15 rfl (by decide) (Nat.le_of_ble_eq_true rfl) rfl ?_
  refine ax_iload_n (pc := 18) G dX1_proposal_18 rfl rfl ?_
  refine ax_tabIn (pc := 19) (tgt := 78) G dX1_proposal_19 (by decide) (by decide) (by decide) rfl rfl ?_
  refine ax_aload_n (pc := 78) G dX1_proposal_78 rfl rfl ?_
  refine sr_get (pc := 79) (v := .ref (a + 6)) G flX1_154_1 dX1_proposal_79 rfl ?_
  refine ax_iload_n (pc := 82) G dX1_proposal_82 rfl rfl ?_
  refine sr_ld (pc := 83) (k := 6) (j := k) (r := 29 + k) G dX1_proposal_83 (by decide) (by decide) rfl rfl (show k < 6 by omega) ?_
  show ax_W Ω Γ _ _ _ _ _ (.int (s (29 + k)) :: _)
  refine ax_goto (pc := 84) (tgt := 164) G dX1_proposal_84 rfl ?_
  exact ax_iretE (pc := 164) G E rfl (rfl) dX1_proposal_164 (rfl) (rfl)

theorem cq_proposal_3 {Ω : ax_O} (hA : ax_Amb Ω) {h : ax_H} {a : Nat} {pl s : pR} {π : Nat → cP} {N V O A : Nat} {D : cD} (ha : Ω.2.1.heap.size ≤ a) (hp : pWP pl N V O) (hs : pWS s A) (hE : cEn h a pl s N V O A D) {X bf tr hi sv lb : Nat} {x1 x2 x3 : Int32} (hX : ∀ σ, (sH h a σ).1 X = some (.inr (0, [.ref bf, .int x1, .int x2, .int x3, .ref a, .ref tr, .ref hi, .ref sv, .ref lb]))) (k : Nat) (hk : k < N)  : ax_Met Ω yX1_proposal 20 4 24 [.ref X, .int (nI k), .int (nI 3)] (sH h a (s, π, (.ref (D.1 0)), (D.1 8))) (.inl (some (.int (pLeft s k)))) (sH h a (s, π, (.ref (D.1 0)), (D.1 8))) := by
  refine ax_met q1425 q113 (by decide +kernel) (by decide) hA (Nat.le_of_ble_eq_true rfl) (fun Γ G E => ?_)
  have hV9 := hp.lV
  have hA9 := hs.lA
  have hO9 := hp.lO
  have hN9 := hp.2.1.1
  show ax_W Ω Γ 4 24 (sH h a (s, π, (.ref (D.1 0)), (D.1 8))) 0 [some (.ref X), some (.int (nI k)), some (.int (nI 3)), none] []
  refine ax_aload_n (pc := 0) G dX1_proposal_0 rfl rfl ?_
  refine ax_iload_n (pc := 1) G dX1_proposal_1 rfl rfl ?_
  refine ax_cV1 (pc := 2) (kb := 1) (nb := 6) G (cx_withProposalY hA (π := π) ha hp hs hE hX k (by omega)) lVX1_138_0 dX1_proposal_2 (hX _) rfl (by decide) (Nat.le_of_ble_eq_true rfl) rfl ?_
  refine ax_astore_n (pc := 5) G dX1_proposal_5 rfl (Nat.le_of_ble_eq_true rfl) rfl ?_
  refine ax_iload_n (pc := 6) G dX1_proposal_6 rfl rfl ?_
  refine ax_i2l (pc := 7) G dX1_proposal_7 rfl ?_
  refine ax_lconst (pc := 8) (v := 0) G dX1_proposal_8 rfl ?_
  refine ax_ldc2 (pc := 9) G q1452 dX1_proposal_9 ?_
  refine ax_cS1 (pc := 12) (kb := 1) (nb := 6) G (ct_in hA ((nI 3).toInt64) 0 7) lSX1_62 dX1_proposal_12 rfl (by decide) (Nat.le_of_ble_eq_true rfl) rfl ?_
  rw [cIn_k (A := 0) (B := 7) (a := (nI 0)) (b := (nI 7)) (nI 3) (by decide) (by decide)]
  refine ax_cS0 (pc := 15) (kb := 0) (nb := 0) G (ct_argYb hA (B := (pIn (nI 3) (nI 0) (nI 7))) (by decide)) lSX1_144 dX1_proposal_15 rfl (by decide) (Nat.le_of_ble_eq_true rfl) rfl ?_
  refine ax_iload_n (pc := 18) G dX1_proposal_18 rfl rfl ?_
  refine ax_tabIn (pc := 19) (tgt := 87) G dX1_proposal_19 (by decide) (by decide) (by decide) rfl rfl ?_
  refine ax_aload_n (pc := 87) G dX1_proposal_87 rfl rfl ?_
  refine ax_iload_n (pc := 88) G dX1_proposal_88 rfl rfl ?_
  refine ax_cV1 (pc := 89) (kb := 0) (nb := 0) G (ct_left hA (π := π) k (by omega)) lVX1_157_1 dX1_proposal_89 sH_obj rfl (by decide) (Nat.le_of_ble_eq_true rfl) rfl ?_
  refine ax_goto (pc := 92) (tgt := 164) G dX1_proposal_92 rfl ?_
  exact ax_iretE (pc := 164) G E rfl (rfl) dX1_proposal_164 (rfl) (rfl)

theorem cq_proposal_4 {Ω : ax_O} (hA : ax_Amb Ω) {h : ax_H} {a : Nat} {pl s : pR} {π : Nat → cP} {N V O A : Nat} {D : cD} (ha : Ω.2.1.heap.size ≤ a) (hp : pWP pl N V O) (hs : pWS s A) (hE : cEn h a pl s N V O A D) {X bf tr hi sv lb : Nat} {x1 x2 x3 : Int32} (hX : ∀ σ, (sH h a σ).1 X = some (.inr (0, [.ref bf, .int x1, .int x2, .int x3, .ref a, .ref tr, .ref hi, .ref sv, .ref lb]))) (k : Nat) (hk : k < N)  : ax_Met Ω yX1_proposal 20 4 24 [.ref X, .int (nI k), .int (nI 4)] (sH h a (s, π, (.ref (D.1 0)), (D.1 8))) (.inl (some (.int (cOf pl s (nI k) (nI 1) V)))) (sH h a (s, π, (.ref (D.1 0)), (D.1 8))) := by
  refine ax_met q1425 q113 (by decide +kernel) (by decide) hA (Nat.le_of_ble_eq_true rfl) (fun Γ G E => ?_)
  have hV9 := hp.lV
  have hA9 := hs.lA
  have hO9 := hp.lO
  have hN9 := hp.2.1.1
  show ax_W Ω Γ 4 24 (sH h a (s, π, (.ref (D.1 0)), (D.1 8))) 0 [some (.ref X), some (.int (nI k)), some (.int (nI 4)), none] []
  refine ax_aload_n (pc := 0) G dX1_proposal_0 rfl rfl ?_
  refine ax_iload_n (pc := 1) G dX1_proposal_1 rfl rfl ?_
  refine ax_cV1 (pc := 2) (kb := 1) (nb := 6) G (cx_withProposalY hA (π := π) ha hp hs hE hX k (by omega)) lVX1_138_0 dX1_proposal_2 (hX _) rfl (by decide) (Nat.le_of_ble_eq_true rfl) rfl ?_
  refine ax_astore_n (pc := 5) G dX1_proposal_5 rfl (Nat.le_of_ble_eq_true rfl) rfl ?_
  refine ax_iload_n (pc := 6) G dX1_proposal_6 rfl rfl ?_
  refine ax_i2l (pc := 7) G dX1_proposal_7 rfl ?_
  refine ax_lconst (pc := 8) (v := 0) G dX1_proposal_8 rfl ?_
  refine ax_ldc2 (pc := 9) G q1452 dX1_proposal_9 ?_
  refine ax_cS1 (pc := 12) (kb := 1) (nb := 6) G (ct_in hA ((nI 4).toInt64) 0 7) lSX1_62 dX1_proposal_12 rfl (by decide) (Nat.le_of_ble_eq_true rfl) rfl ?_
  rw [cIn_k (A := 0) (B := 7) (a := (nI 0)) (b := (nI 7)) (nI 4) (by decide) (by decide)]
  refine ax_cS0 (pc := 15) (kb := 0) (nb := 0) G (ct_argYb hA (B := (pIn (nI 4) (nI 0) (nI 7))) (by decide)) lSX1_144 dX1_proposal_15 rfl (by decide) (Nat.le_of_ble_eq_true rfl) rfl ?_
  refine ax_iload_n (pc := 18) G dX1_proposal_18 rfl rfl ?_
  refine ax_tabIn (pc := 19) (tgt := 95) G dX1_proposal_19 (by decide) (by decide) (by decide) rfl rfl ?_
  refine ax_iload_n (pc := 95) G dX1_proposal_95 rfl rfl ?_
  refine ax_aload_n (pc := 96) G dX1_proposal_96 rfl rfl ?_
  refine sr_get (pc := 97) (v := .ref (D.1 0)) G flX1_83_1 dX1_proposal_97 rfl ?_
  refine ax_getf (pc := 100) (v := .ref (D.1 2)) G flX1_97_10 dX1_proposal_100 (((hE (s, π, (.ref (D.1 0)), (D.1 8))).1).1) rfl ?_
  refine ax_aload_n (pc := 103) G dX1_proposal_103 rfl rfl ?_
  refine sr_get (pc := 104) (v := .ref (a + 8)) G flX1_161_1 dX1_proposal_104 rfl ?_
  refine ax_iconst (pc := 107) (v := nI 1) G dX1_proposal_107 ic_1 ?_
  refine ax_cS1 (pc := 108) (kb := 0) (nb := 0) G (cx_of hA (π := π) ha hp hs hE (nI k) (nI 1)) lSX1_164 dX1_proposal_108 rfl (by decide) (Nat.le_of_ble_eq_true rfl) rfl ?_
  refine ax_goto (pc := 111) (tgt := 164) G dX1_proposal_111 rfl ?_
  exact ax_iretE (pc := 164) G E rfl (rfl) dX1_proposal_164 (rfl) (rfl)

theorem cq_proposal_5 {Ω : ax_O} (hA : ax_Amb Ω) {h : ax_H} {a : Nat} {pl s : pR} {π : Nat → cP} {N V O A : Nat} {D : cD} (ha : Ω.2.1.heap.size ≤ a) (hp : pWP pl N V O) (hs : pWS s A) (hE : cEn h a pl s N V O A D) {X bf tr hi sv lb : Nat} {x1 x2 x3 : Int32} (hX : ∀ σ, (sH h a σ).1 X = some (.inr (0, [.ref bf, .int x1, .int x2, .int x3, .ref a, .ref tr, .ref hi, .ref sv, .ref lb]))) (k : Nat) (hk : k < N)  : ax_Met Ω yX1_proposal 20 4 24 [.ref X, .int (nI k), .int (nI 5)] (sH h a (s, π, (.ref (D.1 0)), (D.1 8))) (.inl (some (.int (s (41 + k))))) (sH h a (s, π, (.ref (D.1 0)), (D.1 8))) := by
  refine ax_met q1425 q113 (by decide +kernel) (by decide) hA (Nat.le_of_ble_eq_true rfl) (fun Γ G E => ?_)
  have hV9 := hp.lV
  have hA9 := hs.lA
  have hO9 := hp.lO
  have hN9 := hp.2.1.1
  show ax_W Ω Γ 4 24 (sH h a (s, π, (.ref (D.1 0)), (D.1 8))) 0 [some (.ref X), some (.int (nI k)), some (.int (nI 5)), none] []
  refine ax_aload_n (pc := 0) G dX1_proposal_0 rfl rfl ?_
  refine ax_iload_n (pc := 1) G dX1_proposal_1 rfl rfl ?_
  refine ax_cV1 (pc := 2) (kb := 1) (nb := 6) G (cx_withProposalY hA (π := π) ha hp hs hE hX k (by omega)) lVX1_138_0 dX1_proposal_2 (hX _) rfl (by decide) (Nat.le_of_ble_eq_true rfl) rfl ?_
  refine ax_astore_n (pc := 5) G dX1_proposal_5 rfl (Nat.le_of_ble_eq_true rfl) rfl ?_
  refine ax_iload_n (pc := 6) G dX1_proposal_6 rfl rfl ?_
  refine ax_i2l (pc := 7) G dX1_proposal_7 rfl ?_
  refine ax_lconst (pc := 8) (v := 0) G dX1_proposal_8 rfl ?_
  refine ax_ldc2 (pc := 9) G q1452 dX1_proposal_9 ?_
  refine ax_cS1 (pc := 12) (kb := 1) (nb := 6) G (ct_in hA ((nI 5).toInt64) 0 7) lSX1_62 dX1_proposal_12 rfl (by decide) (Nat.le_of_ble_eq_true rfl) rfl ?_
  rw [cIn_k (A := 0) (B := 7) (a := (nI 0)) (b := (nI 7)) (nI 5) (by decide) (by decide)]
  refine ax_cS0 (pc := 15) (kb := 0) (nb := 0) G (ct_argYb hA (B := (pIn (nI 5) (nI 0) (nI 7))) (by decide)) lSX1_144 dX1_proposal_15 rfl (by decide) (Nat.le_of_ble_eq_true rfl) rfl ?_
  refine ax_iload_n (pc := 18) G dX1_proposal_18 rfl rfl ?_
  refine ax_tabIn (pc := 19) (tgt := 114) G dX1_proposal_19 (by decide) (by decide) (by decide) rfl rfl ?_
  refine ax_aload_n (pc := 114) G dX1_proposal_114 rfl rfl ?_
  refine sr_get (pc := 115) (v := .ref (a + 7)) G flX1_168_1 dX1_proposal_115 rfl ?_
  refine ax_iload_n (pc := 118) G dX1_proposal_118 rfl rfl ?_
  refine sr_ld (pc := 119) (k := 7) (j := k) (r := 41 + k) G dX1_proposal_119 (by decide) (by decide) rfl rfl (show k < 6 by omega) ?_
  show ax_W Ω Γ _ _ _ _ _ (.int (s (41 + k)) :: _)
  refine ax_goto (pc := 120) (tgt := 164) G dX1_proposal_120 rfl ?_
  exact ax_iretE (pc := 164) G E rfl (rfl) dX1_proposal_164 (rfl) (rfl)

theorem cq_proposal_6 {Ω : ax_O} (hA : ax_Amb Ω) {h : ax_H} {a : Nat} {pl s : pR} {π : Nat → cP} {N V O A : Nat} {D : cD} (ha : Ω.2.1.heap.size ≤ a) (hp : pWP pl N V O) (hs : pWS s A) (hE : cEn h a pl s N V O A D) {X bf tr hi sv lb : Nat} {x1 x2 x3 : Int32} (hX : ∀ σ, (sH h a σ).1 X = some (.inr (0, [.ref bf, .int x1, .int x2, .int x3, .ref a, .ref tr, .ref hi, .ref sv, .ref lb]))) (k : Nat) (hk : k < N)  : ax_Met Ω yX1_proposal 20 4 24 [.ref X, .int (nI k), .int (nI 6)] (sH h a (s, π, (.ref (D.1 0)), (D.1 8))) (.inl (some (.int (cOf pl s (nI k) (nI 0) V)))) (sH h a (s, π, (.ref (D.1 0)), (D.1 8))) := by
  refine ax_met q1425 q113 (by decide +kernel) (by decide) hA (Nat.le_of_ble_eq_true rfl) (fun Γ G E => ?_)
  have hV9 := hp.lV
  have hA9 := hs.lA
  have hO9 := hp.lO
  have hN9 := hp.2.1.1
  show ax_W Ω Γ 4 24 (sH h a (s, π, (.ref (D.1 0)), (D.1 8))) 0 [some (.ref X), some (.int (nI k)), some (.int (nI 6)), none] []
  refine ax_aload_n (pc := 0) G dX1_proposal_0 rfl rfl ?_
  refine ax_iload_n (pc := 1) G dX1_proposal_1 rfl rfl ?_
  refine ax_cV1 (pc := 2) (kb := 1) (nb := 6) G (cx_withProposalY hA (π := π) ha hp hs hE hX k (by omega)) lVX1_138_0 dX1_proposal_2 (hX _) rfl (by decide) (Nat.le_of_ble_eq_true rfl) rfl ?_
  refine ax_astore_n (pc := 5) G dX1_proposal_5 rfl (Nat.le_of_ble_eq_true rfl) rfl ?_
  refine ax_iload_n (pc := 6) G dX1_proposal_6 rfl rfl ?_
  refine ax_i2l (pc := 7) G dX1_proposal_7 rfl ?_
  refine ax_lconst (pc := 8) (v := 0) G dX1_proposal_8 rfl ?_
  refine ax_ldc2 (pc := 9) G q1452 dX1_proposal_9 ?_
  refine ax_cS1 (pc := 12) (kb := 1) (nb := 6) G (ct_in hA ((nI 6).toInt64) 0 7) lSX1_62 dX1_proposal_12 rfl (by decide) (Nat.le_of_ble_eq_true rfl) rfl ?_
  rw [cIn_k (A := 0) (B := 7) (a := (nI 0)) (b := (nI 7)) (nI 6) (by decide) (by decide)]
  refine ax_cS0 (pc := 15) (kb := 0) (nb := 0) G (ct_argYb hA (B := (pIn (nI 6) (nI 0) (nI 7))) (by decide)) lSX1_144 dX1_proposal_15 rfl (by decide) (Nat.le_of_ble_eq_true rfl) rfl ?_
  refine ax_iload_n (pc := 18) G dX1_proposal_18 rfl rfl ?_
  refine ax_tabIn (pc := 19) (tgt := 123) G dX1_proposal_19 (by decide) (by decide) (by decide) rfl rfl ?_
  refine ax_iload_n (pc := 123) G dX1_proposal_123 rfl rfl ?_
  refine ax_aload_n (pc := 124) G dX1_proposal_124 rfl rfl ?_
  refine sr_get (pc := 125) (v := .ref (D.1 0)) G flX1_83_1 dX1_proposal_125 rfl ?_
  refine ax_getf (pc := 128) (v := .ref (D.1 2)) G flX1_97_10 dX1_proposal_128 (((hE (s, π, (.ref (D.1 0)), (D.1 8))).1).1) rfl ?_
  refine ax_aload_n (pc := 131) G dX1_proposal_131 rfl rfl ?_
  refine sr_get (pc := 132) (v := .ref (a + 8)) G flX1_161_1 dX1_proposal_132 rfl ?_
  refine ax_iconst (pc := 135) (v := nI 0) G dX1_proposal_135 ic_0 ?_
  refine ax_cS1 (pc := 136) (kb := 0) (nb := 0) G (cx_of hA (π := π) ha hp hs hE (nI k) (nI 0)) lSX1_164 dX1_proposal_136 rfl (by decide) (Nat.le_of_ble_eq_true rfl) rfl ?_
  refine ax_goto (pc := 139) (tgt := 164) G dX1_proposal_139 rfl ?_
  exact ax_iretE (pc := 164) G E rfl (rfl) dX1_proposal_164 (rfl) (rfl)

theorem cq_proposal_7 {Ω : ax_O} (hA : ax_Amb Ω) {h : ax_H} {a : Nat} {pl s : pR} {π : Nat → cP} {N V O A : Nat} {D : cD} (ha : Ω.2.1.heap.size ≤ a) (hp : pWP pl N V O) (hs : pWS s A) (hE : cEn h a pl s N V O A D) {X bf tr hi sv lb : Nat} {x1 x2 x3 : Int32} (hX : ∀ σ, (sH h a σ).1 X = some (.inr (0, [.ref bf, .int x1, .int x2, .int x3, .ref a, .ref tr, .ref hi, .ref sv, .ref lb]))) (k : Nat) (hk : k < N) {nm ln : Nat → Nat} {lt : Nat → Nat → Nat} {g0 : pR} (hNm : ∀ σ, xNm (sH h a σ) (D.2.1 0) nm ln lt pl g0 N)  : ax_Met Ω yX1_proposal 20 4 24 [.ref X, .int (nI k), .int (nI 7)] (sH h a (s, π, (.ref (D.1 0)), (D.1 8))) (.inl (some (.int (nI (ln k))))) (sH h a (s, π, (.ref (D.1 0)), (D.1 8))) := by
  refine ax_met q1425 q113 (by decide +kernel) (by decide) hA (Nat.le_of_ble_eq_true rfl) (fun Γ G E => ?_)
  have hV9 := hp.lV
  have hA9 := hs.lA
  have hO9 := hp.lO
  have hN9 := hp.2.1.1
  obtain ⟨n1, ⟨e9, hs9, hz9, b9, w1, w2, w3, w4⟩, n3, n4, n5⟩ := hNm (s, π, (.ref (D.1 0)), (D.1 8)) k hk
  show ax_W Ω Γ 4 24 (sH h a (s, π, (.ref (D.1 0)), (D.1 8))) 0 [some (.ref X), some (.int (nI k)), some (.int (nI 7)), none] []
  refine ax_aload_n (pc := 0) G dX1_proposal_0 rfl rfl ?_
  refine ax_iload_n (pc := 1) G dX1_proposal_1 rfl rfl ?_
  refine ax_cV1 (pc := 2) (kb := 1) (nb := 6) G (cx_withProposalY hA (π := π) ha hp hs hE hX k (by omega)) lVX1_138_0 dX1_proposal_2 (hX _) rfl (by decide) (Nat.le_of_ble_eq_true rfl) rfl ?_
  refine ax_astore_n (pc := 5) G dX1_proposal_5 rfl (Nat.le_of_ble_eq_true rfl) rfl ?_
  refine ax_iload_n (pc := 6) G dX1_proposal_6 rfl rfl ?_
  refine ax_i2l (pc := 7) G dX1_proposal_7 rfl ?_
  refine ax_lconst (pc := 8) (v := 0) G dX1_proposal_8 rfl ?_
  refine ax_ldc2 (pc := 9) G q1452 dX1_proposal_9 ?_
  refine ax_cS1 (pc := 12) (kb := 1) (nb := 6) G (ct_in hA ((nI 7).toInt64) 0 7) lSX1_62 dX1_proposal_12 rfl (by decide) (Nat.le_of_ble_eq_true rfl) rfl ?_
  rw [cIn_k (A := 0) (B := 7) (a := (nI 0)) (b := (nI 7)) (nI 7) (by decide) (by decide)]
  refine ax_cS0 (pc := 15) (kb := 0) (nb := 0) G (ct_argYb hA (B := (pIn (nI 7) (nI 0) (nI 7))) (by decide)) lSX1_144 dX1_proposal_15 rfl (by decide) (Nat.le_of_ble_eq_true rfl) rfl ?_
  refine ax_iload_n (pc := 18) G dX1_proposal_18 rfl rfl ?_
  refine ax_tabOut (pc := 19) (tgt := 142) G dX1_proposal_19 (by decide) (by decide) rfl ?_
  refine ax_aload_n (pc := 142) G dX1_proposal_142 rfl rfl ?_
  refine sr_get (pc := 143) (v := .ref (D.1 0)) G flX1_83_1 dX1_proposal_143 rfl ?_
  refine ax_getf (pc := 146) (v := .ref (D.1 1)) G flX1_87_10 dX1_proposal_146 (((hE (s, π, (.ref (D.1 0)), (D.1 8))).1).1) rfl ?_
  refine ax_iload_n (pc := 149) G dX1_proposal_149 rfl rfl ?_
  refine ax_cJ1 (pc := 150) (kb := 0) (nb := 0) G (ct_lget hA (((hE (s, π, (.ref (D.1 0)), (D.1 8))).1).2.1).1 (((hE (s, π, (.ref (D.1 0)), (D.1 8))).1).2.1).2.1 (q := D.2.1 0 k) k (by omega) (((hE (s, π, (.ref (D.1 0)), (D.1 8))).1).2.1).2.2.1 (((hE (s, π, (.ref (D.1 0)), (D.1 8))).1).2.1).2.2.2.1 ((((hE (s, π, (.ref (D.1 0)), (D.1 8))).1).2.1).2.2.2.2 k (by omega))) lJX1_7_16 dX1_proposal_150 ((((hE (s, π, (.ref (D.1 0)), (D.1 8))).1).2.1).1) rfl (by decide) (Nat.le_of_ble_eq_true rfl) rfl ?_
  refine ax_checkcast (pc := 155) G q1479 ⟨_, rfl, Or.inl rfl⟩ dX1_proposal_155 (n1) ?_
  refine ax_getf (pc := 158) (v := .ref (nm k)) G flX1_173_12 dX1_proposal_158 (n1) rfl ?_
  refine ax_cV1 (pc := 161) (kb := 0) (nb := 0) G (ct_slen hA w1 w2 (by omega)) lVX1_177_19 dX1_proposal_161 (w1) rfl (by decide) (Nat.le_of_ble_eq_true rfl) rfl ?_
  exact ax_iretE (pc := 164) G E rfl (rfl) dX1_proposal_164 (rfl) (rfl)

theorem cq_proposal_N {Ω : ax_O} (hA : ax_Amb Ω) {h : ax_H} {X bf tr hi sv lb : Nat} {x1 x2 x3 : Int32} (hX : h.1 X = some (.inr (0, [.ref bf, .int x1, .int x2, .int x3, .null, .ref tr, .ref hi, .ref sv, .ref lb]))) (k : Int32) (w : Int32)  : ax_Met Ω yX1_proposal 20 4 24 [.ref X, .int k, .int w] h (.inr h.2) (ax_add h (.inr (21, []))) := by
  refine ax_met q1425 q113 (by decide +kernel) (by decide) hA (Nat.le_of_ble_eq_true rfl) (fun Γ G E => ?_)
  show ax_W Ω Γ 4 24 h 0 [some (.ref X), some (.int k), some (.int w), none] []
  refine ax_aload_n (pc := 0) G dX1_proposal_0 rfl rfl ?_
  refine ax_iload_n (pc := 1) G dX1_proposal_1 rfl rfl ?_
  refine ax_callV (pc := 2) (kb := 1) (nb := 6) G (cx_withProposalN hA hX k) lVX1_138_0 dX1_proposal_2 (hX) rfl (by decide) (Nat.le_of_ble_eq_true rfl) rfl (fun _ e9 => by cases e9) (fun q9 e9 => ?_)
  cases e9
  exact ax_out G E (fun x hx => by cases hx)

theorem cq_proposal_B {Ω : ax_O} (hA : ax_Amb Ω) {h : ax_H} {a : Nat} {pl s : pR} {π : Nat → cP} {N V O A : Nat} {D : cD} (ha : Ω.2.1.heap.size ≤ a) (hp : pWP pl N V O) (hs : pWS s A) (hE : cEn h a pl s N V O A D) {X bf tr hi sv lb : Nat} {x1 x2 x3 : Int32} (hX : ∀ σ, (sH h a σ).1 X = some (.inr (0, [.ref bf, .int x1, .int x2, .int x3, .ref a, .ref tr, .ref hi, .ref sv, .ref lb]))) (k w : Int32) (hb : pIn k (nI 0) (nI N - nI 1) = false)  : ax_Met Ω yX1_proposal 20 4 24 [.ref X, .int k, .int w] (sH h a (s, π, (.ref (D.1 0)), (D.1 8))) (.inr (sH h a (s, π, (.ref (D.1 0)), (D.1 8))).2) (ax_add (sH h a (s, π, (.ref (D.1 0)), (D.1 8))) (.inr (22, []))) := by
  refine ax_met q1425 q113 (by decide +kernel) (by decide) hA (Nat.le_of_ble_eq_true rfl) (fun Γ G E => ?_)
  have hV9 := hp.lV
  have hA9 := hs.lA
  have hO9 := hp.lO
  have hN9 := hp.2.1.1
  show ax_W Ω Γ 4 24 (sH h a (s, π, (.ref (D.1 0)), (D.1 8))) 0 [some (.ref X), some (.int k), some (.int w), none] []
  refine ax_aload_n (pc := 0) G dX1_proposal_0 rfl rfl ?_
  refine ax_iload_n (pc := 1) G dX1_proposal_1 rfl rfl ?_
  refine ax_callV (pc := 2) (kb := 1) (nb := 6) G (cx_withProposalB hA (π := π) ha hp hs hE hX k hb) lVX1_138_0 dX1_proposal_2 (hX _) rfl (by decide) (Nat.le_of_ble_eq_true rfl) rfl (fun _ e9 => by cases e9) (fun q9 e9 => ?_)
  cases e9
  exact ax_out G E (fun x hx => by cases hx)

theorem cq_proposal_C {Ω : ax_O} (hA : ax_Amb Ω) {h : ax_H} {a : Nat} {pl s : pR} {π : Nat → cP} {N V O A : Nat} {D : cD} (ha : Ω.2.1.heap.size ≤ a) (hp : pWP pl N V O) (hs : pWS s A) (hE : cEn h a pl s N V O A D) {X bf tr hi sv lb : Nat} {x1 x2 x3 : Int32} (hX : ∀ σ, (sH h a σ).1 X = some (.inr (0, [.ref bf, .int x1, .int x2, .int x3, .ref a, .ref tr, .ref hi, .ref sv, .ref lb]))) (k : Nat) (hk : k < N) (w : Int32) (hb : pIn w (nI 0) (nI 7) = false)  : ax_Met Ω yX1_proposal 20 4 24 [.ref X, .int (nI k), .int w] (sH h a (s, π, (.ref (D.1 0)), (D.1 8))) (.inr (sH h a (s, π, (.ref (D.1 0)), (D.1 8))).2) (ax_add (sH h a (s, π, (.ref (D.1 0)), (D.1 8))) (.inr (20, []))) := by
  refine ax_met q1425 q113 (by decide +kernel) (by decide) hA (Nat.le_of_ble_eq_true rfl) (fun Γ G E => ?_)
  have hV9 := hp.lV
  have hA9 := hs.lA
  have hO9 := hp.lO
  have hN9 := hp.2.1.1
  show ax_W Ω Γ 4 24 (sH h a (s, π, (.ref (D.1 0)), (D.1 8))) 0 [some (.ref X), some (.int (nI k)), some (.int w), none] []
  refine ax_aload_n (pc := 0) G dX1_proposal_0 rfl rfl ?_
  refine ax_iload_n (pc := 1) G dX1_proposal_1 rfl rfl ?_
  refine ax_cV1 (pc := 2) (kb := 1) (nb := 6) G (cx_withProposalY hA (π := π) ha hp hs hE hX k (by omega)) lVX1_138_0 dX1_proposal_2 (hX _) rfl (by decide) (Nat.le_of_ble_eq_true rfl) rfl ?_
  refine ax_astore_n (pc := 5) G dX1_proposal_5 rfl (Nat.le_of_ble_eq_true rfl) rfl ?_
  refine ax_iload_n (pc := 6) G dX1_proposal_6 rfl rfl ?_
  refine ax_i2l (pc := 7) G dX1_proposal_7 rfl ?_
  refine ax_lconst (pc := 8) (v := 0) G dX1_proposal_8 rfl ?_
  refine ax_ldc2 (pc := 9) G q1452 dX1_proposal_9 ?_
  refine ax_cS1 (pc := 12) (kb := 1) (nb := 6) G (ct_in hA w.toInt64 0 7) lSX1_62 dX1_proposal_12 rfl (by decide) (Nat.le_of_ble_eq_true rfl) rfl ?_
  rw [cIn_k (A := 0) (B := 7) (a := (nI 0)) (b := (nI 7)) w (by decide) (by decide)]
  refine ax_callS (pc := 15) (kb := 0) (nb := 0) G (ct_argNb hA (B := (pIn w (nI 0) (nI 7))) (hb)) lSX1_144 dX1_proposal_15 rfl (by decide) (Nat.le_of_ble_eq_true rfl) rfl (fun _ e9 => by cases e9) (fun q9 e9 => ?_)
  cases e9
  exact ax_out G E (fun x hx => by cases hx)

theorem cq_letter_Y {Ω : ax_O} (hA : ax_Amb Ω) {h : ax_H} {a : Nat} {pl s : pR} {π : Nat → cP} {N V O A : Nat} {D : cD} (ha : Ω.2.1.heap.size ≤ a) (hp : pWP pl N V O) (hs : pWS s A) (hE : cEn h a pl s N V O A D) {X bf tr hi sv lb : Nat} {x1 x2 x3 : Int32} (hX : ∀ σ, (sH h a σ).1 X = some (.inr (0, [.ref bf, .int x1, .int x2, .int x3, .ref a, .ref tr, .ref hi, .ref sv, .ref lb]))) (k : Nat) (hk : k < N) {nm ln : Nat → Nat} {lt : Nat → Nat → Nat} {g0 : pR} (hNm : ∀ σ, xNm (sH h a σ) (D.2.1 0) nm ln lt pl g0 N) (i : Nat) (hi : i < ln k)  : ax_Met Ω yX1_letter 20 4 24 [.ref X, .int (nI k), .int (nI i)] (sH h a (s, π, (.ref (D.1 0)), (D.1 8))) (.inl (some (.int (nI (lt k i))))) (sH h a (s, π, (.ref (D.1 0)), (D.1 8))) := by
  refine ax_met q1487 q113 (by decide +kernel) (by decide) hA (Nat.le_of_ble_eq_true rfl) (fun Γ G E => ?_)
  have hV9 := hp.lV
  have hA9 := hs.lA
  have hO9 := hp.lO
  have hN9 := hp.2.1.1
  obtain ⟨n1, ⟨e9, hs9, hz9, b9, w1, w2, w3, w4⟩, n3, n4, n5⟩ := hNm (s, π, (.ref (D.1 0)), (D.1 8)) k hk
  show ax_W Ω Γ 4 24 (sH h a (s, π, (.ref (D.1 0)), (D.1 8))) 0 [some (.ref X), some (.int (nI k)), some (.int (nI i)), none] []
  refine ax_aload_n (pc := 0) G dX1_letter_0 rfl rfl ?_
  refine ax_iload_n (pc := 1) G dX1_letter_1 rfl rfl ?_
  refine ax_cV1 (pc := 2) (kb := 1) (nb := 6) G (cx_withProposalY hA (π := π) ha hp hs hE hX k (by omega)) lVX1_138_0 dX1_letter_2 (hX _) rfl (by decide) (Nat.le_of_ble_eq_true rfl) rfl ?_
  refine sr_get (pc := 5) (v := .ref (D.1 0)) G flX1_83_1 dX1_letter_5 rfl ?_
  refine ax_getf (pc := 8) (v := .ref (D.1 1)) G flX1_87_10 dX1_letter_8 (((hE (s, π, (.ref (D.1 0)), (D.1 8))).1).1) rfl ?_
  refine ax_iload_n (pc := 11) G dX1_letter_11 rfl rfl ?_
  refine ax_cJ1 (pc := 12) (kb := 1) (nb := 6) G (ct_lget hA (((hE (s, π, (.ref (D.1 0)), (D.1 8))).1).2.1).1 (((hE (s, π, (.ref (D.1 0)), (D.1 8))).1).2.1).2.1 (q := D.2.1 0 k) k (by omega) (((hE (s, π, (.ref (D.1 0)), (D.1 8))).1).2.1).2.2.1 (((hE (s, π, (.ref (D.1 0)), (D.1 8))).1).2.1).2.2.2.1 ((((hE (s, π, (.ref (D.1 0)), (D.1 8))).1).2.1).2.2.2.2 k (by omega))) lJX1_7_16 dX1_letter_12 ((((hE (s, π, (.ref (D.1 0)), (D.1 8))).1).2.1).1) rfl (by decide) (Nat.le_of_ble_eq_true rfl) rfl ?_
  refine ax_checkcast (pc := 17) G q1479 ⟨_, rfl, Or.inl rfl⟩ dX1_letter_17 (n1) ?_
  refine ax_getf (pc := 20) (v := .ref (nm k)) G flX1_173_12 dX1_letter_20 (n1) rfl ?_
  refine ax_astore_n (pc := 23) G dX1_letter_23 rfl (Nat.le_of_ble_eq_true rfl) rfl ?_
  refine ax_iload_n (pc := 24) G dX1_letter_24 rfl rfl ?_
  refine ax_aload_n (pc := 25) G dX1_letter_25 rfl rfl ?_
  refine ax_cV1 (pc := 26) (kb := 1) (nb := 6) G (ct_slen hA w1 w2 (by omega)) lVX1_177_19 dX1_letter_26 (w1) rfl (by decide) (Nat.le_of_ble_eq_true rfl) rfl ?_
  refine ax_cS0 (pc := 29) (kb := 0) (nb := 0) G (ct_idxY hA (nI i) (nI (ln k)) (ix_y hi (by omega))) lSX1_93 dX1_letter_29 rfl (by decide) (Nat.le_of_ble_eq_true rfl) rfl ?_
  refine ax_aload_n (pc := 32) G dX1_letter_32 rfl rfl ?_
  refine ax_iload_n (pc := 33) G dX1_letter_33 rfl rfl ?_
  refine ax_cV1 (pc := 34) (kb := 0) (nb := 0) G (ct_sat hA w1 w2 w4 (by omega) i (by omega)) lVX1_182_19 dX1_letter_34 (w1) rfl (by decide) (Nat.le_of_ble_eq_true rfl) rfl ?_
  exact ax_iretE (pc := 37) G E rfl (rfl) dX1_letter_37 (rfl) (rfl)

theorem cq_letter_N {Ω : ax_O} (hA : ax_Amb Ω) {h : ax_H} {X bf tr hi sv lb : Nat} {x1 x2 x3 : Int32} (hX : h.1 X = some (.inr (0, [.ref bf, .int x1, .int x2, .int x3, .null, .ref tr, .ref hi, .ref sv, .ref lb]))) (k : Int32) (w : Int32)  : ax_Met Ω yX1_letter 20 4 24 [.ref X, .int k, .int w] h (.inr h.2) (ax_add h (.inr (21, []))) := by
  refine ax_met q1487 q113 (by decide +kernel) (by decide) hA (Nat.le_of_ble_eq_true rfl) (fun Γ G E => ?_)
  show ax_W Ω Γ 4 24 h 0 [some (.ref X), some (.int k), some (.int w), none] []
  refine ax_aload_n (pc := 0) G dX1_letter_0 rfl rfl ?_
  refine ax_iload_n (pc := 1) G dX1_letter_1 rfl rfl ?_
  refine ax_callV (pc := 2) (kb := 1) (nb := 6) G (cx_withProposalN hA hX k) lVX1_138_0 dX1_letter_2 (hX) rfl (by decide) (Nat.le_of_ble_eq_true rfl) rfl (fun _ e9 => by cases e9) (fun q9 e9 => ?_)
  cases e9
  exact ax_out G E (fun x hx => by cases hx)

theorem cq_letter_B {Ω : ax_O} (hA : ax_Amb Ω) {h : ax_H} {a : Nat} {pl s : pR} {π : Nat → cP} {N V O A : Nat} {D : cD} (ha : Ω.2.1.heap.size ≤ a) (hp : pWP pl N V O) (hs : pWS s A) (hE : cEn h a pl s N V O A D) {X bf tr hi sv lb : Nat} {x1 x2 x3 : Int32} (hX : ∀ σ, (sH h a σ).1 X = some (.inr (0, [.ref bf, .int x1, .int x2, .int x3, .ref a, .ref tr, .ref hi, .ref sv, .ref lb]))) (k w : Int32) (hb : pIn k (nI 0) (nI N - nI 1) = false)  : ax_Met Ω yX1_letter 20 4 24 [.ref X, .int k, .int w] (sH h a (s, π, (.ref (D.1 0)), (D.1 8))) (.inr (sH h a (s, π, (.ref (D.1 0)), (D.1 8))).2) (ax_add (sH h a (s, π, (.ref (D.1 0)), (D.1 8))) (.inr (22, []))) := by
  refine ax_met q1487 q113 (by decide +kernel) (by decide) hA (Nat.le_of_ble_eq_true rfl) (fun Γ G E => ?_)
  have hV9 := hp.lV
  have hA9 := hs.lA
  have hO9 := hp.lO
  have hN9 := hp.2.1.1
  show ax_W Ω Γ 4 24 (sH h a (s, π, (.ref (D.1 0)), (D.1 8))) 0 [some (.ref X), some (.int k), some (.int w), none] []
  refine ax_aload_n (pc := 0) G dX1_letter_0 rfl rfl ?_
  refine ax_iload_n (pc := 1) G dX1_letter_1 rfl rfl ?_
  refine ax_callV (pc := 2) (kb := 1) (nb := 6) G (cx_withProposalB hA (π := π) ha hp hs hE hX k hb) lVX1_138_0 dX1_letter_2 (hX _) rfl (by decide) (Nat.le_of_ble_eq_true rfl) rfl (fun _ e9 => by cases e9) (fun q9 e9 => ?_)
  cases e9
  exact ax_out G E (fun x hx => by cases hx)

theorem cq_letter_C {Ω : ax_O} (hA : ax_Amb Ω) {h : ax_H} {a : Nat} {pl s : pR} {π : Nat → cP} {N V O A : Nat} {D : cD} (ha : Ω.2.1.heap.size ≤ a) (hp : pWP pl N V O) (hs : pWS s A) (hE : cEn h a pl s N V O A D) {X bf tr hi sv lb : Nat} {x1 x2 x3 : Int32} (hX : ∀ σ, (sH h a σ).1 X = some (.inr (0, [.ref bf, .int x1, .int x2, .int x3, .ref a, .ref tr, .ref hi, .ref sv, .ref lb]))) (k : Nat) (hk : k < N) {nm ln : Nat → Nat} {lt : Nat → Nat → Nat} {g0 : pR} (hNm : ∀ σ, xNm (sH h a σ) (D.2.1 0) nm ln lt pl g0 N) (w : Int32) (hb : pIn w (nI 0) (nI (ln k) - nI 1) = false)  : ax_Met Ω yX1_letter 20 4 24 [.ref X, .int (nI k), .int w] (sH h a (s, π, (.ref (D.1 0)), (D.1 8))) (.inr (sH h a (s, π, (.ref (D.1 0)), (D.1 8))).2) (ax_add (sH h a (s, π, (.ref (D.1 0)), (D.1 8))) (.inr (22, []))) := by
  refine ax_met q1487 q113 (by decide +kernel) (by decide) hA (Nat.le_of_ble_eq_true rfl) (fun Γ G E => ?_)
  have hV9 := hp.lV
  have hA9 := hs.lA
  have hO9 := hp.lO
  have hN9 := hp.2.1.1
  obtain ⟨n1, ⟨e9, hs9, hz9, b9, w1, w2, w3, w4⟩, n3, n4, n5⟩ := hNm (s, π, (.ref (D.1 0)), (D.1 8)) k hk
  show ax_W Ω Γ 4 24 (sH h a (s, π, (.ref (D.1 0)), (D.1 8))) 0 [some (.ref X), some (.int (nI k)), some (.int w), none] []
  refine ax_aload_n (pc := 0) G dX1_letter_0 rfl rfl ?_
  refine ax_iload_n (pc := 1) G dX1_letter_1 rfl rfl ?_
  refine ax_cV1 (pc := 2) (kb := 1) (nb := 6) G (cx_withProposalY hA (π := π) ha hp hs hE hX k (by omega)) lVX1_138_0 dX1_letter_2 (hX _) rfl (by decide) (Nat.le_of_ble_eq_true rfl) rfl ?_
  refine sr_get (pc := 5) (v := .ref (D.1 0)) G flX1_83_1 dX1_letter_5 rfl ?_
  refine ax_getf (pc := 8) (v := .ref (D.1 1)) G flX1_87_10 dX1_letter_8 (((hE (s, π, (.ref (D.1 0)), (D.1 8))).1).1) rfl ?_
  refine ax_iload_n (pc := 11) G dX1_letter_11 rfl rfl ?_
  refine ax_cJ1 (pc := 12) (kb := 1) (nb := 6) G (ct_lget hA (((hE (s, π, (.ref (D.1 0)), (D.1 8))).1).2.1).1 (((hE (s, π, (.ref (D.1 0)), (D.1 8))).1).2.1).2.1 (q := D.2.1 0 k) k (by omega) (((hE (s, π, (.ref (D.1 0)), (D.1 8))).1).2.1).2.2.1 (((hE (s, π, (.ref (D.1 0)), (D.1 8))).1).2.1).2.2.2.1 ((((hE (s, π, (.ref (D.1 0)), (D.1 8))).1).2.1).2.2.2.2 k (by omega))) lJX1_7_16 dX1_letter_12 ((((hE (s, π, (.ref (D.1 0)), (D.1 8))).1).2.1).1) rfl (by decide) (Nat.le_of_ble_eq_true rfl) rfl ?_
  refine ax_checkcast (pc := 17) G q1479 ⟨_, rfl, Or.inl rfl⟩ dX1_letter_17 (n1) ?_
  refine ax_getf (pc := 20) (v := .ref (nm k)) G flX1_173_12 dX1_letter_20 (n1) rfl ?_
  refine ax_astore_n (pc := 23) G dX1_letter_23 rfl (Nat.le_of_ble_eq_true rfl) rfl ?_
  refine ax_iload_n (pc := 24) G dX1_letter_24 rfl rfl ?_
  refine ax_aload_n (pc := 25) G dX1_letter_25 rfl rfl ?_
  refine ax_cV1 (pc := 26) (kb := 1) (nb := 6) G (ct_slen hA w1 w2 (by omega)) lVX1_177_19 dX1_letter_26 (w1) rfl (by decide) (Nat.le_of_ble_eq_true rfl) rfl ?_
  refine ax_callS (pc := 29) (kb := 0) (nb := 0) G (ct_idxN hA w (nI (ln k)) (hb)) lSX1_93 dX1_letter_29 rfl (by decide) (Nat.le_of_ble_eq_true rfl) rfl (fun _ e9 => by cases e9) (fun q9 e9 => ?_)
  cases e9
  exact ax_out G E (fun x hx => by cases hx)

theorem cq_entry_Y {Ω : ax_O} (hA : ax_Amb Ω) {h : ax_H} {a : Nat} {pl s : pR} {π : Nat → cP} {N V O A : Nat} {D : cD} (ha : Ω.2.1.heap.size ≤ a) (hp : pWP pl N V O) (hs : pWS s A) (hE : cEn h a pl s N V O A D) {X bf tr hi sv lb : Nat} {x1 x2 x3 : Int32} (hX : ∀ σ, (sH h a σ).1 X = some (.inr (0, [.ref bf, .int x1, .int x2, .int x3, .ref a, .ref tr, .ref hi, .ref sv, .ref lb]))) {L : Nat} (hL : s 16 = nI L) (hl : L ≤ 100) (k : Nat) (hk : k < L) (w : Nat) (hw : w ≤ 3)  : ax_Met Ω yX1_entry 20 4 24 [.ref X, .int (nI k), .int (nI w)] (sH h a (s, π, (.ref (D.1 0)), (D.1 8))) (.inl (some (.int (s (227 + (4 * k + w)))))) (sH h a (s, π, (.ref (D.1 0)), (D.1 8))) := by
  refine ax_met q2060 q113 (by decide +kernel) (by decide) hA (Nat.le_of_ble_eq_true rfl) (fun Γ G E => ?_)
  have hV9 := hp.lV
  have hA9 := hs.lA
  have hO9 := hp.lO
  show ax_W Ω Γ 4 24 (sH h a (s, π, (.ref (D.1 0)), (D.1 8))) 0 [some (.ref X), some (.int (nI k)), some (.int (nI w))] []
  refine ax_iload_n (pc := 0) G dX1_entry_0 rfl rfl ?_
  refine ax_aload_n (pc := 1) G dX1_entry_1 rfl rfl ?_
  refine ax_cV1 (pc := 2) (kb := 2) (nb := 12) G (cx_thereY hA (π := π) ha hp hs hE hX) lVX1_79_0 dX1_entry_2 (hX _) rfl (by decide) (Nat.le_of_ble_eq_true rfl) rfl ?_
  refine sr_get (pc := 5) (v := .int (s 16)) G flX1_369_1 dX1_entry_5 rfl ?_
  refine ax_top (show Value.int (s 16) = .int (nI L) from congrArg Value.int (hL)) ?_
  refine ax_cS0 (pc := 8) (kb := 1) (nb := 6) G (ct_idxY hA (nI k) (nI L) (ix_y hk (by omega))) lSX1_93 dX1_entry_8 rfl (by decide) (Nat.le_of_ble_eq_true rfl) rfl ?_
  refine ax_iload_n (pc := 11) G dX1_entry_11 rfl rfl ?_
  refine ax_i2l (pc := 12) G dX1_entry_12 rfl ?_
  refine ax_lconst (pc := 13) (v := 0) G dX1_entry_13 rfl ?_
  refine ax_ldc2 (pc := 14) G q2061 dX1_entry_14 ?_
  refine ax_cS1 (pc := 17) (kb := 1) (nb := 6) G (ct_in hA ((nI w).toInt64) 0 3) lSX1_62 dX1_entry_17 rfl (by decide) (Nat.le_of_ble_eq_true rfl) rfl ?_
  rw [cIn_k (A := 0) (B := 3) (a := (nI 0)) (b := (nI 3)) (nI w) (by decide) (by decide)]
  refine ax_cS0 (pc := 20) (kb := 0) (nb := 0) G (ct_argYb hA (B := (pIn (nI w) (nI 0) (nI 3))) (px_y hw (by omega))) lSX1_144 dX1_entry_20 rfl (by decide) (Nat.le_of_ble_eq_true rfl) rfl ?_
  refine ax_aload_n (pc := 23) G dX1_entry_23 rfl rfl ?_
  refine ax_getf (pc := 24) (v := .ref a) G flX1_72_0 dX1_entry_24 (hX _) rfl ?_
  refine sr_get (pc := 27) (v := .ref (a + 15)) G flX1_374_1 dX1_entry_27 rfl ?_
  refine ax_iconst (pc := 30) (v := nI 4) G dX1_entry_30 ic_4 ?_
  refine ax_iload_n (pc := 31) G dX1_entry_31 rfl rfl ?_
  refine ax_imulN (pc := 32) G dX1_entry_32 ?_
  refine ax_iload_n (pc := 33) G dX1_entry_33 rfl rfl ?_
  refine ax_iaddN (pc := 34) G dX1_entry_34 ?_
  refine sr_ld (pc := 35) (k := 15) (j := 4 * k + w) (r := 227 + (4 * k + w)) G dX1_entry_35 (by decide) (by decide) rfl rfl (show 4 * k + w < 400 by omega) ?_
  show ax_W Ω Γ _ _ _ _ _ (.int (s (227 + (4 * k + w))) :: _)
  exact ax_iretE (pc := 36) G E rfl (rfl) dX1_entry_36 (rfl) (rfl)

theorem cq_entry_N {Ω : ax_O} (hA : ax_Amb Ω) {h : ax_H} {X bf tr hi sv lb : Nat} {x1 x2 x3 : Int32} (hX : h.1 X = some (.inr (0, [.ref bf, .int x1, .int x2, .int x3, .null, .ref tr, .ref hi, .ref sv, .ref lb]))) (k : Int32) (w : Int32)  : ax_Met Ω yX1_entry 20 4 24 [.ref X, .int k, .int w] h (.inr h.2) (ax_add h (.inr (21, []))) := by
  refine ax_met q2060 q113 (by decide +kernel) (by decide) hA (Nat.le_of_ble_eq_true rfl) (fun Γ G E => ?_)
  show ax_W Ω Γ 4 24 h 0 [some (.ref X), some (.int k), some (.int w)] []
  refine ax_iload_n (pc := 0) G dX1_entry_0 rfl rfl ?_
  refine ax_aload_n (pc := 1) G dX1_entry_1 rfl rfl ?_
  refine ax_callV (pc := 2) (kb := 2) (nb := 12) G (cx_thereN hA hX) lVX1_79_0 dX1_entry_2 (hX) rfl (by decide) (Nat.le_of_ble_eq_true rfl) rfl (fun _ e9 => by cases e9) (fun q9 e9 => ?_)
  cases e9
  exact ax_out G E (fun x hx => by cases hx)

theorem cq_entry_B {Ω : ax_O} (hA : ax_Amb Ω) {h : ax_H} {a : Nat} {pl s : pR} {π : Nat → cP} {N V O A : Nat} {D : cD} (ha : Ω.2.1.heap.size ≤ a) (hp : pWP pl N V O) (hs : pWS s A) (hE : cEn h a pl s N V O A D) {X bf tr hi sv lb : Nat} {x1 x2 x3 : Int32} (hX : ∀ σ, (sH h a σ).1 X = some (.inr (0, [.ref bf, .int x1, .int x2, .int x3, .ref a, .ref tr, .ref hi, .ref sv, .ref lb]))) {L : Nat} (hL : s 16 = nI L) (hl : L ≤ 100) (k w : Int32) (hb : pIn k (nI 0) (nI L - nI 1) = false)  : ax_Met Ω yX1_entry 20 4 24 [.ref X, .int k, .int w] (sH h a (s, π, (.ref (D.1 0)), (D.1 8))) (.inr (sH h a (s, π, (.ref (D.1 0)), (D.1 8))).2) (ax_add (sH h a (s, π, (.ref (D.1 0)), (D.1 8))) (.inr (22, []))) := by
  refine ax_met q2060 q113 (by decide +kernel) (by decide) hA (Nat.le_of_ble_eq_true rfl) (fun Γ G E => ?_)
  have hV9 := hp.lV
  have hA9 := hs.lA
  have hO9 := hp.lO
  show ax_W Ω Γ 4 24 (sH h a (s, π, (.ref (D.1 0)), (D.1 8))) 0 [some (.ref X), some (.int k), some (.int w)] []
  refine ax_iload_n (pc := 0) G dX1_entry_0 rfl rfl ?_
  refine ax_aload_n (pc := 1) G dX1_entry_1 rfl rfl ?_
  refine ax_cV1 (pc := 2) (kb := 2) (nb := 12) G (cx_thereY hA (π := π) ha hp hs hE hX) lVX1_79_0 dX1_entry_2 (hX _) rfl (by decide) (Nat.le_of_ble_eq_true rfl) rfl ?_
  refine sr_get (pc := 5) (v := .int (s 16)) G flX1_369_1 dX1_entry_5 rfl ?_
  refine ax_top (show Value.int (s 16) = .int (nI L) from congrArg Value.int (hL)) ?_
  refine ax_callS (pc := 8) (kb := 1) (nb := 6) G (ct_idxN hA k (nI L) (hb)) lSX1_93 dX1_entry_8 rfl (by decide) (Nat.le_of_ble_eq_true rfl) rfl (fun _ e9 => by cases e9) (fun q9 e9 => ?_)
  cases e9
  exact ax_out G E (fun x hx => by cases hx)

theorem cq_entry_C {Ω : ax_O} (hA : ax_Amb Ω) {h : ax_H} {a : Nat} {pl s : pR} {π : Nat → cP} {N V O A : Nat} {D : cD} (ha : Ω.2.1.heap.size ≤ a) (hp : pWP pl N V O) (hs : pWS s A) (hE : cEn h a pl s N V O A D) {X bf tr hi sv lb : Nat} {x1 x2 x3 : Int32} (hX : ∀ σ, (sH h a σ).1 X = some (.inr (0, [.ref bf, .int x1, .int x2, .int x3, .ref a, .ref tr, .ref hi, .ref sv, .ref lb]))) {L : Nat} (hL : s 16 = nI L) (hl : L ≤ 100) (k : Nat) (hk : k < L) (w : Int32) (hb : pIn w (nI 0) (nI 3) = false)  : ax_Met Ω yX1_entry 20 4 24 [.ref X, .int (nI k), .int w] (sH h a (s, π, (.ref (D.1 0)), (D.1 8))) (.inr (sH h a (s, π, (.ref (D.1 0)), (D.1 8))).2) (ax_add (sH h a (s, π, (.ref (D.1 0)), (D.1 8))) (.inr (20, []))) := by
  refine ax_met q2060 q113 (by decide +kernel) (by decide) hA (Nat.le_of_ble_eq_true rfl) (fun Γ G E => ?_)
  have hV9 := hp.lV
  have hA9 := hs.lA
  have hO9 := hp.lO
  show ax_W Ω Γ 4 24 (sH h a (s, π, (.ref (D.1 0)), (D.1 8))) 0 [some (.ref X), some (.int (nI k)), some (.int w)] []
  refine ax_iload_n (pc := 0) G dX1_entry_0 rfl rfl ?_
  refine ax_aload_n (pc := 1) G dX1_entry_1 rfl rfl ?_
  refine ax_cV1 (pc := 2) (kb := 2) (nb := 12) G (cx_thereY hA (π := π) ha hp hs hE hX) lVX1_79_0 dX1_entry_2 (hX _) rfl (by decide) (Nat.le_of_ble_eq_true rfl) rfl ?_
  refine sr_get (pc := 5) (v := .int (s 16)) G flX1_369_1 dX1_entry_5 rfl ?_
  refine ax_top (show Value.int (s 16) = .int (nI L) from congrArg Value.int (hL)) ?_
  refine ax_cS0 (pc := 8) (kb := 1) (nb := 6) G (ct_idxY hA (nI k) (nI L) (ix_y hk (by omega))) lSX1_93 dX1_entry_8 rfl (by decide) (Nat.le_of_ble_eq_true rfl) rfl ?_
  refine ax_iload_n (pc := 11) G dX1_entry_11 rfl rfl ?_
  refine ax_i2l (pc := 12) G dX1_entry_12 rfl ?_
  refine ax_lconst (pc := 13) (v := 0) G dX1_entry_13 rfl ?_
  refine ax_ldc2 (pc := 14) G q2061 dX1_entry_14 ?_
  refine ax_cS1 (pc := 17) (kb := 1) (nb := 6) G (ct_in hA w.toInt64 0 3) lSX1_62 dX1_entry_17 rfl (by decide) (Nat.le_of_ble_eq_true rfl) rfl ?_
  rw [cIn_k (A := 0) (B := 3) (a := (nI 0)) (b := (nI 3)) w (by decide) (by decide)]
  refine ax_callS (pc := 20) (kb := 0) (nb := 0) G (ct_argNb hA (B := (pIn w (nI 0) (nI 3))) (hb)) lSX1_144 dX1_entry_20 rfl (by decide) (Nat.le_of_ble_eq_true rfl) rfl (fun _ e9 => by cases e9) (fun q9 e9 => ?_)
  cases e9
  exact ax_out G E (fun x hx => by cases hx)

theorem cq_waiting_Y {Ω : ax_O} (hA : ax_Amb Ω) {h : ax_H} {a : Nat} {pl s : pR} {π : Nat → cP} {N V O A : Nat} {D : cD} (ha : Ω.2.1.heap.size ≤ a) (hp : pWP pl N V O) (hs : pWS s A) (hE : cEn h a pl s N V O A D) {X bf tr hi sv lb : Nat} {x1 x2 x3 : Int32} (hX : ∀ σ, (sH h a σ).1 X = some (.inr (0, [.ref bf, .int x1, .int x2, .int x3, .ref a, .ref tr, .ref hi, .ref sv, .ref lb])))  : ax_Met Ω yX1_waiting 20 4 24 [.ref X] (sH h a (s, π, (.ref (D.1 0)), (D.1 8))) (.inl (some (.int (pWait s A)))) (sH h a (s, π, (.ref (D.1 0)), (D.1 8))) := by
  refine ax_met q1606 q113 (by decide +kernel) (by decide) hA (Nat.le_of_ble_eq_true rfl) (fun Γ G E => ?_)
  have hV9 := hp.lV
  have hA9 := hs.lA
  have hO9 := hp.lO
  have L0 : ∀ (n i : Nat), i + n = A → ax_W Ω Γ 2 12 (sH h a (s, π, (.ref (D.1 0)), (D.1 8))) 9 [some (.ref X), some (.ref a), some (.int (pWait s i)), some (.int (nI i))] [] := by
    intro n
    induction n with
    | zero =>
      intro i hi
      have hi9 : A = i := by omega
      subst hi9
      refine ax_iload_n (pc := 9) G dX1_waiting_9 rfl rfl ?_
      refine ax_aload_n (pc := 10) G dX1_waiting_10 rfl rfl ?_
      refine sr_get (pc := 11) (v := .ref (a + 2)) G flX1_100_1 dX1_waiting_11 rfl ?_
      refine ax_cJ1 (pc := 14) (kb := 2) (nb := 12) G (ct_lsize hA ((hE (s, π, (.ref (D.1 0)), (D.1 8))).2.1).1) lJX1_1_16 dX1_waiting_14 (((hE (s, π, (.ref (D.1 0)), (D.1 8))).2.1).1) rfl (by decide) (Nat.le_of_ble_eq_true rfl) rfl ?_
      refine ax_icmp_geN (pc := 19) (tgt := 70) G dX1_waiting_19 rfl (by omega) (by omega) (fun c19 => ?_) (fun c19 => ?_)
      · refine ax_iload_n (pc := 70) G dX1_waiting_70 rfl rfl ?_
        exact ax_iretE (pc := 71) G E rfl (rfl) dX1_waiting_71 (rfl) (rfl)
      · omega
    | succ n ih =>
      intro i hi
      refine ax_iload_n (pc := 9) G dX1_waiting_9 rfl rfl ?_
      refine ax_aload_n (pc := 10) G dX1_waiting_10 rfl rfl ?_
      refine sr_get (pc := 11) (v := .ref (a + 2)) G flX1_100_1 dX1_waiting_11 rfl ?_
      refine ax_cJ1 (pc := 14) (kb := 2) (nb := 12) G (ct_lsize hA ((hE (s, π, (.ref (D.1 0)), (D.1 8))).2.1).1) lJX1_1_16 dX1_waiting_14 (((hE (s, π, (.ref (D.1 0)), (D.1 8))).2.1).1) rfl (by decide) (Nat.le_of_ble_eq_true rfl) rfl ?_
      refine ax_icmp_geN (pc := 19) (tgt := 70) G dX1_waiting_19 rfl (by omega) (by omega) (fun c19 => ?_) (fun c19 => ?_)
      · omega
      · refine ax_iload_n (pc := 22) G dX1_waiting_22 rfl rfl ?_
        refine ax_aload_n (pc := 23) G dX1_waiting_23 rfl rfl ?_
        refine sr_get (pc := 24) (v := .ref (a + 12)) G flX1_237_1 dX1_waiting_24 rfl ?_
        refine ax_iload_n (pc := 27) G dX1_waiting_27 rfl rfl ?_
        refine sr_ld (pc := 28) (k := 12) (j := i) (r := 127 + 10 * i + 7) G dX1_waiting_28 (by decide) (by decide) rfl rfl (show i < 10 by omega) ?_
        show ax_W Ω Γ _ _ _ _ _ (.int (s (127 + 10 * i + 7)) :: _)
        have J62 : ax_W Ω Γ 2 12 (sH h a (s, π, (.ref (D.1 0)), (D.1 8))) 62 [some (.ref X), some (.ref a), some (.int (pWait s i)), some (.int (nI i))] [.int (if s (127 + 10 * i + 7) = 0 then (if s (127 + 10 * i + 1) ≤ s 0 then nI 1 <<< (nI i &&& 31) else nI 0) else nI 0), .int (pWait s i)] := by
          refine ax_ior (pc := 62) G dX1_waiting_62 ?_
          refine ax_istore_n (pc := 63) G dX1_waiting_63 rfl (Nat.le_of_ble_eq_true rfl) rfl ?_
          refine ax_iincN (pc := 64) (n := 1) G dX1_waiting_64 rfl rfl ic_1 ?_
          refine ax_goto (pc := 67) (tgt := 9) G dX1_waiting_67 rfl ?_
          have eX : pWait s (i + 1) = (pWait s i) ||| (if s (127 + 10 * i + 7) = 0 then (if s (127 + 10 * i + 1) ≤ s 0 then nI 1 <<< (nI i &&& 31) else nI 0) else nI 0) := rfl
          have q := ih (i + 1) (by omega)
          rw [eX] at q
          exact q
        refine ax_if_ne (pc := 29) (tgt := 61) G dX1_waiting_29 rfl (fun c29 => ?_) (fun c29 => ?_)
        · refine ax_iconst (pc := 61) (v := nI 0) G dX1_waiting_61 ic_0 ?_
          refine ax_top (show (.int (nI 0) : Value) = .int (if s (127 + 10 * i + 7) = 0 then (if s (127 + 10 * i + 1) ≤ s 0 then nI 1 <<< (nI i &&& 31) else nI 0) else nI 0) from congrArg Value.int (by first | (simp only [c19, c29, if_true, if_false, Bool.false_eq_true, not_false_eq_true, not_true_eq_false, decide_true, decide_false, Bool.and_true, Bool.true_and, Bool.and_false, Bool.false_and, Bool.or_true, Bool.true_or, Bool.or_false, Bool.false_or, and_self, and_true, true_and, and_false, false_and, or_true, true_or, or_false, false_or, ne_eq]; done) | (simp only [c19, c29, if_true, if_false, Bool.false_eq_true, not_false_eq_true, not_true_eq_false, decide_true, decide_false, Bool.and_true, Bool.true_and, Bool.and_false, Bool.false_and, Bool.or_true, Bool.true_or, Bool.or_false, Bool.false_or, and_self, and_true, true_and, and_false, false_and, or_true, true_or, or_false, false_or, ne_eq]; rfl))) ?_
          exact J62
        · refine ax_aload_n (pc := 32) G dX1_waiting_32 rfl rfl ?_
          refine sr_get (pc := 33) (v := .ref (a + 2)) G flX1_100_1 dX1_waiting_33 rfl ?_
          refine ax_iload_n (pc := 36) G dX1_waiting_36 rfl rfl ?_
          refine ax_cJ1 (pc := 37) (kb := 2) (nb := 12) G (ct_lget hA ((hE (s, π, (.ref (D.1 0)), (D.1 8))).2.1).1 ((hE (s, π, (.ref (D.1 0)), (D.1 8))).2.1).2.1 (q := D.2.1 3 i) i (by omega) ((hE (s, π, (.ref (D.1 0)), (D.1 8))).2.1).2.2.1 ((hE (s, π, (.ref (D.1 0)), (D.1 8))).2.1).2.2.2.1 (((hE (s, π, (.ref (D.1 0)), (D.1 8))).2.1).2.2.2.2 i (by omega))) lJX1_7_16 dX1_waiting_37 (((hE (s, π, (.ref (D.1 0)), (D.1 8))).2.1).1) rfl (by decide) (Nat.le_of_ble_eq_true rfl) rfl ?_
          refine ax_checkcast (pc := 42) G q1569 ⟨_, rfl, Or.inl rfl⟩ dX1_waiting_42 ((hE (s, π, (.ref (D.1 0)), (D.1 8))).2.2 i (by omega)) ?_
          refine ax_getf (pc := 45) (v := .int (s (127 + 10 * i + 1))) G flX1_227_14 dX1_waiting_45 ((hE (s, π, (.ref (D.1 0)), (D.1 8))).2.2 i (by omega)) rfl ?_
          refine ax_aload_n (pc := 48) G dX1_waiting_48 rfl rfl ?_
          refine sr_get (pc := 49) (v := .int (s 0)) G flX1_243_1 dX1_waiting_49 rfl ?_
          refine ax_icmp_gt (pc := 52) (tgt := 61) G dX1_waiting_52 rfl (fun c52 => ?_) (fun c52 => ?_)
          · refine ax_iconst (pc := 61) (v := nI 0) G dX1_waiting_61 ic_0 ?_
            refine ax_top (show (.int (nI 0) : Value) = .int (if s (127 + 10 * i + 7) = 0 then (if s (127 + 10 * i + 1) ≤ s 0 then nI 1 <<< (nI i &&& 31) else nI 0) else nI 0) from congrArg Value.int (by first | (simp only [c19, c29, c52, Int32.not_le.mpr c52, if_true, if_false, Bool.false_eq_true, not_false_eq_true, not_true_eq_false, decide_true, decide_false, Bool.and_true, Bool.true_and, Bool.and_false, Bool.false_and, Bool.or_true, Bool.true_or, Bool.or_false, Bool.false_or, and_self, and_true, true_and, and_false, false_and, or_true, true_or, or_false, false_or, ne_eq]; done) | (simp only [c19, c29, c52, Int32.not_le.mpr c52, if_true, if_false, Bool.false_eq_true, not_false_eq_true, not_true_eq_false, decide_true, decide_false, Bool.and_true, Bool.true_and, Bool.and_false, Bool.false_and, Bool.or_true, Bool.true_or, Bool.or_false, Bool.false_or, and_self, and_true, true_and, and_false, false_and, or_true, true_or, or_false, false_or, ne_eq]; rfl) | (simp only [c19, if_pos c29, decide_eq_true c29, c52, Int32.not_le.mpr c52, if_true, if_false, Bool.false_eq_true, not_false_eq_true, not_true_eq_false, decide_true, decide_false, Bool.and_true, Bool.true_and, Bool.and_false, Bool.false_and, Bool.or_true, Bool.true_or, Bool.or_false, Bool.false_or, and_self, and_true, true_and, and_false, false_and, or_true, true_or, or_false, false_or, ne_eq]; done) | (simp only [c19, if_pos c29, decide_eq_true c29, c52, Int32.not_le.mpr c52, if_true, if_false, Bool.false_eq_true, not_false_eq_true, not_true_eq_false, decide_true, decide_false, Bool.and_true, Bool.true_and, Bool.and_false, Bool.false_and, Bool.or_true, Bool.true_or, Bool.or_false, Bool.false_or, and_self, and_true, true_and, and_false, false_and, or_true, true_or, or_false, false_or, ne_eq]; rfl))) ?_
            exact J62
          · refine ax_iconst (pc := 55) (v := nI 1) G dX1_waiting_55 ic_1 ?_
            refine ax_iload_n (pc := 56) G dX1_waiting_56 rfl rfl ?_
            refine ax_ishl (pc := 57) G dX1_waiting_57 ?_
            refine ax_goto (pc := 58) (tgt := 62) G dX1_waiting_58 rfl ?_
            refine ax_top (show (.int ((nI 1) <<< ((nI i) &&& 31)) : Value) = .int (if s (127 + 10 * i + 7) = 0 then (if s (127 + 10 * i + 1) ≤ s 0 then nI 1 <<< (nI i &&& 31) else nI 0) else nI 0) from congrArg Value.int (by first | (simp only [c19, c29, c52, Int32.not_lt.mp c52, if_true, if_false, Bool.false_eq_true, not_false_eq_true, not_true_eq_false, decide_true, decide_false, Bool.and_true, Bool.true_and, Bool.and_false, Bool.false_and, Bool.or_true, Bool.true_or, Bool.or_false, Bool.false_or, and_self, and_true, true_and, and_false, false_and, or_true, true_or, or_false, false_or, ne_eq]; done) | (simp only [c19, c29, c52, Int32.not_lt.mp c52, if_true, if_false, Bool.false_eq_true, not_false_eq_true, not_true_eq_false, decide_true, decide_false, Bool.and_true, Bool.true_and, Bool.and_false, Bool.false_and, Bool.or_true, Bool.true_or, Bool.or_false, Bool.false_or, and_self, and_true, true_and, and_false, false_and, or_true, true_or, or_false, false_or, ne_eq]; rfl) | (simp only [c19, if_pos c29, decide_eq_true c29, c52, Int32.not_lt.mp c52, if_true, if_false, Bool.false_eq_true, not_false_eq_true, not_true_eq_false, decide_true, decide_false, Bool.and_true, Bool.true_and, Bool.and_false, Bool.false_and, Bool.or_true, Bool.true_or, Bool.or_false, Bool.false_or, and_self, and_true, true_and, and_false, false_and, or_true, true_or, or_false, false_or, ne_eq]; done) | (simp only [c19, if_pos c29, decide_eq_true c29, c52, Int32.not_lt.mp c52, if_true, if_false, Bool.false_eq_true, not_false_eq_true, not_true_eq_false, decide_true, decide_false, Bool.and_true, Bool.true_and, Bool.and_false, Bool.false_and, Bool.or_true, Bool.true_or, Bool.or_false, Bool.false_or, and_self, and_true, true_and, and_false, false_and, or_true, true_or, or_false, false_or, ne_eq]; rfl))) ?_
            exact J62
  show ax_W Ω Γ 4 24 (sH h a (s, π, (.ref (D.1 0)), (D.1 8))) 0 [some (.ref X), none, none, none] []
  refine ax_aload_n (pc := 0) G dX1_waiting_0 rfl rfl ?_
  refine ax_cV1 (pc := 1) (kb := 2) (nb := 12) G (cx_thereY hA (π := π) ha hp hs hE hX) lVX1_79_0 dX1_waiting_1 (hX _) rfl (by decide) (Nat.le_of_ble_eq_true rfl) rfl ?_
  refine ax_astore_n (pc := 4) G dX1_waiting_4 rfl (Nat.le_of_ble_eq_true rfl) rfl ?_
  refine ax_iconst (pc := 5) (v := nI 0) G dX1_waiting_5 ic_0 ?_
  refine ax_istore_n (pc := 6) G dX1_waiting_6 rfl (Nat.le_of_ble_eq_true rfl) rfl ?_
  refine ax_iconst (pc := 7) (v := nI 0) G dX1_waiting_7 ic_0 ?_
  refine ax_istore_n (pc := 8) G dX1_waiting_8 rfl (Nat.le_of_ble_eq_true rfl) rfl ?_
  exact L0 A 0 (by omega)

theorem cq_waiting_N {Ω : ax_O} (hA : ax_Amb Ω) {h : ax_H} {X bf tr hi sv lb : Nat} {x1 x2 x3 : Int32} (hX : h.1 X = some (.inr (0, [.ref bf, .int x1, .int x2, .int x3, .null, .ref tr, .ref hi, .ref sv, .ref lb])))  : ax_Met Ω yX1_waiting 20 4 24 [.ref X] h (.inr h.2) (ax_add h (.inr (21, []))) := by
  refine ax_met q1606 q113 (by decide +kernel) (by decide) hA (Nat.le_of_ble_eq_true rfl) (fun Γ G E => ?_)
  show ax_W Ω Γ 4 24 h 0 [some (.ref X), none, none, none] []
  refine ax_aload_n (pc := 0) G dX1_waiting_0 rfl rfl ?_
  refine ax_callV (pc := 1) (kb := 2) (nb := 12) G (cx_thereN hA hX) lVX1_79_0 dX1_waiting_1 (hX) rfl (by decide) (Nat.le_of_ble_eq_true rfl) rfl (fun _ e9 => by cases e9) (fun q9 e9 => ?_)
  cases e9
  exact ax_out G E (fun x hx => by cases hx)

theorem cq_sun_Y {Ω : ax_O} (hA : ax_Amb Ω) {h : ax_H} {a : Nat} {pl s : pR} {π : Nat → cP} {N V O A : Nat} {D : cD} (ha : Ω.2.1.heap.size ≤ a) (hp : pWP pl N V O) (hs : pWS s A) (hE : cEn h a pl s N V O A D) {X bf tr hi sv lb : Nat} {x1 x2 x3 : Int32} (hX : ∀ σ, (sH h a σ).1 X = some (.inr (0, [.ref bf, .int x1, .int x2, .int x3, .ref a, .ref tr, .ref hi, .ref sv, .ref lb]))) (t : Int32) (ht : ¬ t < 0)  : ax_Met Ω yX1_sun 20 4 24 [.ref X, .int t] (sH h a (s, π, (.ref (D.1 0)), (D.1 8))) (.inl (some (.int (cSun pl t)))) (sH h a (s, π, (.ref (D.1 0)), (D.1 8))) := by
  refine ax_met q1649 q113 (by decide +kernel) (by decide) hA (Nat.le_of_ble_eq_true rfl) (fun Γ G E => ?_)
  have hV9 := hp.lV
  have hA9 := hs.lA
  have hO9 := hp.lO
  show ax_W Ω Γ 4 24 (sH h a (s, π, (.ref (D.1 0)), (D.1 8))) 0 [some (.ref X), some (.int t)] []
  refine ax_aload_n (pc := 0) G dX1_sun_0 rfl rfl ?_
  refine ax_cV1 (pc := 1) (kb := 2) (nb := 12) G (cx_thereY hA (π := π) ha hp hs hE hX) lVX1_79_0 dX1_sun_1 (hX _) rfl (by decide) (Nat.le_of_ble_eq_true rfl) rfl ?_
  refine ax_pop (pc := 4) G dX1_sun_4 rfl ?_
  refine ax_iload_n (pc := 5) G dX1_sun_5 rfl rfl ?_
  refine ax_if_lt (pc := 6) (tgt := 13) G dX1_sun_6 rfl (fun c9 => absurd c9 ht) (fun _ => ?_)
  refine ax_iconst (pc := 9) (v := nI 1) G dX1_sun_9 ic_1 ?_
  refine ax_goto (pc := 10) (tgt := 14) G dX1_sun_10 rfl ?_
  refine ax_cS0 (pc := 14) (kb := 1) (nb := 6) G (ct_argY hA) lSX1_144 dX1_sun_14 rfl (by decide) (Nat.le_of_ble_eq_true rfl) rfl ?_
  refine ax_aload_n (pc := 17) G dX1_sun_17 rfl rfl ?_
  refine ax_getf (pc := 18) (v := .ref a) G flX1_72_0 dX1_sun_18 (hX _) rfl ?_
  refine sr_get (pc := 21) (v := .ref (D.1 0)) G flX1_83_1 dX1_sun_21 rfl ?_
  refine ax_iload_n (pc := 24) G dX1_sun_24 rfl rfl ?_
  refine ax_cV1 (pc := 25) (kb := 1) (nb := 6) G (ct_sunAt hA hp ((hE (s, π, (.ref (D.1 0)), (D.1 8))).1) t) lVX1_289_10 dX1_sun_25 (((hE (s, π, (.ref (D.1 0)), (D.1 8))).1).1) rfl (by decide) (Nat.le_of_ble_eq_true rfl) rfl ?_
  exact ax_iretE (pc := 28) G E rfl (rfl) dX1_sun_28 (rfl) (rfl)

theorem cq_sun_N {Ω : ax_O} (hA : ax_Amb Ω) {h : ax_H} {X bf tr hi sv lb : Nat} {x1 x2 x3 : Int32} (hX : h.1 X = some (.inr (0, [.ref bf, .int x1, .int x2, .int x3, .null, .ref tr, .ref hi, .ref sv, .ref lb]))) (t : Int32)  : ax_Met Ω yX1_sun 20 4 24 [.ref X, .int t] h (.inr h.2) (ax_add h (.inr (21, []))) := by
  refine ax_met q1649 q113 (by decide +kernel) (by decide) hA (Nat.le_of_ble_eq_true rfl) (fun Γ G E => ?_)
  show ax_W Ω Γ 4 24 h 0 [some (.ref X), some (.int t)] []
  refine ax_aload_n (pc := 0) G dX1_sun_0 rfl rfl ?_
  refine ax_callV (pc := 1) (kb := 2) (nb := 12) G (cx_thereN hA hX) lVX1_79_0 dX1_sun_1 (hX) rfl (by decide) (Nat.le_of_ble_eq_true rfl) rfl (fun _ e9 => by cases e9) (fun q9 e9 => ?_)
  cases e9
  exact ax_out G E (fun x hx => by cases hx)

theorem cq_sun_B {Ω : ax_O} (hA : ax_Amb Ω) {h : ax_H} {a : Nat} {pl s : pR} {π : Nat → cP} {N V O A : Nat} {D : cD} (ha : Ω.2.1.heap.size ≤ a) (hp : pWP pl N V O) (hs : pWS s A) (hE : cEn h a pl s N V O A D) {X bf tr hi sv lb : Nat} {x1 x2 x3 : Int32} (hX : ∀ σ, (sH h a σ).1 X = some (.inr (0, [.ref bf, .int x1, .int x2, .int x3, .ref a, .ref tr, .ref hi, .ref sv, .ref lb]))) (t : Int32) (hb : t < 0)  : ax_Met Ω yX1_sun 20 4 24 [.ref X, .int t] (sH h a (s, π, (.ref (D.1 0)), (D.1 8))) (.inr (sH h a (s, π, (.ref (D.1 0)), (D.1 8))).2) (ax_add (sH h a (s, π, (.ref (D.1 0)), (D.1 8))) (.inr (20, []))) := by
  refine ax_met q1649 q113 (by decide +kernel) (by decide) hA (Nat.le_of_ble_eq_true rfl) (fun Γ G E => ?_)
  have hV9 := hp.lV
  have hA9 := hs.lA
  have hO9 := hp.lO
  show ax_W Ω Γ 4 24 (sH h a (s, π, (.ref (D.1 0)), (D.1 8))) 0 [some (.ref X), some (.int t)] []
  refine ax_aload_n (pc := 0) G dX1_sun_0 rfl rfl ?_
  refine ax_cV1 (pc := 1) (kb := 2) (nb := 12) G (cx_thereY hA (π := π) ha hp hs hE hX) lVX1_79_0 dX1_sun_1 (hX _) rfl (by decide) (Nat.le_of_ble_eq_true rfl) rfl ?_
  refine ax_pop (pc := 4) G dX1_sun_4 rfl ?_
  refine ax_iload_n (pc := 5) G dX1_sun_5 rfl rfl ?_
  refine ax_if_lt (pc := 6) (tgt := 13) G dX1_sun_6 rfl (fun _ => ?_) (fun c9 => absurd hb c9)
  refine ax_iconst (pc := 13) (v := nI 0) G dX1_sun_13 ic_0 ?_
  refine ax_callS (pc := 14) (kb := 1) (nb := 6) G (ct_argN hA) lSX1_144 dX1_sun_14 rfl (by decide) (Nat.le_of_ble_eq_true rfl) rfl (fun _ e9 => by cases e9) (fun q9 e9 => ?_)
  cases e9
  exact ax_out G E (fun x hx => by cases hx)

theorem cq_angleTo_Y {Ω : ax_O} (hA : ax_Amb Ω) {h : ax_H} {a : Nat} {pl s : pR} {π : Nat → cP} {N V O A : Nat} {D : cD} (ha : Ω.2.1.heap.size ≤ a) (hp : pWP pl N V O) (hs : pWS s A) (hE : cEn h a pl s N V O A D) {X bf tr hi sv lb : Nat} {x1 x2 x3 : Int32} (hX : ∀ σ, (sH h a σ).1 X = some (.inr (0, [.ref bf, .int x1, .int x2, .int x3, .ref a, .ref tr, .ref hi, .ref sv, .ref lb]))) (lon lat : Int32) (h1 : (pIn lon (nI 0) (nI 359) && pIn lat (-90) (nI 90)) = true)  : ax_Met Ω yX1_angleTo 20 4 24 [.ref X, .int lon, .int lat] (sH h a (s, π, (.ref (D.1 0)), (D.1 8))) (.inl (some (.int (iMax (cAr lon (s 1)) (iAbs (lat - s 2)))))) (sH h a (s, π, (.ref (D.1 0)), (D.1 8))) := by
  refine ax_met q1660 q113 (by decide +kernel) (by decide) hA (Nat.le_of_ble_eq_true rfl) (fun Γ G E => ?_)
  have hV9 := hp.lV
  have hA9 := hs.lA
  have hO9 := hp.lO
  show ax_W Ω Γ 4 24 (sH h a (s, π, (.ref (D.1 0)), (D.1 8))) 0 [some (.ref X), some (.int lon), some (.int lat)] []
  refine ax_aload_n (pc := 0) G dX1_angleTo_0 rfl rfl ?_
  refine ax_cV1 (pc := 1) (kb := 2) (nb := 12) G (cx_thereY hA (π := π) ha hp hs hE hX) lVX1_79_0 dX1_angleTo_1 (hX _) rfl (by decide) (Nat.le_of_ble_eq_true rfl) rfl ?_
  refine ax_pop (pc := 4) G dX1_angleTo_4 rfl ?_
  refine ax_iload_n (pc := 5) G dX1_angleTo_5 rfl rfl ?_
  refine ax_iload_n (pc := 6) G dX1_angleTo_6 rfl rfl ?_
  refine ax_cS1 (pc := 7) (kb := 2) (nb := 12) G (cx_pointing hA lon lat) lSX1_306 dX1_angleTo_7 rfl (by decide) (Nat.le_of_ble_eq_true rfl) rfl ?_
  refine ax_cS0 (pc := 10) (kb := 1) (nb := 6) G (ct_argYb hA (B := (pIn lon (nI 0) (nI 359) && pIn lat (-90) (nI 90))) (h1)) lSX1_144 dX1_angleTo_10 rfl (by decide) (Nat.le_of_ble_eq_true rfl) rfl ?_
  refine ax_aload_n (pc := 13) G dX1_angleTo_13 rfl rfl ?_
  refine ax_iload_n (pc := 14) G dX1_angleTo_14 rfl rfl ?_
  refine ax_iload_n (pc := 15) G dX1_angleTo_15 rfl rfl ?_
  refine ax_cV1 (pc := 16) (kb := 1) (nb := 6) G (cx_angle hA (π := π) ha hp hs hE hX lon lat) lVX1_310_0 dX1_angleTo_16 (hX _) rfl (by decide) (Nat.le_of_ble_eq_true rfl) rfl ?_
  exact ax_iretE (pc := 19) G E rfl (rfl) dX1_angleTo_19 (rfl) (rfl)

theorem cq_angleTo_N {Ω : ax_O} (hA : ax_Amb Ω) {h : ax_H} {X bf tr hi sv lb : Nat} {x1 x2 x3 : Int32} (hX : h.1 X = some (.inr (0, [.ref bf, .int x1, .int x2, .int x3, .null, .ref tr, .ref hi, .ref sv, .ref lb]))) (lon : Int32) (lat : Int32)  : ax_Met Ω yX1_angleTo 20 4 24 [.ref X, .int lon, .int lat] h (.inr h.2) (ax_add h (.inr (21, []))) := by
  refine ax_met q1660 q113 (by decide +kernel) (by decide) hA (Nat.le_of_ble_eq_true rfl) (fun Γ G E => ?_)
  show ax_W Ω Γ 4 24 h 0 [some (.ref X), some (.int lon), some (.int lat)] []
  refine ax_aload_n (pc := 0) G dX1_angleTo_0 rfl rfl ?_
  refine ax_callV (pc := 1) (kb := 2) (nb := 12) G (cx_thereN hA hX) lVX1_79_0 dX1_angleTo_1 (hX) rfl (by decide) (Nat.le_of_ble_eq_true rfl) rfl (fun _ e9 => by cases e9) (fun q9 e9 => ?_)
  cases e9
  exact ax_out G E (fun x hx => by cases hx)

theorem cq_angleTo_B {Ω : ax_O} (hA : ax_Amb Ω) {h : ax_H} {a : Nat} {pl s : pR} {π : Nat → cP} {N V O A : Nat} {D : cD} (ha : Ω.2.1.heap.size ≤ a) (hp : pWP pl N V O) (hs : pWS s A) (hE : cEn h a pl s N V O A D) {X bf tr hi sv lb : Nat} {x1 x2 x3 : Int32} (hX : ∀ σ, (sH h a σ).1 X = some (.inr (0, [.ref bf, .int x1, .int x2, .int x3, .ref a, .ref tr, .ref hi, .ref sv, .ref lb]))) (lon lat : Int32) (hb : (pIn lon (nI 0) (nI 359) && pIn lat (-90) (nI 90)) = false)  : ax_Met Ω yX1_angleTo 20 4 24 [.ref X, .int lon, .int lat] (sH h a (s, π, (.ref (D.1 0)), (D.1 8))) (.inr (sH h a (s, π, (.ref (D.1 0)), (D.1 8))).2) (ax_add (sH h a (s, π, (.ref (D.1 0)), (D.1 8))) (.inr (20, []))) := by
  refine ax_met q1660 q113 (by decide +kernel) (by decide) hA (Nat.le_of_ble_eq_true rfl) (fun Γ G E => ?_)
  have hV9 := hp.lV
  have hA9 := hs.lA
  have hO9 := hp.lO
  show ax_W Ω Γ 4 24 (sH h a (s, π, (.ref (D.1 0)), (D.1 8))) 0 [some (.ref X), some (.int lon), some (.int lat)] []
  refine ax_aload_n (pc := 0) G dX1_angleTo_0 rfl rfl ?_
  refine ax_cV1 (pc := 1) (kb := 2) (nb := 12) G (cx_thereY hA (π := π) ha hp hs hE hX) lVX1_79_0 dX1_angleTo_1 (hX _) rfl (by decide) (Nat.le_of_ble_eq_true rfl) rfl ?_
  refine ax_pop (pc := 4) G dX1_angleTo_4 rfl ?_
  refine ax_iload_n (pc := 5) G dX1_angleTo_5 rfl rfl ?_
  refine ax_iload_n (pc := 6) G dX1_angleTo_6 rfl rfl ?_
  refine ax_cS1 (pc := 7) (kb := 2) (nb := 12) G (cx_pointing hA lon lat) lSX1_306 dX1_angleTo_7 rfl (by decide) (Nat.le_of_ble_eq_true rfl) rfl ?_
  refine ax_callS (pc := 10) (kb := 1) (nb := 6) G (ct_argNb hA (B := (pIn lon (nI 0) (nI 359) && pIn lat (-90) (nI 90))) (hb)) lSX1_144 dX1_angleTo_10 rfl (by decide) (Nat.le_of_ble_eq_true rfl) rfl (fun _ e9 => by cases e9) (fun q9 e9 => ?_)
  cases e9
  exact ax_out G E (fun x hx => by cases hx)

theorem cq_slewTo_Y {Ω : ax_O} (hA : ax_Amb Ω) {h : ax_H} {a : Nat} {pl s : pR} {π : Nat → cP} {N V O A : Nat} {D : cD} (ha : Ω.2.1.heap.size ≤ a) (hp : pWP pl N V O) (hs : pWS s A) (hE : cEn h a pl s N V O A D) {X bf tr hi sv lb : Nat} {x1 x2 x3 : Int32} (hX : ∀ σ, (sH h a σ).1 X = some (.inr (0, [.ref bf, .int x1, .int x2, .int x3, .ref a, .ref tr, .ref hi, .ref sv, .ref lb]))) (lon lat : Int32) (h1 : (pIn lon (nI 0) (nI 359) && pIn lat (-90) (nI 90)) = true)  : ax_Met Ω yX1_slewTo 20 4 24 [.ref X, .int lon, .int lat] (sH h a (s, π, (.ref (D.1 0)), (D.1 8))) (.inl (some (.int (cSlew pl (iMax (cAr lon (s 1)) (iAbs (lat - s 2))))))) (sH h a (s, π, (.ref (D.1 0)), (D.1 8))) := by
  refine ax_met q1688 q113 (by decide +kernel) (by decide) hA (Nat.le_of_ble_eq_true rfl) (fun Γ G E => ?_)
  have hV9 := hp.lV
  have hA9 := hs.lA
  have hO9 := hp.lO
  show ax_W Ω Γ 4 24 (sH h a (s, π, (.ref (D.1 0)), (D.1 8))) 0 [some (.ref X), some (.int lon), some (.int lat)] []
  refine ax_aload_n (pc := 0) G dX1_slewTo_0 rfl rfl ?_
  refine ax_cV1 (pc := 1) (kb := 2) (nb := 12) G (cx_thereY hA (π := π) ha hp hs hE hX) lVX1_79_0 dX1_slewTo_1 (hX _) rfl (by decide) (Nat.le_of_ble_eq_true rfl) rfl ?_
  refine ax_pop (pc := 4) G dX1_slewTo_4 rfl ?_
  refine ax_iload_n (pc := 5) G dX1_slewTo_5 rfl rfl ?_
  refine ax_iload_n (pc := 6) G dX1_slewTo_6 rfl rfl ?_
  refine ax_cS1 (pc := 7) (kb := 2) (nb := 12) G (cx_pointing hA lon lat) lSX1_306 dX1_slewTo_7 rfl (by decide) (Nat.le_of_ble_eq_true rfl) rfl ?_
  refine ax_cS0 (pc := 10) (kb := 1) (nb := 6) G (ct_argYb hA (B := (pIn lon (nI 0) (nI 359) && pIn lat (-90) (nI 90))) (h1)) lSX1_144 dX1_slewTo_10 rfl (by decide) (Nat.le_of_ble_eq_true rfl) rfl ?_
  refine ax_aload_n (pc := 13) G dX1_slewTo_13 rfl rfl ?_
  refine ax_getf (pc := 14) (v := .ref a) G flX1_72_0 dX1_slewTo_14 (hX _) rfl ?_
  refine sr_get (pc := 17) (v := .ref (D.1 0)) G flX1_83_1 dX1_slewTo_17 rfl ?_
  refine ax_aload_n (pc := 20) G dX1_slewTo_20 rfl rfl ?_
  refine ax_iload_n (pc := 21) G dX1_slewTo_21 rfl rfl ?_
  refine ax_iload_n (pc := 22) G dX1_slewTo_22 rfl rfl ?_
  refine ax_cV1 (pc := 23) (kb := 1) (nb := 6) G (cx_angle hA (π := π) ha hp hs hE hX lon lat) lVX1_310_0 dX1_slewTo_23 (hX _) rfl (by decide) (Nat.le_of_ble_eq_true rfl) rfl ?_
  refine ax_cV1 (pc := 26) (kb := 1) (nb := 6) G (ct_slew hA hp ((hE (s, π, (.ref (D.1 0)), (D.1 8))).1) (iMax (cAr lon (s 1)) (iAbs (lat - s 2)))) lVX1_313_10 dX1_slewTo_26 (((hE (s, π, (.ref (D.1 0)), (D.1 8))).1).1) rfl (by decide) (Nat.le_of_ble_eq_true rfl) rfl ?_
  exact ax_iretE (pc := 29) G E rfl (rfl) dX1_slewTo_29 (rfl) (rfl)

theorem cq_slewTo_N {Ω : ax_O} (hA : ax_Amb Ω) {h : ax_H} {X bf tr hi sv lb : Nat} {x1 x2 x3 : Int32} (hX : h.1 X = some (.inr (0, [.ref bf, .int x1, .int x2, .int x3, .null, .ref tr, .ref hi, .ref sv, .ref lb]))) (lon : Int32) (lat : Int32)  : ax_Met Ω yX1_slewTo 20 4 24 [.ref X, .int lon, .int lat] h (.inr h.2) (ax_add h (.inr (21, []))) := by
  refine ax_met q1688 q113 (by decide +kernel) (by decide) hA (Nat.le_of_ble_eq_true rfl) (fun Γ G E => ?_)
  show ax_W Ω Γ 4 24 h 0 [some (.ref X), some (.int lon), some (.int lat)] []
  refine ax_aload_n (pc := 0) G dX1_slewTo_0 rfl rfl ?_
  refine ax_callV (pc := 1) (kb := 2) (nb := 12) G (cx_thereN hA hX) lVX1_79_0 dX1_slewTo_1 (hX) rfl (by decide) (Nat.le_of_ble_eq_true rfl) rfl (fun _ e9 => by cases e9) (fun q9 e9 => ?_)
  cases e9
  exact ax_out G E (fun x hx => by cases hx)

theorem cq_slewTo_B {Ω : ax_O} (hA : ax_Amb Ω) {h : ax_H} {a : Nat} {pl s : pR} {π : Nat → cP} {N V O A : Nat} {D : cD} (ha : Ω.2.1.heap.size ≤ a) (hp : pWP pl N V O) (hs : pWS s A) (hE : cEn h a pl s N V O A D) {X bf tr hi sv lb : Nat} {x1 x2 x3 : Int32} (hX : ∀ σ, (sH h a σ).1 X = some (.inr (0, [.ref bf, .int x1, .int x2, .int x3, .ref a, .ref tr, .ref hi, .ref sv, .ref lb]))) (lon lat : Int32) (hb : (pIn lon (nI 0) (nI 359) && pIn lat (-90) (nI 90)) = false)  : ax_Met Ω yX1_slewTo 20 4 24 [.ref X, .int lon, .int lat] (sH h a (s, π, (.ref (D.1 0)), (D.1 8))) (.inr (sH h a (s, π, (.ref (D.1 0)), (D.1 8))).2) (ax_add (sH h a (s, π, (.ref (D.1 0)), (D.1 8))) (.inr (20, []))) := by
  refine ax_met q1688 q113 (by decide +kernel) (by decide) hA (Nat.le_of_ble_eq_true rfl) (fun Γ G E => ?_)
  have hV9 := hp.lV
  have hA9 := hs.lA
  have hO9 := hp.lO
  show ax_W Ω Γ 4 24 (sH h a (s, π, (.ref (D.1 0)), (D.1 8))) 0 [some (.ref X), some (.int lon), some (.int lat)] []
  refine ax_aload_n (pc := 0) G dX1_slewTo_0 rfl rfl ?_
  refine ax_cV1 (pc := 1) (kb := 2) (nb := 12) G (cx_thereY hA (π := π) ha hp hs hE hX) lVX1_79_0 dX1_slewTo_1 (hX _) rfl (by decide) (Nat.le_of_ble_eq_true rfl) rfl ?_
  refine ax_pop (pc := 4) G dX1_slewTo_4 rfl ?_
  refine ax_iload_n (pc := 5) G dX1_slewTo_5 rfl rfl ?_
  refine ax_iload_n (pc := 6) G dX1_slewTo_6 rfl rfl ?_
  refine ax_cS1 (pc := 7) (kb := 2) (nb := 12) G (cx_pointing hA lon lat) lSX1_306 dX1_slewTo_7 rfl (by decide) (Nat.le_of_ble_eq_true rfl) rfl ?_
  refine ax_callS (pc := 10) (kb := 1) (nb := 6) G (ct_argNb hA (B := (pIn lon (nI 0) (nI 359) && pIn lat (-90) (nI 90))) (hb)) lSX1_144 dX1_slewTo_10 rfl (by decide) (Nat.le_of_ble_eq_true rfl) rfl (fun _ e9 => by cases e9) (fun q9 e9 => ?_)
  cases e9
  exact ax_out G E (fun x hx => by cases hx)

theorem cq_isVisible_Y {Ω : ax_O} (hA : ax_Amb Ω) {h : ax_H} {a : Nat} {pl s : pR} {π : Nat → cP} {N V O A : Nat} {D : cD} (ha : Ω.2.1.heap.size ≤ a) (hp : pWP pl N V O) (hs : pWS s A) (hE : cEn h a pl s N V O A D) {X bf tr hi sv lb : Nat} {x1 x2 x3 : Int32} (hX : ∀ σ, (sH h a σ).1 X = some (.inr (0, [.ref bf, .int x1, .int x2, .int x3, .ref a, .ref tr, .ref hi, .ref sv, .ref lb]))) (lon t : Int32) (h1 : pIn lon (nI 0) (nI 359) = true) (ht : ¬ t < 0)  : ax_Met Ω yX1_isVisible 20 4 24 [.ref X, .int lon, .int t] (sH h a (s, π, (.ref (D.1 0)), (D.1 8))) (.inl (some (.int (bI (cVis pl lon t))))) (sH h a (s, π, (.ref (D.1 0)), (D.1 8))) := by
  refine ax_met q1699 q113 (by decide +kernel) (by decide) hA (Nat.le_of_ble_eq_true rfl) (fun Γ G E => ?_)
  have hV9 := hp.lV
  have hA9 := hs.lA
  have hO9 := hp.lO
  show ax_W Ω Γ 4 24 (sH h a (s, π, (.ref (D.1 0)), (D.1 8))) 0 [some (.ref X), some (.int lon), some (.int t)] []
  refine ax_aload_n (pc := 0) G dX1_isVisible_0 rfl rfl ?_
  refine ax_cV1 (pc := 1) (kb := 2) (nb := 12) G (cx_thereY hA (π := π) ha hp hs hE hX) lVX1_79_0 dX1_isVisible_1 (hX _) rfl (by decide) (Nat.le_of_ble_eq_true rfl) rfl ?_
  refine ax_pop (pc := 4) G dX1_isVisible_4 rfl ?_
  refine ax_iload_n (pc := 5) G dX1_isVisible_5 rfl rfl ?_
  refine ax_iconst (pc := 6) (v := nI 0) G dX1_isVisible_6 ic_0 ?_
  refine ax_cS1 (pc := 7) (kb := 2) (nb := 12) G (cx_pointing hA lon (nI 0)) lSX1_306 dX1_isVisible_7 rfl (by decide) (Nat.le_of_ble_eq_true rfl) rfl ?_
  refine ax_if_eq (pc := 10) (tgt := 21) G dX1_isVisible_10 rfl (fun c9 => absurd c9 (by rw [h1]; decide)) (fun _ => ?_)
  refine ax_iload_n (pc := 13) G dX1_isVisible_13 rfl rfl ?_
  refine ax_if_lt (pc := 14) (tgt := 21) G dX1_isVisible_14 rfl (fun c9 => absurd c9 ht) (fun _ => ?_)
  refine ax_iconst (pc := 17) (v := nI 1) G dX1_isVisible_17 ic_1 ?_
  refine ax_goto (pc := 18) (tgt := 22) G dX1_isVisible_18 rfl ?_
  refine ax_cS0 (pc := 22) (kb := 1) (nb := 6) G (ct_argY hA) lSX1_144 dX1_isVisible_22 rfl (by decide) (Nat.le_of_ble_eq_true rfl) rfl ?_
  refine ax_aload_n (pc := 25) G dX1_isVisible_25 rfl rfl ?_
  refine ax_getf (pc := 26) (v := .ref a) G flX1_72_0 dX1_isVisible_26 (hX _) rfl ?_
  refine sr_get (pc := 29) (v := .ref (D.1 0)) G flX1_83_1 dX1_isVisible_29 rfl ?_
  refine ax_iload_n (pc := 32) G dX1_isVisible_32 rfl rfl ?_
  refine ax_iload_n (pc := 33) G dX1_isVisible_33 rfl rfl ?_
  refine ax_cV1 (pc := 34) (kb := 1) (nb := 6) G (ct_isVisible hA hp ((hE (s, π, (.ref (D.1 0)), (D.1 8))).1) lon t) lVX1_316_10 dX1_isVisible_34 (((hE (s, π, (.ref (D.1 0)), (D.1 8))).1).1) rfl (by decide) (Nat.le_of_ble_eq_true rfl) rfl ?_
  exact ax_iretE (pc := 37) G E rfl (nz_bI _) dX1_isVisible_37 (rfl) (rfl)

theorem cq_isVisible_N {Ω : ax_O} (hA : ax_Amb Ω) {h : ax_H} {X bf tr hi sv lb : Nat} {x1 x2 x3 : Int32} (hX : h.1 X = some (.inr (0, [.ref bf, .int x1, .int x2, .int x3, .null, .ref tr, .ref hi, .ref sv, .ref lb]))) (lon : Int32) (t : Int32)  : ax_Met Ω yX1_isVisible 20 4 24 [.ref X, .int lon, .int t] h (.inr h.2) (ax_add h (.inr (21, []))) := by
  refine ax_met q1699 q113 (by decide +kernel) (by decide) hA (Nat.le_of_ble_eq_true rfl) (fun Γ G E => ?_)
  show ax_W Ω Γ 4 24 h 0 [some (.ref X), some (.int lon), some (.int t)] []
  refine ax_aload_n (pc := 0) G dX1_isVisible_0 rfl rfl ?_
  refine ax_callV (pc := 1) (kb := 2) (nb := 12) G (cx_thereN hA hX) lVX1_79_0 dX1_isVisible_1 (hX) rfl (by decide) (Nat.le_of_ble_eq_true rfl) rfl (fun _ e9 => by cases e9) (fun q9 e9 => ?_)
  cases e9
  exact ax_out G E (fun x hx => by cases hx)

theorem cq_isVisible_B {Ω : ax_O} (hA : ax_Amb Ω) {h : ax_H} {a : Nat} {pl s : pR} {π : Nat → cP} {N V O A : Nat} {D : cD} (ha : Ω.2.1.heap.size ≤ a) (hp : pWP pl N V O) (hs : pWS s A) (hE : cEn h a pl s N V O A D) {X bf tr hi sv lb : Nat} {x1 x2 x3 : Int32} (hX : ∀ σ, (sH h a σ).1 X = some (.inr (0, [.ref bf, .int x1, .int x2, .int x3, .ref a, .ref tr, .ref hi, .ref sv, .ref lb]))) (lon t : Int32) (hb : pIn lon (nI 0) (nI 359) = false)  : ax_Met Ω yX1_isVisible 20 4 24 [.ref X, .int lon, .int t] (sH h a (s, π, (.ref (D.1 0)), (D.1 8))) (.inr (sH h a (s, π, (.ref (D.1 0)), (D.1 8))).2) (ax_add (sH h a (s, π, (.ref (D.1 0)), (D.1 8))) (.inr (20, []))) := by
  refine ax_met q1699 q113 (by decide +kernel) (by decide) hA (Nat.le_of_ble_eq_true rfl) (fun Γ G E => ?_)
  have hV9 := hp.lV
  have hA9 := hs.lA
  have hO9 := hp.lO
  show ax_W Ω Γ 4 24 (sH h a (s, π, (.ref (D.1 0)), (D.1 8))) 0 [some (.ref X), some (.int lon), some (.int t)] []
  refine ax_aload_n (pc := 0) G dX1_isVisible_0 rfl rfl ?_
  refine ax_cV1 (pc := 1) (kb := 2) (nb := 12) G (cx_thereY hA (π := π) ha hp hs hE hX) lVX1_79_0 dX1_isVisible_1 (hX _) rfl (by decide) (Nat.le_of_ble_eq_true rfl) rfl ?_
  refine ax_pop (pc := 4) G dX1_isVisible_4 rfl ?_
  refine ax_iload_n (pc := 5) G dX1_isVisible_5 rfl rfl ?_
  refine ax_iconst (pc := 6) (v := nI 0) G dX1_isVisible_6 ic_0 ?_
  refine ax_cS1 (pc := 7) (kb := 2) (nb := 12) G (cx_pointing hA lon (nI 0)) lSX1_306 dX1_isVisible_7 rfl (by decide) (Nat.le_of_ble_eq_true rfl) rfl ?_
  refine ax_if_eq (pc := 10) (tgt := 21) G dX1_isVisible_10 rfl (fun _ => ?_) (fun c9 => absurd (by rw [hb]; rfl) c9)
  refine ax_iconst (pc := 21) (v := nI 0) G dX1_isVisible_21 ic_0 ?_
  refine ax_callS (pc := 22) (kb := 1) (nb := 6) G (ct_argN hA) lSX1_144 dX1_isVisible_22 rfl (by decide) (Nat.le_of_ble_eq_true rfl) rfl (fun _ e9 => by cases e9) (fun q9 e9 => ?_)
  cases e9
  exact ax_out G E (fun x hx => by cases hx)

theorem cq_isVisible_B2 {Ω : ax_O} (hA : ax_Amb Ω) {h : ax_H} {a : Nat} {pl s : pR} {π : Nat → cP} {N V O A : Nat} {D : cD} (ha : Ω.2.1.heap.size ≤ a) (hp : pWP pl N V O) (hs : pWS s A) (hE : cEn h a pl s N V O A D) {X bf tr hi sv lb : Nat} {x1 x2 x3 : Int32} (hX : ∀ σ, (sH h a σ).1 X = some (.inr (0, [.ref bf, .int x1, .int x2, .int x3, .ref a, .ref tr, .ref hi, .ref sv, .ref lb]))) (lon t : Int32) (h1 : pIn lon (nI 0) (nI 359) = true) (hb : t < 0)  : ax_Met Ω yX1_isVisible 20 4 24 [.ref X, .int lon, .int t] (sH h a (s, π, (.ref (D.1 0)), (D.1 8))) (.inr (sH h a (s, π, (.ref (D.1 0)), (D.1 8))).2) (ax_add (sH h a (s, π, (.ref (D.1 0)), (D.1 8))) (.inr (20, []))) := by
  refine ax_met q1699 q113 (by decide +kernel) (by decide) hA (Nat.le_of_ble_eq_true rfl) (fun Γ G E => ?_)
  have hV9 := hp.lV
  have hA9 := hs.lA
  have hO9 := hp.lO
  show ax_W Ω Γ 4 24 (sH h a (s, π, (.ref (D.1 0)), (D.1 8))) 0 [some (.ref X), some (.int lon), some (.int t)] []
  refine ax_aload_n (pc := 0) G dX1_isVisible_0 rfl rfl ?_
  refine ax_cV1 (pc := 1) (kb := 2) (nb := 12) G (cx_thereY hA (π := π) ha hp hs hE hX) lVX1_79_0 dX1_isVisible_1 (hX _) rfl (by decide) (Nat.le_of_ble_eq_true rfl) rfl ?_
  refine ax_pop (pc := 4) G dX1_isVisible_4 rfl ?_
  refine ax_iload_n (pc := 5) G dX1_isVisible_5 rfl rfl ?_
  refine ax_iconst (pc := 6) (v := nI 0) G dX1_isVisible_6 ic_0 ?_
  refine ax_cS1 (pc := 7) (kb := 2) (nb := 12) G (cx_pointing hA lon (nI 0)) lSX1_306 dX1_isVisible_7 rfl (by decide) (Nat.le_of_ble_eq_true rfl) rfl ?_
  refine ax_if_eq (pc := 10) (tgt := 21) G dX1_isVisible_10 rfl (fun c9 => absurd c9 (by rw [h1]; decide)) (fun _ => ?_)
  refine ax_iload_n (pc := 13) G dX1_isVisible_13 rfl rfl ?_
  refine ax_if_lt (pc := 14) (tgt := 21) G dX1_isVisible_14 rfl (fun _ => ?_) (fun c9 => absurd hb c9)
  refine ax_iconst (pc := 21) (v := nI 0) G dX1_isVisible_21 ic_0 ?_
  refine ax_callS (pc := 22) (kb := 1) (nb := 6) G (ct_argN hA) lSX1_144 dX1_isVisible_22 rfl (by decide) (Nat.le_of_ble_eq_true rfl) rfl (fun _ e9 => by cases e9) (fun q9 e9 => ?_)
  cases e9
  exact ax_out G E (fun x hx => by cases hx)

theorem cq_nextVisible_Y {Ω : ax_O} (hA : ax_Amb Ω) {h : ax_H} {a : Nat} {pl s : pR} {π : Nat → cP} {N V O A : Nat} {D : cD} (ha : Ω.2.1.heap.size ≤ a) (hp : pWP pl N V O) (hs : pWS s A) (hE : cEn h a pl s N V O A D) {X bf tr hi sv lb : Nat} {x1 x2 x3 : Int32} (hX : ∀ σ, (sH h a σ).1 X = some (.inr (0, [.ref bf, .int x1, .int x2, .int x3, .ref a, .ref tr, .ref hi, .ref sv, .ref lb]))) {H : Nat} (hH : pl 0 = nI H) (hH2 : H ≤ 2000) (lon : Int32) (h1 : pIn lon (nI 0) (nI 359) = true) (f : Nat) (hf : f ≤ H)  : ax_Met Ω yX1_nextVisible 20 4 24 [.ref X, .int lon, .int (nI f)] (sH h a (s, π, (.ref (D.1 0)), (D.1 8))) (.inl (some (.int (cNext pl lon (H + 1 - f) f)))) (sH h a (s, π, (.ref (D.1 0)), (D.1 8))) := by
  refine ax_met q1712 q113 (by decide +kernel) (by decide) hA (Nat.le_of_ble_eq_true rfl) (fun Γ G E => ?_)
  have hV9 := hp.lV
  have hA9 := hs.lA
  have hO9 := hp.lO
  have L0 : ∀ (n i : Nat), i + n = H + 1 → cNext pl lon n i = cNext pl lon (H + 1 - f) f → ax_W Ω Γ 1 6 (sH h a (s, π, (.ref (D.1 0)), (D.1 8))) 43 [some (.ref X), some (.int lon), some (.int (nI f)), some (.int (nI i))] [] := by
    intro n
    induction n with
    | zero =>
      intro i hi hv
      have hi9 : H + 1 = i := by omega
      subst hi9
      refine ax_iload_n (pc := 43) G dX1_nextVisible_43 rfl rfl ?_
      refine ax_aload_n (pc := 44) G dX1_nextVisible_44 rfl rfl ?_
      refine ax_getf (pc := 45) (v := .ref a) G flX1_72_0 dX1_nextVisible_45 (hX _) rfl ?_
      refine sr_get (pc := 48) (v := .ref (D.1 0)) G flX1_83_1 dX1_nextVisible_48 rfl ?_
      refine ax_getf (pc := 51) (v := .int (pl 0)) G flX1_256_10 dX1_nextVisible_51 (((hE (s, π, (.ref (D.1 0)), (D.1 8))).1).1) rfl ?_
      refine ax_top (show Value.int (pl 0) = .int (nI H) from congrArg Value.int (hH)) ?_
      refine ax_icmp_gtN (pc := 54) (tgt := 80) G dX1_nextVisible_54 rfl (by omega) (by omega) (fun c54 => ?_) (fun c54 => ?_)
      · refine ax_iconst (pc := 80) (v := (-1)) G dX1_nextVisible_80 (by decide) ?_
        exact ax_iretE (pc := 81) G E rfl (rfl) dX1_nextVisible_81 (by rw [← hv]; rfl) (rfl)
      · omega
    | succ n ih =>
      intro i hi hv
      refine ax_iload_n (pc := 43) G dX1_nextVisible_43 rfl rfl ?_
      refine ax_aload_n (pc := 44) G dX1_nextVisible_44 rfl rfl ?_
      refine ax_getf (pc := 45) (v := .ref a) G flX1_72_0 dX1_nextVisible_45 (hX _) rfl ?_
      refine sr_get (pc := 48) (v := .ref (D.1 0)) G flX1_83_1 dX1_nextVisible_48 rfl ?_
      refine ax_getf (pc := 51) (v := .int (pl 0)) G flX1_256_10 dX1_nextVisible_51 (((hE (s, π, (.ref (D.1 0)), (D.1 8))).1).1) rfl ?_
      refine ax_top (show Value.int (pl 0) = .int (nI H) from congrArg Value.int (hH)) ?_
      refine ax_icmp_gtN (pc := 54) (tgt := 80) G dX1_nextVisible_54 rfl (by omega) (by omega) (fun c54 => ?_) (fun c54 => ?_)
      · omega
      · refine ax_aload_n (pc := 57) G dX1_nextVisible_57 rfl rfl ?_
        refine ax_getf (pc := 58) (v := .ref a) G flX1_72_0 dX1_nextVisible_58 (hX _) rfl ?_
        refine sr_get (pc := 61) (v := .ref (D.1 0)) G flX1_83_1 dX1_nextVisible_61 rfl ?_
        refine ax_iload_n (pc := 64) G dX1_nextVisible_64 rfl rfl ?_
        refine ax_iload_n (pc := 65) G dX1_nextVisible_65 rfl rfl ?_
        refine ax_cV1 (pc := 66) (kb := 1) (nb := 6) G (ct_isVisible hA hp ((hE (s, π, (.ref (D.1 0)), (D.1 8))).1) lon (nI i)) lVX1_316_10 dX1_nextVisible_66 (((hE (s, π, (.ref (D.1 0)), (D.1 8))).1).1) rfl (by decide) (Nat.le_of_ble_eq_true rfl) rfl ?_
        refine ax_if_eq (pc := 69) (tgt := 74) G dX1_nextVisible_69 rfl (fun c69 => ?_) (fun c69 => ?_)
        · have c69b := bI_f c69
          refine ax_iincN (pc := 74) (n := 1) G dX1_nextVisible_74 rfl rfl ic_1 ?_
          refine ax_goto (pc := 77) (tgt := 43) G dX1_nextVisible_77 rfl ?_
          rw [cNext, if_neg (by rw [c69b]; decide)] at hv
          exact ih (i + 1) (by omega) hv
        · have c69b := bI_t c69
          refine ax_iload_n (pc := 72) G dX1_nextVisible_72 rfl rfl ?_
          exact ax_iretE (pc := 73) G E rfl (rfl) dX1_nextVisible_73 (by rw [← hv, cNext, if_pos c69b]) (rfl)
  show ax_W Ω Γ 4 24 (sH h a (s, π, (.ref (D.1 0)), (D.1 8))) 0 [some (.ref X), some (.int lon), some (.int (nI f)), none] []
  refine ax_aload_n (pc := 0) G dX1_nextVisible_0 rfl rfl ?_
  refine ax_cV1 (pc := 1) (kb := 2) (nb := 12) G (cx_thereY hA (π := π) ha hp hs hE hX) lVX1_79_0 dX1_nextVisible_1 (hX _) rfl (by decide) (Nat.le_of_ble_eq_true rfl) rfl ?_
  refine ax_pop (pc := 4) G dX1_nextVisible_4 rfl ?_
  refine ax_iload_n (pc := 5) G dX1_nextVisible_5 rfl rfl ?_
  refine ax_iconst (pc := 6) (v := nI 0) G dX1_nextVisible_6 ic_0 ?_
  refine ax_cS1 (pc := 7) (kb := 2) (nb := 12) G (cx_pointing hA lon (nI 0)) lSX1_306 dX1_nextVisible_7 rfl (by decide) (Nat.le_of_ble_eq_true rfl) rfl ?_
  refine ax_if_eq (pc := 10) (tgt := 37) G dX1_nextVisible_10 rfl (fun c9 => absurd c9 (by rw [h1]; decide)) (fun _ => ?_)
  refine ax_iload_n (pc := 13) G dX1_nextVisible_13 rfl rfl ?_
  refine ax_i2l (pc := 14) G dX1_nextVisible_14 rfl ?_
  refine ax_lconst (pc := 15) (v := 0) G dX1_nextVisible_15 rfl ?_
  refine ax_aload_n (pc := 16) G dX1_nextVisible_16 rfl rfl ?_
  refine ax_getf (pc := 17) (v := .ref a) G flX1_72_0 dX1_nextVisible_17 (hX _) rfl ?_
  refine sr_get (pc := 20) (v := .ref (D.1 0)) G flX1_83_1 dX1_nextVisible_20 rfl ?_
  refine ax_getf (pc := 23) (v := .int (pl 0)) G flX1_256_10 dX1_nextVisible_23 (((hE (s, π, (.ref (D.1 0)), (D.1 8))).1).1) rfl ?_
  refine ax_top (show Value.int (pl 0) = .int (nI H) from congrArg Value.int (hH)) ?_
  refine ax_i2l (pc := 26) G dX1_nextVisible_26 rfl ?_
  refine ax_cS1 (pc := 27) (kb := 2) (nb := 12) G (ct_in hA ((nI f).toInt64) 0 ((nI H).toInt64)) lSX1_62 dX1_nextVisible_27 rfl (by decide) (Nat.le_of_ble_eq_true rfl) rfl ?_
  rw [cIn_k (A := 0) (B := (nI H).toInt64) (a := (nI 0)) (b := (nI H)) (nI f) (by decide) rfl]
  refine ax_if_eq (pc := 30) (tgt := 37) G dX1_nextVisible_30 rfl (fun c9 => absurd c9 (by rw [px_y hf (by omega)]; decide)) (fun _ => ?_)
  refine ax_iconst (pc := 33) (v := nI 1) G dX1_nextVisible_33 ic_1 ?_
  refine ax_goto (pc := 34) (tgt := 38) G dX1_nextVisible_34 rfl ?_
  refine ax_cS0 (pc := 38) (kb := 1) (nb := 6) G (ct_argY hA) lSX1_144 dX1_nextVisible_38 rfl (by decide) (Nat.le_of_ble_eq_true rfl) rfl ?_
  refine ax_iload_n (pc := 41) G dX1_nextVisible_41 rfl rfl ?_
  refine ax_istore_n (pc := 42) G dX1_nextVisible_42 rfl (Nat.le_of_ble_eq_true rfl) rfl ?_
  exact L0 (H + 1 - f) f (by omega) rfl

theorem cq_nextVisible_N {Ω : ax_O} (hA : ax_Amb Ω) {h : ax_H} {X bf tr hi sv lb : Nat} {x1 x2 x3 : Int32} (hX : h.1 X = some (.inr (0, [.ref bf, .int x1, .int x2, .int x3, .null, .ref tr, .ref hi, .ref sv, .ref lb]))) (lon : Int32) (f : Int32)  : ax_Met Ω yX1_nextVisible 20 4 24 [.ref X, .int lon, .int f] h (.inr h.2) (ax_add h (.inr (21, []))) := by
  refine ax_met q1712 q113 (by decide +kernel) (by decide) hA (Nat.le_of_ble_eq_true rfl) (fun Γ G E => ?_)
  show ax_W Ω Γ 4 24 h 0 [some (.ref X), some (.int lon), some (.int f), none] []
  refine ax_aload_n (pc := 0) G dX1_nextVisible_0 rfl rfl ?_
  refine ax_callV (pc := 1) (kb := 2) (nb := 12) G (cx_thereN hA hX) lVX1_79_0 dX1_nextVisible_1 (hX) rfl (by decide) (Nat.le_of_ble_eq_true rfl) rfl (fun _ e9 => by cases e9) (fun q9 e9 => ?_)
  cases e9
  exact ax_out G E (fun x hx => by cases hx)

theorem cq_nextVisible_B {Ω : ax_O} (hA : ax_Amb Ω) {h : ax_H} {a : Nat} {pl s : pR} {π : Nat → cP} {N V O A : Nat} {D : cD} (ha : Ω.2.1.heap.size ≤ a) (hp : pWP pl N V O) (hs : pWS s A) (hE : cEn h a pl s N V O A D) {X bf tr hi sv lb : Nat} {x1 x2 x3 : Int32} (hX : ∀ σ, (sH h a σ).1 X = some (.inr (0, [.ref bf, .int x1, .int x2, .int x3, .ref a, .ref tr, .ref hi, .ref sv, .ref lb]))) (lon f : Int32) (hb : pIn lon (nI 0) (nI 359) = false)  : ax_Met Ω yX1_nextVisible 20 4 24 [.ref X, .int lon, .int f] (sH h a (s, π, (.ref (D.1 0)), (D.1 8))) (.inr (sH h a (s, π, (.ref (D.1 0)), (D.1 8))).2) (ax_add (sH h a (s, π, (.ref (D.1 0)), (D.1 8))) (.inr (20, []))) := by
  refine ax_met q1712 q113 (by decide +kernel) (by decide) hA (Nat.le_of_ble_eq_true rfl) (fun Γ G E => ?_)
  have hV9 := hp.lV
  have hA9 := hs.lA
  have hO9 := hp.lO
  show ax_W Ω Γ 4 24 (sH h a (s, π, (.ref (D.1 0)), (D.1 8))) 0 [some (.ref X), some (.int lon), some (.int f), none] []
  refine ax_aload_n (pc := 0) G dX1_nextVisible_0 rfl rfl ?_
  refine ax_cV1 (pc := 1) (kb := 2) (nb := 12) G (cx_thereY hA (π := π) ha hp hs hE hX) lVX1_79_0 dX1_nextVisible_1 (hX _) rfl (by decide) (Nat.le_of_ble_eq_true rfl) rfl ?_
  refine ax_pop (pc := 4) G dX1_nextVisible_4 rfl ?_
  refine ax_iload_n (pc := 5) G dX1_nextVisible_5 rfl rfl ?_
  refine ax_iconst (pc := 6) (v := nI 0) G dX1_nextVisible_6 ic_0 ?_
  refine ax_cS1 (pc := 7) (kb := 2) (nb := 12) G (cx_pointing hA lon (nI 0)) lSX1_306 dX1_nextVisible_7 rfl (by decide) (Nat.le_of_ble_eq_true rfl) rfl ?_
  refine ax_if_eq (pc := 10) (tgt := 37) G dX1_nextVisible_10 rfl (fun _ => ?_) (fun c9 => absurd (by rw [hb]; rfl) c9)
  refine ax_iconst (pc := 37) (v := nI 0) G dX1_nextVisible_37 ic_0 ?_
  refine ax_callS (pc := 38) (kb := 1) (nb := 6) G (ct_argN hA) lSX1_144 dX1_nextVisible_38 rfl (by decide) (Nat.le_of_ble_eq_true rfl) rfl (fun _ e9 => by cases e9) (fun q9 e9 => ?_)
  cases e9
  exact ax_out G E (fun x hx => by cases hx)

theorem cq_nextVisible_B2 {Ω : ax_O} (hA : ax_Amb Ω) {h : ax_H} {a : Nat} {pl s : pR} {π : Nat → cP} {N V O A : Nat} {D : cD} (ha : Ω.2.1.heap.size ≤ a) (hp : pWP pl N V O) (hs : pWS s A) (hE : cEn h a pl s N V O A D) {X bf tr hi sv lb : Nat} {x1 x2 x3 : Int32} (hX : ∀ σ, (sH h a σ).1 X = some (.inr (0, [.ref bf, .int x1, .int x2, .int x3, .ref a, .ref tr, .ref hi, .ref sv, .ref lb]))) (lon f : Int32) (h1 : pIn lon (nI 0) (nI 359) = true) (hb : pIn f (nI 0) (pl 0) = false)  : ax_Met Ω yX1_nextVisible 20 4 24 [.ref X, .int lon, .int f] (sH h a (s, π, (.ref (D.1 0)), (D.1 8))) (.inr (sH h a (s, π, (.ref (D.1 0)), (D.1 8))).2) (ax_add (sH h a (s, π, (.ref (D.1 0)), (D.1 8))) (.inr (20, []))) := by
  refine ax_met q1712 q113 (by decide +kernel) (by decide) hA (Nat.le_of_ble_eq_true rfl) (fun Γ G E => ?_)
  have hV9 := hp.lV
  have hA9 := hs.lA
  have hO9 := hp.lO
  show ax_W Ω Γ 4 24 (sH h a (s, π, (.ref (D.1 0)), (D.1 8))) 0 [some (.ref X), some (.int lon), some (.int f), none] []
  refine ax_aload_n (pc := 0) G dX1_nextVisible_0 rfl rfl ?_
  refine ax_cV1 (pc := 1) (kb := 2) (nb := 12) G (cx_thereY hA (π := π) ha hp hs hE hX) lVX1_79_0 dX1_nextVisible_1 (hX _) rfl (by decide) (Nat.le_of_ble_eq_true rfl) rfl ?_
  refine ax_pop (pc := 4) G dX1_nextVisible_4 rfl ?_
  refine ax_iload_n (pc := 5) G dX1_nextVisible_5 rfl rfl ?_
  refine ax_iconst (pc := 6) (v := nI 0) G dX1_nextVisible_6 ic_0 ?_
  refine ax_cS1 (pc := 7) (kb := 2) (nb := 12) G (cx_pointing hA lon (nI 0)) lSX1_306 dX1_nextVisible_7 rfl (by decide) (Nat.le_of_ble_eq_true rfl) rfl ?_
  refine ax_if_eq (pc := 10) (tgt := 37) G dX1_nextVisible_10 rfl (fun c9 => absurd c9 (by rw [h1]; decide)) (fun _ => ?_)
  refine ax_iload_n (pc := 13) G dX1_nextVisible_13 rfl rfl ?_
  refine ax_i2l (pc := 14) G dX1_nextVisible_14 rfl ?_
  refine ax_lconst (pc := 15) (v := 0) G dX1_nextVisible_15 rfl ?_
  refine ax_aload_n (pc := 16) G dX1_nextVisible_16 rfl rfl ?_
  refine ax_getf (pc := 17) (v := .ref a) G flX1_72_0 dX1_nextVisible_17 (hX _) rfl ?_
  refine sr_get (pc := 20) (v := .ref (D.1 0)) G flX1_83_1 dX1_nextVisible_20 rfl ?_
  refine ax_getf (pc := 23) (v := .int (pl 0)) G flX1_256_10 dX1_nextVisible_23 (((hE (s, π, (.ref (D.1 0)), (D.1 8))).1).1) rfl ?_
  refine ax_i2l (pc := 26) G dX1_nextVisible_26 rfl ?_
  refine ax_cS1 (pc := 27) (kb := 2) (nb := 12) G (ct_in hA f.toInt64 0 ((pl 0).toInt64)) lSX1_62 dX1_nextVisible_27 rfl (by decide) (Nat.le_of_ble_eq_true rfl) rfl ?_
  rw [cIn_k (A := 0) (B := (pl 0).toInt64) (a := (nI 0)) (b := (pl 0)) f (by decide) rfl]
  refine ax_if_eq (pc := 30) (tgt := 37) G dX1_nextVisible_30 rfl (fun _ => ?_) (fun c9 => absurd (by rw [hb]; rfl) c9)
  refine ax_iconst (pc := 37) (v := nI 0) G dX1_nextVisible_37 ic_0 ?_
  refine ax_callS (pc := 38) (kb := 1) (nb := 6) G (ct_argN hA) lSX1_144 dX1_nextVisible_38 rfl (by decide) (Nat.le_of_ble_eq_true rfl) rfl (fun _ e9 => by cases e9) (fun q9 e9 => ?_)
  cases e9
  exact ax_out G E (fun x hx => by cases hx)

