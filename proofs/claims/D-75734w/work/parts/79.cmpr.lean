/-! THE COMPONENT: a state begins -/
/-- what is granted at first -/
def pBg1 (g : Nat → Int32) (s : pR) : Nat → pR
  | 0 => s
  | n + 1 => upd (pBg1 g s n) (17 + n) (g n)
def pBg2 (pr : Nat → Int32) (s : pR) : Nat → pR
  | 0 => s
  | n + 1 => upd (upd (pBg2 pr s n) (107 + n) (pr n)) (87 + n) (-1)
def pBg3 (s : pR) : Nat → pR
  | 0 => s
  | n + 1 => upd (pBg3 s n) (127 + 10 * n + 8) (-1)
def pBg (g pr : Nat → Int32) (s : pR) (P V : Nat) : pR := pBg3 (pBg2 pr (pBg1 g s P) V) 10
theorem ct_sbegin {Ω : ax_O} (hA : ax_Amb Ω) {h : ax_H} {a sc L0 L1 e0 e1 P V cap0 cap1 rl : Nat} {s : pR} {π : Nat → cP} {rs : List Value} {m0 m1 : Int32} {f0 f1 : Nat → Option Nat} {p v : Nat → Nat} {nm : Nat → Nat} {g pr : Nat → Int32} {vl : Nat → Nat → Int32} (ha : Ω.2.1.heap.size ≤ a) (hSc : h.1 sc = some (.inr (10, .ref L0 :: .ref L1 :: rs))) (oSc : (sc < a ∨ a + 18 < sc ∨ (a < sc ∧ sc < a + 4))) (hL0 : h.1 L0 = some (.inr (16, [.int m0, .ref e0, .int (nI P)]))) (oL0 : (L0 < a ∨ a + 18 < L0 ∨ (a < L0 ∧ L0 < a + 4))) (hE0 : h.1 e0 = some (.inl (.object "java/lang/Object", cap0, .inr (.inr (.inr (.inr f0)))))) (oE0 : (e0 < a ∨ a + 18 < e0 ∨ (a < e0 ∧ e0 < a + 4))) (hc0 : P ≤ cap0) (hP : P ≤ 6) (hk0 : cap0 < 1000) (hf0 : ∀ k, k < P → f0 k = some (p k)) (hp : ∀ k, k < P → h.1 (p k) = some (.inr (12, [.ref (nm k), .int (g k)]))) (op : ∀ k, k < P → (p k < a ∨ a + 18 < p k ∨ (a < p k ∧ p k < a + 4))) (hL1 : h.1 L1 = some (.inr (16, [.int m1, .ref e1, .int (nI V)]))) (oL1 : (L1 < a ∨ a + 18 < L1 ∨ (a < L1 ∧ L1 < a + 4))) (hE1 : h.1 e1 = some (.inl (.object "java/lang/Object", cap1, .inr (.inr (.inr (.inr f1)))))) (oE1 : (e1 < a ∨ a + 18 < e1 ∨ (a < e1 ∧ e1 < a + 4))) (hc1 : V ≤ cap1) (hV : V ≤ 20) (hk1 : cap1 < 1000) (hf1 : ∀ k, k < V → f1 k = some (v k)) (hv : ∀ k, k < V → h.1 (v k) = some (.inr (13, [.int (vl k 0), .int (vl k 1), .int (vl k 2), .int (vl k 3), .int (vl k 4), .int (pr k), .int (vl k 6), .int (vl k 7)]))) (ov : ∀ k, k < V → (v k < a ∨ a + 18 < v k ∨ (a < v k ∧ v k < a + 4)))  : ax_Met Ω yX2_begin 4 0 0 [.ref a] (sH h a (s, π, (.ref sc), rl)) (.inl (some (.ref a))) (sH h a (pBg g pr s P V, π, (.ref sc), rl)) := by
  refine ax_met q1395 q114 (by decide +kernel) (by decide) hA (Nat.le_of_ble_eq_true rfl) (fun Γ G E => ?_)
  show ax_W Ω Γ 0 0 (sH h a (s, π, (.ref sc), rl)) 0 [some (.ref a), none] []
  refine ax_iconst (pc := 0) (v := nI 0) G dX2_begin_0 ic_0 ?_
  refine ax_istore_n (pc := 1) G dX2_begin_1 rfl (Nat.le_of_ble_eq_true rfl) rfl ?_
  have L0_ : ∀ (k9 i : Nat), i + k9 = P → ax_W Ω Γ 0 0 (sH h a (pBg1 g s i, π, (.ref sc), rl)) 2 [some (.ref a), some (.int (nI i))] [] := by
    intro k9
    induction k9 with
    | zero =>
      intro i hi
      have hi9 : P = i := by omega
      subst hi9
      refine ax_iload_n (pc := 2) G dX2_begin_2 rfl rfl ?_
      refine ax_aload_n (pc := 3) G dX2_begin_3 rfl rfl ?_
      refine sr_get (pc := 4) (v := .ref sc) G flX2_80_1 dX2_begin_4 rfl ?_
      refine ax_getf (pc := 7) (v := .ref L0) G flX2_84_10 dX2_begin_7 ((sH_out (by omega)).trans hSc) rfl ?_
      refine ax_cJ1 (pc := 10) (kb := 0) (nb := 0) G (ct_lsize hA ((sH_out (by omega)).trans hL0)) lJX2_89_16 dX2_begin_10 ((sH_out (by omega)).trans hL0) rfl (by decide) (Nat.le_of_ble_eq_true rfl) rfl ?_
      refine ax_icmp_geN (pc := 15) (tgt := 49) G dX2_begin_15 rfl (by omega) (by omega) (fun c15 => ?_) (fun c15 => ?_)
      · refine ax_iconst (pc := 49) (v := nI 0) G dX2_begin_49 ic_0 ?_
        refine ax_istore_n (pc := 50) G dX2_begin_50 rfl (Nat.le_of_ble_eq_true rfl) rfl ?_
        have L1_ : ∀ (k9 i : Nat), i + k9 = V → ax_W Ω Γ 0 0 (sH h a (pBg2 pr (pBg1 g s P) i, π, (.ref sc), rl)) 51 [some (.ref a), some (.int (nI i))] [] := by
          intro k9
          induction k9 with
          | zero =>
            intro i hi
            have hi9 : V = i := by omega
            subst hi9
            refine ax_iload_n (pc := 51) G dX2_begin_51 rfl rfl ?_
            refine ax_aload_n (pc := 52) G dX2_begin_52 rfl rfl ?_
            refine sr_get (pc := 53) (v := .ref sc) G flX2_80_1 dX2_begin_53 rfl ?_
            refine ax_getf (pc := 56) (v := .ref L1) G flX2_104_10 dX2_begin_56 ((sH_out (by omega)).trans hSc) rfl ?_
            refine ax_cJ1 (pc := 59) (kb := 0) (nb := 0) G (ct_lsize hA ((sH_out (by omega)).trans hL1)) lJX2_89_16 dX2_begin_59 ((sH_out (by omega)).trans hL1) rfl (by decide) (Nat.le_of_ble_eq_true rfl) rfl ?_
            refine ax_icmp_geN (pc := 64) (tgt := 105) G dX2_begin_64 rfl (by omega) (by omega) (fun c64 => ?_) (fun c64 => ?_)
            · refine ax_iconst (pc := 105) (v := nI 0) G dX2_begin_105 ic_0 ?_
              refine ax_istore_n (pc := 106) G dX2_begin_106 rfl (Nat.le_of_ble_eq_true rfl) rfl ?_
              have L2_ : ∀ (k9 i : Nat), i + k9 = 10 → ax_W Ω Γ 0 0 (sH h a (pBg3 (pBg2 pr (pBg1 g s P) V) i, π, (.ref sc), rl)) 107 [some (.ref a), some (.int (nI i))] [] := by
                intro k9
                induction k9 with
                | zero =>
                  intro i hi
                  have hi9 : 10 = i := by omega
                  subst hi9
                  refine ax_iload_n (pc := 107) G dX2_begin_107 rfl rfl ?_
                  refine ax_bipush (pc := 108) (v := nI 10) G dX2_begin_108 ib_10 ?_
                  refine ax_icmp_ge (pc := 110) (tgt := 126) G dX2_begin_110 rfl (fun _ => ?_) (fun c9 => absurd (by decide) c9)
                  refine ax_aload_n (pc := 126) G dX2_begin_126 rfl rfl ?_
                  exact ax_aretE (pc := 127) G E rfl (Or.inl ⟨_, rfl⟩) (Or.inr ⟨_, rfl⟩) dX2_begin_127 (rfl) (rfl)
                | succ k9 ih =>
                  intro i hi
                  refine ax_iload_n (pc := 107) G dX2_begin_107 rfl rfl ?_
                  refine ax_bipush (pc := 108) (v := nI 10) G dX2_begin_108 ib_10 ?_
                  refine ax_icmp_geN (pc := 110) (tgt := 126) G dX2_begin_110 rfl (by omega) (by omega) (fun c110 => ?_) (fun c110 => ?_)
                  · omega
                  · refine ax_aload_n (pc := 113) G dX2_begin_113 rfl rfl ?_
                    refine sr_get (pc := 114) (v := .ref (a + 13)) G flX2_58_1 dX2_begin_114 rfl ?_
                    refine ax_iload_n (pc := 117) G dX2_begin_117 rfl rfl ?_
                    refine ax_iconst (pc := 118) (v := (-1)) G dX2_begin_118 (by decide) ?_
                    refine sr_st (pc := 119) (k := 13) (j := i) (r := 127 + 10 * i + 8) G dX2_begin_119 ha (by decide) (by decide) rfl rfl (show i < 10 by omega) ?_
                    show ax_W Ω Γ _ _ (sH h a (upd (pBg3 (pBg2 pr (pBg1 g s P) V) i) (127 + 10 * i + 8) (-1), π, (.ref sc), rl)) _ _ _
                    refine ax_iincN (pc := 120) (n := 1) G dX2_begin_120 rfl rfl ic_1 ?_
                    refine ax_goto (pc := 123) (tgt := 107) G dX2_begin_123 rfl ?_
                    exact ih (i + 1) (by omega)
              exact L2_ 10 0 (by omega)
            · omega
          | succ k9 ih =>
            intro i hi
            refine ax_iload_n (pc := 51) G dX2_begin_51 rfl rfl ?_
            refine ax_aload_n (pc := 52) G dX2_begin_52 rfl rfl ?_
            refine sr_get (pc := 53) (v := .ref sc) G flX2_80_1 dX2_begin_53 rfl ?_
            refine ax_getf (pc := 56) (v := .ref L1) G flX2_104_10 dX2_begin_56 ((sH_out (by omega)).trans hSc) rfl ?_
            refine ax_cJ1 (pc := 59) (kb := 0) (nb := 0) G (ct_lsize hA ((sH_out (by omega)).trans hL1)) lJX2_89_16 dX2_begin_59 ((sH_out (by omega)).trans hL1) rfl (by decide) (Nat.le_of_ble_eq_true rfl) rfl ?_
            refine ax_icmp_geN (pc := 64) (tgt := 105) G dX2_begin_64 rfl (by omega) (by omega) (fun c64 => ?_) (fun c64 => ?_)
            · omega
            · refine ax_aload_n (pc := 67) G dX2_begin_67 rfl rfl ?_
              refine sr_get (pc := 68) (v := .ref (a + 11)) G flX2_52_1 dX2_begin_68 rfl ?_
              refine ax_iload_n (pc := 71) G dX2_begin_71 rfl rfl ?_
              refine ax_aload_n (pc := 72) G dX2_begin_72 rfl rfl ?_
              refine sr_get (pc := 73) (v := .ref sc) G flX2_80_1 dX2_begin_73 rfl ?_
              refine ax_getf (pc := 76) (v := .ref L1) G flX2_104_10 dX2_begin_76 ((sH_out (by omega)).trans hSc) rfl ?_
              refine ax_iload_n (pc := 79) G dX2_begin_79 rfl rfl ?_
              refine ax_cJ1 (pc := 80) (kb := 0) (nb := 0) G (ct_lget hA ((sH_out (by omega)).trans hL1) ((sH_out (by omega)).trans hE1) i (by omega) hc1 (by omega) (hf1 i (by omega))) lJX2_95_16 dX2_begin_80 ((sH_out (by omega)).trans hL1) rfl (by decide) (Nat.le_of_ble_eq_true rfl) rfl ?_
              refine ax_checkcast (pc := 85) G q1401 ⟨_, rfl, Or.inl rfl⟩ dX2_begin_85 ((sH_out (by have := ov i (by omega); omega)).trans (hv i (by omega))) ?_
              refine ax_getf (pc := 88) (v := .int (pr i)) G flX2_109_13 dX2_begin_88 ((sH_out (by have := ov i (by omega); omega)).trans (hv i (by omega))) rfl ?_
              refine sr_st (pc := 91) (k := 11) (j := i) (r := 107 + i) G dX2_begin_91 ha (by decide) (by decide) rfl rfl (show i < 20 by omega) ?_
              show ax_W Ω Γ _ _ (sH h a (upd (pBg2 pr (pBg1 g s P) i) (107 + i) (pr i), π, (.ref sc), rl)) _ _ _
              refine ax_aload_n (pc := 92) G dX2_begin_92 rfl rfl ?_
              refine sr_get (pc := 93) (v := .ref (a + 10)) G flX2_49_1 dX2_begin_93 rfl ?_
              refine ax_iload_n (pc := 96) G dX2_begin_96 rfl rfl ?_
              refine ax_iconst (pc := 97) (v := (-1)) G dX2_begin_97 (by decide) ?_
              refine sr_st (pc := 98) (k := 10) (j := i) (r := 87 + i) G dX2_begin_98 ha (by decide) (by decide) rfl rfl (show i < 20 by omega) ?_
              show ax_W Ω Γ _ _ (sH h a (upd (upd (pBg2 pr (pBg1 g s P) i) (107 + i) (pr i)) (87 + i) (-1), π, (.ref sc), rl)) _ _ _
              refine ax_iincN (pc := 99) (n := 1) G dX2_begin_99 rfl rfl ic_1 ?_
              refine ax_goto (pc := 102) (tgt := 51) G dX2_begin_102 rfl ?_
              exact ih (i + 1) (by omega)
        exact L1_ V 0 (by omega)
      · omega
    | succ k9 ih =>
      intro i hi
      refine ax_iload_n (pc := 2) G dX2_begin_2 rfl rfl ?_
      refine ax_aload_n (pc := 3) G dX2_begin_3 rfl rfl ?_
      refine sr_get (pc := 4) (v := .ref sc) G flX2_80_1 dX2_begin_4 rfl ?_
      refine ax_getf (pc := 7) (v := .ref L0) G flX2_84_10 dX2_begin_7 ((sH_out (by omega)).trans hSc) rfl ?_
      refine ax_cJ1 (pc := 10) (kb := 0) (nb := 0) G (ct_lsize hA ((sH_out (by omega)).trans hL0)) lJX2_89_16 dX2_begin_10 ((sH_out (by omega)).trans hL0) rfl (by decide) (Nat.le_of_ble_eq_true rfl) rfl ?_
      refine ax_icmp_geN (pc := 15) (tgt := 49) G dX2_begin_15 rfl (by omega) (by omega) (fun c15 => ?_) (fun c15 => ?_)
      · omega
      · refine ax_aload_n (pc := 18) G dX2_begin_18 rfl rfl ?_
        refine sr_get (pc := 19) (v := .ref (a + 4)) G flX2_30_1 dX2_begin_19 rfl ?_
        refine ax_iload_n (pc := 22) G dX2_begin_22 rfl rfl ?_
        refine ax_aload_n (pc := 23) G dX2_begin_23 rfl rfl ?_
        refine sr_get (pc := 24) (v := .ref sc) G flX2_80_1 dX2_begin_24 rfl ?_
        refine ax_getf (pc := 27) (v := .ref L0) G flX2_84_10 dX2_begin_27 ((sH_out (by omega)).trans hSc) rfl ?_
        refine ax_iload_n (pc := 30) G dX2_begin_30 rfl rfl ?_
        refine ax_cJ1 (pc := 31) (kb := 0) (nb := 0) G (ct_lget hA ((sH_out (by omega)).trans hL0) ((sH_out (by omega)).trans hE0) i (by omega) hc0 (by omega) (hf0 i (by omega))) lJX2_95_16 dX2_begin_31 ((sH_out (by omega)).trans hL0) rfl (by decide) (Nat.le_of_ble_eq_true rfl) rfl ?_
        refine ax_checkcast (pc := 36) G q1400 ⟨_, rfl, Or.inl rfl⟩ dX2_begin_36 ((sH_out (by have := op i (by omega); omega)).trans (hp i (by omega))) ?_
        refine ax_getf (pc := 39) (v := .int (g i)) G flX2_101_12 dX2_begin_39 ((sH_out (by have := op i (by omega); omega)).trans (hp i (by omega))) rfl ?_
        refine sr_st (pc := 42) (k := 4) (j := i) (r := 17 + i) G dX2_begin_42 ha (by decide) (by decide) rfl rfl (show i < 6 by omega) ?_
        show ax_W Ω Γ _ _ (sH h a (upd (pBg1 g s i) (17 + i) (g i), π, (.ref sc), rl)) _ _ _
        refine ax_iincN (pc := 43) (n := 1) G dX2_begin_43 rfl rfl ic_1 ?_
        refine ax_goto (pc := 46) (tgt := 2) G dX2_begin_46 rfl ?_
        exact ih (i + 1) (by omega)
  exact L0_ P 0 (by omega)

