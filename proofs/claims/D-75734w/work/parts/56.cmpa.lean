/-! THE COMPONENT: small methods -/
theorem ct_in {Ω : ax_O} (hA : ax_Amb Ω) {h : ax_H} (v a b : Int64) : ax_Met Ω yX1_in 1 0 0 [.long v, .long a, .long b] h (.inl (some (.int (bI (cIn v a b))))) h := by
  refine ax_met q858 q113 (by decide +kernel) (by decide) hA (Nat.le_of_ble_eq_true rfl) (fun Γ G E => ?_)
  show ax_W Ω Γ 0 0 h 0 [some (.long v), none, some (.long a), none, some (.long b), none] []
  refine ax_lload_n (pc := 0) G dX1_in_0 rfl rfl ?_
  refine ax_lload_n (pc := 1) G dX1_in_1 rfl rfl ?_
  refine ax_lcmp_lt (pc := 2) (tgt := 17) G dX1_in_2 dX1_in_3 rfl (fun c3 => ?_) (fun c3 => ?_)
  · refine ax_iconst (pc := 17) (v := nI 0) G dX1_in_17 ic_0 ?_
    exact ax_iretE (pc := 18) G E rfl (rfl) dX1_in_18 (by first | (simp only [cIn, decide_eq_true (Int64.not_lt.mp ‹¬ v < a›), decide_eq_true (Int64.not_lt.mp ‹¬ b < v›)]; rfl) | (simp only [cIn, decide_eq_false (Int64.not_le.mpr ‹v < a›)]; rfl) | (simp only [cIn, decide_eq_false (Int64.not_le.mpr ‹b < v›), Bool.and_false]; rfl)) (rfl)
  · refine ax_lload_n (pc := 6) G dX1_in_6 rfl rfl ?_
    refine ax_lload (pc := 7) G dX1_in_7 rfl ?_
    refine ax_lcmp_gt (pc := 9) (tgt := 17) G dX1_in_9 dX1_in_10 rfl (fun c10 => ?_) (fun c10 => ?_)
    · refine ax_iconst (pc := 17) (v := nI 0) G dX1_in_17 ic_0 ?_
      exact ax_iretE (pc := 18) G E rfl (rfl) dX1_in_18 (by first | (simp only [cIn, decide_eq_true (Int64.not_lt.mp ‹¬ v < a›), decide_eq_true (Int64.not_lt.mp ‹¬ b < v›)]; rfl) | (simp only [cIn, decide_eq_false (Int64.not_le.mpr ‹v < a›)]; rfl) | (simp only [cIn, decide_eq_false (Int64.not_le.mpr ‹b < v›), Bool.and_false]; rfl)) (rfl)
    · refine ax_iconst (pc := 13) (v := nI 1) G dX1_in_13 ic_1 ?_
      refine ax_goto (pc := 14) (tgt := 18) G dX1_in_14 rfl ?_
      exact ax_iretE (pc := 18) G E rfl (rfl) dX1_in_18 (by first | (simp only [cIn, decide_eq_true (Int64.not_lt.mp ‹¬ v < a›), decide_eq_true (Int64.not_lt.mp ‹¬ b < v›)]; rfl) | (simp only [cIn, decide_eq_false (Int64.not_le.mpr ‹v < a›)]; rfl) | (simp only [cIn, decide_eq_false (Int64.not_le.mpr ‹b < v›), Bool.and_false]; rfl)) (rfl)

theorem ct_cmp {Ω : ax_O} (hA : ax_Amb Ω) {h : ax_H} (a b : Int32) : ax_Met Ω yJ16_compare 1 0 0 [.int a, .int b] h (.inl (some (.int (cCmp a b)))) h := by
  refine ax_met q1901 q138 (by decide +kernel) (by decide) hA (Nat.le_of_ble_eq_true rfl) (fun Γ G E => ?_)
  show ax_W Ω Γ 0 0 h 0 [some (.int a), some (.int b)] []
  refine ax_iload_n (pc := 0) G dJ16_compare_0 rfl rfl ?_
  refine ax_iload_n (pc := 1) G dJ16_compare_1 rfl rfl ?_
  refine ax_icmp_ge (pc := 2) (tgt := 9) G dJ16_compare_2 rfl (fun c2 => ?_) (fun c2 => ?_)
  · refine ax_iload_n (pc := 9) G dJ16_compare_9 rfl rfl ?_
    refine ax_iload_n (pc := 10) G dJ16_compare_10 rfl rfl ?_
    refine ax_icmp_ne (pc := 11) (tgt := 18) G dJ16_compare_11 rfl (fun c11 => ?_) (fun c11 => ?_)
    · refine ax_iconst (pc := 18) (v := nI 1) G dJ16_compare_18 ic_1 ?_
      exact ax_iretE (pc := 19) G E rfl (rfl) dJ16_compare_19 (by first | (simp only [cCmp, c2, Int32.not_lt.mpr c2, c11, if_true, if_false, Bool.false_eq_true, not_false_eq_true, not_true_eq_false, decide_true, decide_false, Bool.and_true, Bool.true_and, Bool.and_false, Bool.false_and, Bool.or_true, Bool.true_or, Bool.or_false, Bool.false_or, and_self, and_true, true_and, and_false, false_and, or_true, true_or, or_false, false_or, ne_eq]; done) | (simp only [cCmp, c2, Int32.not_lt.mpr c2, c11, if_true, if_false, Bool.false_eq_true, not_false_eq_true, not_true_eq_false, decide_true, decide_false, Bool.and_true, Bool.true_and, Bool.and_false, Bool.false_and, Bool.or_true, Bool.true_or, Bool.or_false, Bool.false_or, and_self, and_true, true_and, and_false, false_and, or_true, true_or, or_false, false_or, ne_eq]; rfl)) (by first | (simp only [cCmp, c2, Int32.not_lt.mpr c2, c11, if_true, if_false, Bool.false_eq_true, not_false_eq_true, not_true_eq_false, decide_true, decide_false, Bool.and_true, Bool.true_and, Bool.and_false, Bool.false_and, Bool.or_true, Bool.true_or, Bool.or_false, Bool.false_or, and_self, and_true, true_and, and_false, false_and, or_true, true_or, or_false, false_or, ne_eq]; done) | (simp only [cCmp, c2, Int32.not_lt.mpr c2, c11, if_true, if_false, Bool.false_eq_true, not_false_eq_true, not_true_eq_false, decide_true, decide_false, Bool.and_true, Bool.true_and, Bool.and_false, Bool.false_and, Bool.or_true, Bool.true_or, Bool.or_false, Bool.false_or, and_self, and_true, true_and, and_false, false_and, or_true, true_or, or_false, false_or, ne_eq]; rfl))
    · refine ax_iconst (pc := 14) (v := nI 0) G dJ16_compare_14 ic_0 ?_
      refine ax_goto (pc := 15) (tgt := 19) G dJ16_compare_15 rfl ?_
      exact ax_iretE (pc := 19) G E rfl (rfl) dJ16_compare_19 (by first | (simp only [cCmp, c2, Int32.not_lt.mpr c2, c11, if_true, if_false, Bool.false_eq_true, not_false_eq_true, not_true_eq_false, decide_true, decide_false, Bool.and_true, Bool.true_and, Bool.and_false, Bool.false_and, Bool.or_true, Bool.true_or, Bool.or_false, Bool.false_or, and_self, and_true, true_and, and_false, false_and, or_true, true_or, or_false, false_or, ne_eq]; done) | (simp only [cCmp, c2, Int32.not_lt.mpr c2, c11, if_true, if_false, Bool.false_eq_true, not_false_eq_true, not_true_eq_false, decide_true, decide_false, Bool.and_true, Bool.true_and, Bool.and_false, Bool.false_and, Bool.or_true, Bool.true_or, Bool.or_false, Bool.false_or, and_self, and_true, true_and, and_false, false_and, or_true, true_or, or_false, false_or, ne_eq]; rfl) | (simp only [cCmp, c2, Int32.not_lt.mpr c2, if_pos c11, decide_eq_true c11, if_true, if_false, Bool.false_eq_true, not_false_eq_true, not_true_eq_false, decide_true, decide_false, Bool.and_true, Bool.true_and, Bool.and_false, Bool.false_and, Bool.or_true, Bool.true_or, Bool.or_false, Bool.false_or, and_self, and_true, true_and, and_false, false_and, or_true, true_or, or_false, false_or, ne_eq]; done) | (simp only [cCmp, c2, Int32.not_lt.mpr c2, if_pos c11, decide_eq_true c11, if_true, if_false, Bool.false_eq_true, not_false_eq_true, not_true_eq_false, decide_true, decide_false, Bool.and_true, Bool.true_and, Bool.and_false, Bool.false_and, Bool.or_true, Bool.true_or, Bool.or_false, Bool.false_or, and_self, and_true, true_and, and_false, false_and, or_true, true_or, or_false, false_or, ne_eq]; rfl)) (by first | (simp only [cCmp, c2, Int32.not_lt.mpr c2, c11, if_true, if_false, Bool.false_eq_true, not_false_eq_true, not_true_eq_false, decide_true, decide_false, Bool.and_true, Bool.true_and, Bool.and_false, Bool.false_and, Bool.or_true, Bool.true_or, Bool.or_false, Bool.false_or, and_self, and_true, true_and, and_false, false_and, or_true, true_or, or_false, false_or, ne_eq]; done) | (simp only [cCmp, c2, Int32.not_lt.mpr c2, c11, if_true, if_false, Bool.false_eq_true, not_false_eq_true, not_true_eq_false, decide_true, decide_false, Bool.and_true, Bool.true_and, Bool.and_false, Bool.false_and, Bool.or_true, Bool.true_or, Bool.or_false, Bool.false_or, and_self, and_true, true_and, and_false, false_and, or_true, true_or, or_false, false_or, ne_eq]; rfl) | (simp only [cCmp, c2, Int32.not_lt.mpr c2, if_pos c11, decide_eq_true c11, if_true, if_false, Bool.false_eq_true, not_false_eq_true, not_true_eq_false, decide_true, decide_false, Bool.and_true, Bool.true_and, Bool.and_false, Bool.false_and, Bool.or_true, Bool.true_or, Bool.or_false, Bool.false_or, and_self, and_true, true_and, and_false, false_and, or_true, true_or, or_false, false_or, ne_eq]; done) | (simp only [cCmp, c2, Int32.not_lt.mpr c2, if_pos c11, decide_eq_true c11, if_true, if_false, Bool.false_eq_true, not_false_eq_true, not_true_eq_false, decide_true, decide_false, Bool.and_true, Bool.true_and, Bool.and_false, Bool.false_and, Bool.or_true, Bool.true_or, Bool.or_false, Bool.false_or, and_self, and_true, true_and, and_false, false_and, or_true, true_or, or_false, false_or, ne_eq]; rfl))
  · refine ax_iconst (pc := 5) (v := (-1)) G dJ16_compare_5 (by decide) ?_
    refine ax_goto (pc := 6) (tgt := 19) G dJ16_compare_6 rfl ?_
    exact ax_iretE (pc := 19) G E rfl (rfl) dJ16_compare_19 (by first | (simp only [cCmp, c2, Int32.not_le.mp c2, if_true, if_false, Bool.false_eq_true, not_false_eq_true, not_true_eq_false, decide_true, decide_false, Bool.and_true, Bool.true_and, Bool.and_false, Bool.false_and, Bool.or_true, Bool.true_or, Bool.or_false, Bool.false_or, and_self, and_true, true_and, and_false, false_and, or_true, true_or, or_false, false_or, ne_eq]; done) | (simp only [cCmp, c2, Int32.not_le.mp c2, if_true, if_false, Bool.false_eq_true, not_false_eq_true, not_true_eq_false, decide_true, decide_false, Bool.and_true, Bool.true_and, Bool.and_false, Bool.false_and, Bool.or_true, Bool.true_or, Bool.or_false, Bool.false_or, and_self, and_true, true_and, and_false, false_and, or_true, true_or, or_false, false_or, ne_eq]; rfl)) (by first | (simp only [cCmp, c2, Int32.not_le.mp c2, if_true, if_false, Bool.false_eq_true, not_false_eq_true, not_true_eq_false, decide_true, decide_false, Bool.and_true, Bool.true_and, Bool.and_false, Bool.false_and, Bool.or_true, Bool.true_or, Bool.or_false, Bool.false_or, and_self, and_true, true_and, and_false, false_and, or_true, true_or, or_false, false_or, ne_eq]; done) | (simp only [cCmp, c2, Int32.not_le.mp c2, if_true, if_false, Bool.false_eq_true, not_false_eq_true, not_true_eq_false, decide_true, decide_false, Bool.and_true, Bool.true_and, Bool.and_false, Bool.false_and, Bool.or_true, Bool.true_or, Bool.or_false, Bool.false_or, and_self, and_true, true_and, and_false, false_and, or_true, true_or, or_false, false_or, ne_eq]; rfl))

theorem ct_cmpL {Ω : ax_O} (hA : ax_Amb Ω) {h : ax_H} (a b : Int64) : ax_Met Ω yJ22_compare 1 0 0 [.long a, .long b] h (.inl (some (.int (cCmpL a b)))) h := by
  refine ax_met q1929 q157 (by decide +kernel) (by decide) hA (Nat.le_of_ble_eq_true rfl) (fun Γ G E => ?_)
  show ax_W Ω Γ 0 0 h 0 [some (.long a), none, some (.long b), none] []
  refine ax_lload_n (pc := 0) G dJ22_compare_0 rfl rfl ?_
  refine ax_lload_n (pc := 1) G dJ22_compare_1 rfl rfl ?_
  refine ax_lcmp_ge (pc := 2) (tgt := 10) G dJ22_compare_2 dJ22_compare_3 rfl (fun c3 => ?_) (fun c3 => ?_)
  · refine ax_lload_n (pc := 10) G dJ22_compare_10 rfl rfl ?_
    refine ax_lload_n (pc := 11) G dJ22_compare_11 rfl rfl ?_
    refine ax_lcmp_ne (pc := 12) (tgt := 20) G dJ22_compare_12 dJ22_compare_13 rfl (fun c13 => ?_) (fun c13 => ?_)
    · refine ax_iconst (pc := 20) (v := nI 1) G dJ22_compare_20 ic_1 ?_
      exact ax_iretE (pc := 21) G E rfl (rfl) dJ22_compare_21 (by first | exact (if_pos ‹a < b›).symm | exact ((if_neg ‹¬ a < b›).trans (if_pos ‹a = b›)).symm | exact ((if_neg ‹¬ a < b›).trans (if_neg ‹¬ a = b›)).symm) (rfl)
    · refine ax_iconst (pc := 16) (v := nI 0) G dJ22_compare_16 ic_0 ?_
      refine ax_goto (pc := 17) (tgt := 21) G dJ22_compare_17 rfl ?_
      exact ax_iretE (pc := 21) G E rfl (rfl) dJ22_compare_21 (by first | exact (if_pos ‹a < b›).symm | exact ((if_neg ‹¬ a < b›).trans (if_pos ‹a = b›)).symm | exact ((if_neg ‹¬ a < b›).trans (if_neg ‹¬ a = b›)).symm) (rfl)
  · refine ax_iconst (pc := 6) (v := (-1)) G dJ22_compare_6 (by decide) ?_
    refine ax_goto (pc := 7) (tgt := 21) G dJ22_compare_7 rfl ?_
    exact ax_iretE (pc := 21) G E rfl (rfl) dJ22_compare_21 (by first | exact (if_pos ‹a < b›).symm | exact ((if_neg ‹¬ a < b›).trans (if_pos ‹a = b›)).symm | exact ((if_neg ‹¬ a < b›).trans (if_neg ‹¬ a = b›)).symm) (rfl)

theorem ct_fmod {Ω : ax_O} (hA : ax_Amb Ω) {h : ax_H} (a b : Int32) (hb : ¬ b = 0) : ax_Met Ω yJ12_floorMod 1 0 0 [.int a, .int b] h (.inl (some (.int (cFM a b)))) h := by
  refine ax_metF q1676 q132 (by decide +kernel) (by decide) hA (Nat.le_of_ble_eq_true rfl) (fun Γ G E => ?_)
  show ax_W Ω Γ 0 0 h 0 [some (.int a), some (.int b), none] []
  refine ax_iload_n (pc := 0) G dJ12_floorMod_0 rfl rfl ?_
  refine ax_iload_n (pc := 1) G dJ12_floorMod_1 rfl rfl ?_
  refine ax_irem (pc := 2) G dJ12_floorMod_2 (hb) ?_
  refine ax_istore_n (pc := 3) G dJ12_floorMod_3 rfl (Nat.le_of_ble_eq_true rfl) rfl ?_
  refine ax_iload_n (pc := 4) G dJ12_floorMod_4 rfl rfl ?_
  refine ax_iload_n (pc := 5) G dJ12_floorMod_5 rfl rfl ?_
  refine ax_ixor (pc := 6) G dJ12_floorMod_6 ?_
  refine ax_if_ge (pc := 7) (tgt := 18) G dJ12_floorMod_7 rfl (fun c7 => ?_) (fun c7 => ?_)
  · refine ax_iload_n (pc := 18) G dJ12_floorMod_18 rfl rfl ?_
    exact ax_iretE (pc := 19) G E rfl (rfl) dJ12_floorMod_19 (by first | (simp only [cFM, c7, Int32.not_lt.mpr c7, if_true, if_false, Bool.false_eq_true, not_false_eq_true, not_true_eq_false, decide_true, decide_false, Bool.and_true, Bool.true_and, Bool.and_false, Bool.false_and, Bool.or_true, Bool.true_or, Bool.or_false, Bool.false_or, and_self, and_true, true_and, and_false, false_and, or_true, true_or, or_false, false_or, ne_eq]; done) | (simp only [cFM, c7, Int32.not_lt.mpr c7, if_true, if_false, Bool.false_eq_true, not_false_eq_true, not_true_eq_false, decide_true, decide_false, Bool.and_true, Bool.true_and, Bool.and_false, Bool.false_and, Bool.or_true, Bool.true_or, Bool.or_false, Bool.false_or, and_self, and_true, true_and, and_false, false_and, or_true, true_or, or_false, false_or, ne_eq]; rfl)) (by first | (simp only [cFM, c7, Int32.not_lt.mpr c7, if_true, if_false, Bool.false_eq_true, not_false_eq_true, not_true_eq_false, decide_true, decide_false, Bool.and_true, Bool.true_and, Bool.and_false, Bool.false_and, Bool.or_true, Bool.true_or, Bool.or_false, Bool.false_or, and_self, and_true, true_and, and_false, false_and, or_true, true_or, or_false, false_or, ne_eq]; done) | (simp only [cFM, c7, Int32.not_lt.mpr c7, if_true, if_false, Bool.false_eq_true, not_false_eq_true, not_true_eq_false, decide_true, decide_false, Bool.and_true, Bool.true_and, Bool.and_false, Bool.false_and, Bool.or_true, Bool.true_or, Bool.or_false, Bool.false_or, and_self, and_true, true_and, and_false, false_and, or_true, true_or, or_false, false_or, ne_eq]; rfl))
  · refine ax_iload_n (pc := 10) G dJ12_floorMod_10 rfl rfl ?_
    refine ax_if_eq (pc := 11) (tgt := 18) G dJ12_floorMod_11 rfl (fun c11 => ?_) (fun c11 => ?_)
    · refine ax_iload_n (pc := 18) G dJ12_floorMod_18 rfl rfl ?_
      exact ax_iretE (pc := 19) G E rfl (rfl) dJ12_floorMod_19 (by first | (simp only [cFM, c7, Int32.not_le.mp c7, c11, if_true, if_false, Bool.false_eq_true, not_false_eq_true, not_true_eq_false, decide_true, decide_false, Bool.and_true, Bool.true_and, Bool.and_false, Bool.false_and, Bool.or_true, Bool.true_or, Bool.or_false, Bool.false_or, and_self, and_true, true_and, and_false, false_and, or_true, true_or, or_false, false_or, ne_eq]; done) | (simp only [cFM, c7, Int32.not_le.mp c7, c11, if_true, if_false, Bool.false_eq_true, not_false_eq_true, not_true_eq_false, decide_true, decide_false, Bool.and_true, Bool.true_and, Bool.and_false, Bool.false_and, Bool.or_true, Bool.true_or, Bool.or_false, Bool.false_or, and_self, and_true, true_and, and_false, false_and, or_true, true_or, or_false, false_or, ne_eq]; rfl) | (simp only [cFM, c7, Int32.not_le.mp c7, if_pos c11, decide_eq_true c11, if_true, if_false, Bool.false_eq_true, not_false_eq_true, not_true_eq_false, decide_true, decide_false, Bool.and_true, Bool.true_and, Bool.and_false, Bool.false_and, Bool.or_true, Bool.true_or, Bool.or_false, Bool.false_or, and_self, and_true, true_and, and_false, false_and, or_true, true_or, or_false, false_or, ne_eq]; done) | (simp only [cFM, c7, Int32.not_le.mp c7, if_pos c11, decide_eq_true c11, if_true, if_false, Bool.false_eq_true, not_false_eq_true, not_true_eq_false, decide_true, decide_false, Bool.and_true, Bool.true_and, Bool.and_false, Bool.false_and, Bool.or_true, Bool.true_or, Bool.or_false, Bool.false_or, and_self, and_true, true_and, and_false, false_and, or_true, true_or, or_false, false_or, ne_eq]; rfl)) (by first | (simp only [cFM, c7, Int32.not_le.mp c7, c11, if_true, if_false, Bool.false_eq_true, not_false_eq_true, not_true_eq_false, decide_true, decide_false, Bool.and_true, Bool.true_and, Bool.and_false, Bool.false_and, Bool.or_true, Bool.true_or, Bool.or_false, Bool.false_or, and_self, and_true, true_and, and_false, false_and, or_true, true_or, or_false, false_or, ne_eq]; done) | (simp only [cFM, c7, Int32.not_le.mp c7, c11, if_true, if_false, Bool.false_eq_true, not_false_eq_true, not_true_eq_false, decide_true, decide_false, Bool.and_true, Bool.true_and, Bool.and_false, Bool.false_and, Bool.or_true, Bool.true_or, Bool.or_false, Bool.false_or, and_self, and_true, true_and, and_false, false_and, or_true, true_or, or_false, false_or, ne_eq]; rfl) | (simp only [cFM, c7, Int32.not_le.mp c7, if_pos c11, decide_eq_true c11, if_true, if_false, Bool.false_eq_true, not_false_eq_true, not_true_eq_false, decide_true, decide_false, Bool.and_true, Bool.true_and, Bool.and_false, Bool.false_and, Bool.or_true, Bool.true_or, Bool.or_false, Bool.false_or, and_self, and_true, true_and, and_false, false_and, or_true, true_or, or_false, false_or, ne_eq]; done) | (simp only [cFM, c7, Int32.not_le.mp c7, if_pos c11, decide_eq_true c11, if_true, if_false, Bool.false_eq_true, not_false_eq_true, not_true_eq_false, decide_true, decide_false, Bool.and_true, Bool.true_and, Bool.and_false, Bool.false_and, Bool.or_true, Bool.true_or, Bool.or_false, Bool.false_or, and_self, and_true, true_and, and_false, false_and, or_true, true_or, or_false, false_or, ne_eq]; rfl))
    · refine ax_iload_n (pc := 14) G dJ12_floorMod_14 rfl rfl ?_
      refine ax_iload_n (pc := 15) G dJ12_floorMod_15 rfl rfl ?_
      refine ax_iadd (pc := 16) G dJ12_floorMod_16 ?_
      exact ax_iretE (pc := 17) G E rfl (rfl) dJ12_floorMod_17 (by first | (simp only [cFM, c7, Int32.not_le.mp c7, c11, if_true, if_false, Bool.false_eq_true, not_false_eq_true, not_true_eq_false, decide_true, decide_false, Bool.and_true, Bool.true_and, Bool.and_false, Bool.false_and, Bool.or_true, Bool.true_or, Bool.or_false, Bool.false_or, and_self, and_true, true_and, and_false, false_and, or_true, true_or, or_false, false_or, ne_eq]; done) | (simp only [cFM, c7, Int32.not_le.mp c7, c11, if_true, if_false, Bool.false_eq_true, not_false_eq_true, not_true_eq_false, decide_true, decide_false, Bool.and_true, Bool.true_and, Bool.and_false, Bool.false_and, Bool.or_true, Bool.true_or, Bool.or_false, Bool.false_or, and_self, and_true, true_and, and_false, false_and, or_true, true_or, or_false, false_or, ne_eq]; rfl)) (by first | (simp only [cFM, c7, Int32.not_le.mp c7, c11, if_true, if_false, Bool.false_eq_true, not_false_eq_true, not_true_eq_false, decide_true, decide_false, Bool.and_true, Bool.true_and, Bool.and_false, Bool.false_and, Bool.or_true, Bool.true_or, Bool.or_false, Bool.false_or, and_self, and_true, true_and, and_false, false_and, or_true, true_or, or_false, false_or, ne_eq]; done) | (simp only [cFM, c7, Int32.not_le.mp c7, c11, if_true, if_false, Bool.false_eq_true, not_false_eq_true, not_true_eq_false, decide_true, decide_false, Bool.and_true, Bool.true_and, Bool.and_false, Bool.false_and, Bool.or_true, Bool.true_or, Bool.or_false, Bool.false_or, and_self, and_true, true_and, and_false, false_and, or_true, true_or, or_false, false_or, ne_eq]; rfl))

theorem ct_around {Ω : ax_O} (hA : ax_Amb Ω) {h : ax_H} (a b : Int32) : ax_Met Ω yX19_around 2 0 0 [.int a, .int b] h (.inl (some (.int (cAr a b)))) h := by
  refine ax_met q1673 q155 (by decide +kernel) (by decide) hA (Nat.le_of_ble_eq_true rfl) (fun Γ G E => ?_)
  show ax_W Ω Γ 0 0 h 0 [some (.int a), some (.int b), none] []
  refine ax_iload_n (pc := 0) G dX19_around_0 rfl rfl ?_
  refine ax_iload_n (pc := 1) G dX19_around_1 rfl rfl ?_
  refine ax_isub (pc := 2) G dX19_around_2 ?_
  refine ax_sipush (pc := 3) (v := nI 360) G dX19_around_3 is_360 ?_
  refine ax_cS1 (pc := 6) (kb := 0) (nb := 0) G (ct_fmod hA (a - b) (nI 360) (by decide)) lSX19_3 dX19_around_6 rfl (by decide) (Nat.le_of_ble_eq_true rfl) rfl ?_
  refine ax_istore_n (pc := 9) G dX19_around_9 rfl (Nat.le_of_ble_eq_true rfl) rfl ?_
  refine ax_iload_n (pc := 10) G dX19_around_10 rfl rfl ?_
  refine ax_sipush (pc := 11) (v := nI 360) G dX19_around_11 is_360 ?_
  refine ax_iload_n (pc := 14) G dX19_around_14 rfl rfl ?_
  refine ax_isub (pc := 15) G dX19_around_15 ?_
  refine ax_min (pc := 16) G q1677 q340 q132 q341 (by decide) (Nat.le_of_ble_eq_true rfl) dX19_around_16 ?_
  exact ax_iretE (pc := 19) G E rfl (rfl) dX19_around_19 (rfl) (rfl)

theorem ct_proposal_13 {Ω : ax_O} (hA : ax_Amb Ω) {h : ax_H} {w : Nat} {f0 f1 f2 f3 f4 f5 f6 f7 : Int32} (hw : h.1 w = some (.inr (13, [.int f0, .int f1, .int f2, .int f3, .int f4, .int f5, .int f6, .int f7])))  : ax_Met Ω yX15_proposal 1 0 0 [.ref w] h (.inl (some (.int f0))) h := by
  refine ax_met q1475 q150 (by decide +kernel) (by decide) hA (Nat.le_of_ble_eq_true rfl) (fun Γ G E => ?_)
  show ax_W Ω Γ 0 0 h 0 [some (.ref w)] []
  refine ax_aload_n (pc := 0) G dX15_proposal_0 rfl rfl ?_
  refine ax_getf (pc := 1) (v := .int f0) G flX15_7_13 dX15_proposal_1 (hw) rfl ?_
  exact ax_iretE (pc := 4) G E rfl (rfl) dX15_proposal_4 (rfl) (rfl)

theorem ct_lon_13 {Ω : ax_O} (hA : ax_Amb Ω) {h : ax_H} {w : Nat} {f0 f1 f2 f3 f4 f5 f6 f7 : Int32} (hw : h.1 w = some (.inr (13, [.int f0, .int f1, .int f2, .int f3, .int f4, .int f5, .int f6, .int f7])))  : ax_Met Ω yX15_lon 1 0 0 [.ref w] h (.inl (some (.int f1))) h := by
  refine ax_met q1510 q150 (by decide +kernel) (by decide) hA (Nat.le_of_ble_eq_true rfl) (fun Γ G E => ?_)
  show ax_W Ω Γ 0 0 h 0 [some (.ref w)] []
  refine ax_aload_n (pc := 0) G dX15_lon_0 rfl rfl ?_
  refine ax_getf (pc := 1) (v := .int f1) G flX15_13_13 dX15_lon_1 (hw) rfl ?_
  exact ax_iretE (pc := 4) G E rfl (rfl) dX15_lon_4 (rfl) (rfl)

theorem ct_lat_13 {Ω : ax_O} (hA : ax_Amb Ω) {h : ax_H} {w : Nat} {f0 f1 f2 f3 f4 f5 f6 f7 : Int32} (hw : h.1 w = some (.inr (13, [.int f0, .int f1, .int f2, .int f3, .int f4, .int f5, .int f6, .int f7])))  : ax_Met Ω yX15_lat 1 0 0 [.ref w] h (.inl (some (.int f2))) h := by
  refine ax_met q1516 q150 (by decide +kernel) (by decide) hA (Nat.le_of_ble_eq_true rfl) (fun Γ G E => ?_)
  show ax_W Ω Γ 0 0 h 0 [some (.ref w)] []
  refine ax_aload_n (pc := 0) G dX15_lat_0 rfl rfl ?_
  refine ax_getf (pc := 1) (v := .int f2) G flX15_16_13 dX15_lat_1 (hw) rfl ?_
  exact ax_iretE (pc := 4) G E rfl (rfl) dX15_lat_4 (rfl) (rfl)

theorem ct_duration_13 {Ω : ax_O} (hA : ax_Amb Ω) {h : ax_H} {w : Nat} {f0 f1 f2 f3 f4 f5 f6 f7 : Int32} (hw : h.1 w = some (.inr (13, [.int f0, .int f1, .int f2, .int f3, .int f4, .int f5, .int f6, .int f7])))  : ax_Met Ω yX15_duration 1 0 0 [.ref w] h (.inl (some (.int f3))) h := by
  refine ax_met q1522 q150 (by decide +kernel) (by decide) hA (Nat.le_of_ble_eq_true rfl) (fun Γ G E => ?_)
  show ax_W Ω Γ 0 0 h 0 [some (.ref w)] []
  refine ax_aload_n (pc := 0) G dX15_duration_0 rfl rfl ?_
  refine ax_getf (pc := 1) (v := .int f3) G flX15_19_13 dX15_duration_1 (hw) rfl ?_
  exact ax_iretE (pc := 4) G E rfl (rfl) dX15_duration_4 (rfl) (rfl)

theorem ct_push_13 {Ω : ax_O} (hA : ax_Amb Ω) {h : ax_H} {w : Nat} {f0 f1 f2 f3 f4 f5 f6 f7 : Int32} (hw : h.1 w = some (.inr (13, [.int f0, .int f1, .int f2, .int f3, .int f4, .int f5, .int f6, .int f7])))  : ax_Met Ω yX15_push 1 0 0 [.ref w] h (.inl (some (.int f4))) h := by
  refine ax_met q1528 q150 (by decide +kernel) (by decide) hA (Nat.le_of_ble_eq_true rfl) (fun Γ G E => ?_)
  show ax_W Ω Γ 0 0 h 0 [some (.ref w)] []
  refine ax_aload_n (pc := 0) G dX15_push_0 rfl rfl ?_
  refine ax_getf (pc := 1) (v := .int f4) G flX15_22_13 dX15_push_1 (hw) rfl ?_
  exact ax_iretE (pc := 4) G E rfl (rfl) dX15_push_4 (rfl) (rfl)

theorem ct_proposal_14 {Ω : ax_O} (hA : ax_Amb Ω) {h : ax_H} {w : Nat} {f0 f1 f2 f3 f4 f5 f6 : Int32} (hw : h.1 w = some (.inr (14, [.int f0, .int f1, .int f2, .int f3, .int f4, .int f5, .int f6])))  : ax_Met Ω yX15_proposal 1 0 0 [.ref w] h (.inl (some (.int f0))) h := by
  refine ax_met q1475 q150 (by decide +kernel) (by decide) hA (Nat.le_of_ble_eq_true rfl) (fun Γ G E => ?_)
  show ax_W Ω Γ 0 0 h 0 [some (.ref w)] []
  refine ax_aload_n (pc := 0) G dX15_proposal_0 rfl rfl ?_
  refine ax_getf (pc := 1) (v := .int f0) G flX15_7_14 dX15_proposal_1 (hw) rfl ?_
  exact ax_iretE (pc := 4) G E rfl (rfl) dX15_proposal_4 (rfl) (rfl)

theorem ct_lon_14 {Ω : ax_O} (hA : ax_Amb Ω) {h : ax_H} {w : Nat} {f0 f1 f2 f3 f4 f5 f6 : Int32} (hw : h.1 w = some (.inr (14, [.int f0, .int f1, .int f2, .int f3, .int f4, .int f5, .int f6])))  : ax_Met Ω yX15_lon 1 0 0 [.ref w] h (.inl (some (.int f1))) h := by
  refine ax_met q1510 q150 (by decide +kernel) (by decide) hA (Nat.le_of_ble_eq_true rfl) (fun Γ G E => ?_)
  show ax_W Ω Γ 0 0 h 0 [some (.ref w)] []
  refine ax_aload_n (pc := 0) G dX15_lon_0 rfl rfl ?_
  refine ax_getf (pc := 1) (v := .int f1) G flX15_13_14 dX15_lon_1 (hw) rfl ?_
  exact ax_iretE (pc := 4) G E rfl (rfl) dX15_lon_4 (rfl) (rfl)

theorem ct_lat_14 {Ω : ax_O} (hA : ax_Amb Ω) {h : ax_H} {w : Nat} {f0 f1 f2 f3 f4 f5 f6 : Int32} (hw : h.1 w = some (.inr (14, [.int f0, .int f1, .int f2, .int f3, .int f4, .int f5, .int f6])))  : ax_Met Ω yX15_lat 1 0 0 [.ref w] h (.inl (some (.int f2))) h := by
  refine ax_met q1516 q150 (by decide +kernel) (by decide) hA (Nat.le_of_ble_eq_true rfl) (fun Γ G E => ?_)
  show ax_W Ω Γ 0 0 h 0 [some (.ref w)] []
  refine ax_aload_n (pc := 0) G dX15_lat_0 rfl rfl ?_
  refine ax_getf (pc := 1) (v := .int f2) G flX15_16_14 dX15_lat_1 (hw) rfl ?_
  exact ax_iretE (pc := 4) G E rfl (rfl) dX15_lat_4 (rfl) (rfl)

theorem ct_duration_14 {Ω : ax_O} (hA : ax_Amb Ω) {h : ax_H} {w : Nat} {f0 f1 f2 f3 f4 f5 f6 : Int32} (hw : h.1 w = some (.inr (14, [.int f0, .int f1, .int f2, .int f3, .int f4, .int f5, .int f6])))  : ax_Met Ω yX15_duration 1 0 0 [.ref w] h (.inl (some (.int f3))) h := by
  refine ax_met q1522 q150 (by decide +kernel) (by decide) hA (Nat.le_of_ble_eq_true rfl) (fun Γ G E => ?_)
  show ax_W Ω Γ 0 0 h 0 [some (.ref w)] []
  refine ax_aload_n (pc := 0) G dX15_duration_0 rfl rfl ?_
  refine ax_getf (pc := 1) (v := .int f3) G flX15_19_14 dX15_duration_1 (hw) rfl ?_
  exact ax_iretE (pc := 4) G E rfl (rfl) dX15_duration_4 (rfl) (rfl)

theorem ct_push_14 {Ω : ax_O} (hA : ax_Amb Ω) {h : ax_H} {w : Nat} {f0 f1 f2 f3 f4 f5 f6 : Int32} (hw : h.1 w = some (.inr (14, [.int f0, .int f1, .int f2, .int f3, .int f4, .int f5, .int f6])))  : ax_Met Ω yX15_push 1 0 0 [.ref w] h (.inl (some (.int f4))) h := by
  refine ax_met q1528 q150 (by decide +kernel) (by decide) hA (Nat.le_of_ble_eq_true rfl) (fun Γ G E => ?_)
  show ax_W Ω Γ 0 0 h 0 [some (.ref w)] []
  refine ax_aload_n (pc := 0) G dX15_push_0 rfl rfl ?_
  refine ax_getf (pc := 1) (v := .int f4) G flX15_22_14 dX15_push_1 (hw) rfl ?_
  exact ax_iretE (pc := 4) G E rfl (rfl) dX15_push_4 (rfl) (rfl)

theorem ct_from_13 {Ω : ax_O} (hA : ax_Amb Ω) {h : ax_H} {w : Nat} {f0 f1 f2 f3 f4 f5 f6 f7 : Int32} (hw : h.1 w = some (.inr (13, [.int f0, .int f1, .int f2, .int f3, .int f4, .int f5, .int f6, .int f7])))  : ax_Met Ω yX16_from 1 0 0 [.ref w] h (.inl (some (.int f6))) h := by
  refine ax_met q1532 q151 (by decide +kernel) (by decide) hA (Nat.le_of_ble_eq_true rfl) (fun Γ G E => ?_)
  show ax_W Ω Γ 0 0 h 0 [some (.ref w)] []
  refine ax_aload_n (pc := 0) G dX16_from_0 rfl rfl ?_
  refine ax_getf (pc := 1) (v := .int f6) G flX16_13_13 dX16_from_1 (hw) rfl ?_
  exact ax_iretE (pc := 4) G E rfl (rfl) dX16_from_4 (rfl) (rfl)

theorem ct_to_13 {Ω : ax_O} (hA : ax_Amb Ω) {h : ax_H} {w : Nat} {f0 f1 f2 f3 f4 f5 f6 f7 : Int32} (hw : h.1 w = some (.inr (13, [.int f0, .int f1, .int f2, .int f3, .int f4, .int f5, .int f6, .int f7])))  : ax_Met Ω yX16_to 1 0 0 [.ref w] h (.inl (some (.int f7))) h := by
  refine ax_met q1536 q151 (by decide +kernel) (by decide) hA (Nat.le_of_ble_eq_true rfl) (fun Γ G E => ?_)
  show ax_W Ω Γ 0 0 h 0 [some (.ref w)] []
  refine ax_aload_n (pc := 0) G dX16_to_0 rfl rfl ?_
  refine ax_getf (pc := 1) (v := .int f7) G flX16_16_13 dX16_to_1 (hw) rfl ?_
  exact ax_iretE (pc := 4) G E rfl (rfl) dX16_to_4 (rfl) (rfl)

theorem ct_from_14 {Ω : ax_O} (hA : ax_Amb Ω) {h : ax_H} {w : Nat} {f0 f1 f2 f3 f4 f5 f6 : Int32} (hw : h.1 w = some (.inr (14, [.int f0, .int f1, .int f2, .int f3, .int f4, .int f5, .int f6])))  : ax_Met Ω yX17_from 1 0 0 [.ref w] h (.inl (some (.int f5))) h := by
  refine ax_met q1809 q152 (by decide +kernel) (by decide) hA (Nat.le_of_ble_eq_true rfl) (fun Γ G E => ?_)
  show ax_W Ω Γ 0 0 h 0 [some (.ref w)] []
  refine ax_aload_n (pc := 0) G dX17_from_0 rfl rfl ?_
  refine ax_getf (pc := 1) (v := .int f5) G flX17_7_14 dX17_from_1 (hw) rfl ?_
  exact ax_iretE (pc := 4) G E rfl (rfl) dX17_from_4 (rfl) (rfl)

theorem ct_to_14 {Ω : ax_O} (hA : ax_Amb Ω) {h : ax_H} {w : Nat} {f0 f1 f2 f3 f4 f5 f6 : Int32} (hw : h.1 w = some (.inr (14, [.int f0, .int f1, .int f2, .int f3, .int f4, .int f5, .int f6])))  : ax_Met Ω yX17_to 1 0 0 [.ref w] h (.inl (some (.int (f5 + f6)))) h := by
  refine ax_met q1821 q152 (by decide +kernel) (by decide) hA (Nat.le_of_ble_eq_true rfl) (fun Γ G E => ?_)
  show ax_W Ω Γ 0 0 h 0 [some (.ref w)] []
  refine ax_aload_n (pc := 0) G dX17_to_0 rfl rfl ?_
  refine ax_getf (pc := 1) (v := .int f5) G flX17_7_14 dX17_to_1 (hw) rfl ?_
  refine ax_aload_n (pc := 4) G dX17_to_4 rfl rfl ?_
  refine ax_getf (pc := 5) (v := .int f6) G flX17_13_14 dX17_to_5 (hw) rfl ?_
  refine ax_iadd (pc := 8) G dX17_to_8 ?_
  exact ax_iretE (pc := 9) G E rfl (rfl) dX17_to_9 (rfl) (rfl)

theorem ct_grown {Ω : ax_O} (hA : ax_Amb Ω) {h : ax_H} (a b : Int32) : ax_Met Ω yX20_grown 1 0 0 [.int a, .int b] h (.inl (some (.int ((a * b + nI 9) / nI 10)))) h := by
  refine ax_met q1764 q156 (by decide +kernel) (by decide) hA (Nat.le_of_ble_eq_true rfl) (fun Γ G E => ?_)
  show ax_W Ω Γ 0 0 h 0 [some (.int a), some (.int b)] []
  refine ax_iload_n (pc := 0) G dX20_grown_0 rfl rfl ?_
  refine ax_iload_n (pc := 1) G dX20_grown_1 rfl rfl ?_
  refine ax_imul (pc := 2) G dX20_grown_2 ?_
  refine ax_bipush (pc := 3) (v := nI 9) G dX20_grown_3 ib_9 ?_
  refine ax_iadd (pc := 5) G dX20_grown_5 ?_
  refine ax_bipush (pc := 6) (v := nI 10) G dX20_grown_6 ib_10 ?_
  refine ax_idiv (pc := 8) G dX20_grown_8 (by decide) ?_
  exact ax_iretE (pc := 9) G E rfl (rfl) dX20_grown_9 (rfl) (rfl)

theorem wk_proposal {Ω : ax_O} {Γ : ax_F} {y : MethodName} {cc : ByteArray} {nL : Nat} {ret : Option FieldType} {hh : List (Nat × Nat × Nat × Nat)} {d kb nb pc : Nat} {h : ax_H} {ls : List (Option Value)} {rest : List Value} (G : ax_C Ω Γ y cc nL ret hh d) {idx cnt w k : Nat} {pl r : pR} {x : MethodName} {J : String}  (hw : cWk h w pl r k) (F13 : ax_lJ y.cls idx 13 x J yX15_proposal 0) (F14 : ax_lJ y.cls idx 14 x J yX15_proposal 0) (dec : decode cc pc = .ok (.invokeinterface idx cnt, 5)) (hd : 2 ≤ d) (hr : (rest.map fun v => v.category).sum ≤ 20)
    (kk : ax_W Ω Γ kb nb h (pc + 5) ls (.int (pProp pl r k) :: rest)) : ax_W Ω Γ kb nb h pc ls (.ref w :: rest) := by
  rcases hw with ⟨h20, pr, hw⟩ | ⟨h20, re, hw, ht⟩
  · exact ax_cJ1 (kb := kb) (nb := nb) (mc := 0) (ms := 0) (As := []) G (ct_proposal_13 G.1 hw) F13 dec hw rfl (by omega) hr rfl kk
  · exact ax_cJ1 (kb := kb) (nb := nb) (mc := 0) (ms := 0) (As := []) G (ct_proposal_14 G.1 hw) F14 dec hw rfl (by omega) hr rfl kk
theorem wk_lon {Ω : ax_O} {Γ : ax_F} {y : MethodName} {cc : ByteArray} {nL : Nat} {ret : Option FieldType} {hh : List (Nat × Nat × Nat × Nat)} {d kb nb pc : Nat} {h : ax_H} {ls : List (Option Value)} {rest : List Value} (G : ax_C Ω Γ y cc nL ret hh d) {idx cnt w k : Nat} {pl r : pR} {x : MethodName} {J : String}  (hw : cWk h w pl r k) (F13 : ax_lJ y.cls idx 13 x J yX15_lon 0) (F14 : ax_lJ y.cls idx 14 x J yX15_lon 0) (dec : decode cc pc = .ok (.invokeinterface idx cnt, 5)) (hd : 2 ≤ d) (hr : (rest.map fun v => v.category).sum ≤ 20)
    (kk : ax_W Ω Γ kb nb h (pc + 5) ls (.int (pLon pl r k) :: rest)) : ax_W Ω Γ kb nb h pc ls (.ref w :: rest) := by
  rcases hw with ⟨h20, pr, hw⟩ | ⟨h20, re, hw, ht⟩
  · exact ax_cJ1 (kb := kb) (nb := nb) (mc := 0) (ms := 0) (As := []) G (ct_lon_13 G.1 hw) F13 dec hw rfl (by omega) hr rfl kk
  · exact ax_cJ1 (kb := kb) (nb := nb) (mc := 0) (ms := 0) (As := []) G (ct_lon_14 G.1 hw) F14 dec hw rfl (by omega) hr rfl kk
theorem wk_lat {Ω : ax_O} {Γ : ax_F} {y : MethodName} {cc : ByteArray} {nL : Nat} {ret : Option FieldType} {hh : List (Nat × Nat × Nat × Nat)} {d kb nb pc : Nat} {h : ax_H} {ls : List (Option Value)} {rest : List Value} (G : ax_C Ω Γ y cc nL ret hh d) {idx cnt w k : Nat} {pl r : pR} {x : MethodName} {J : String}  (hw : cWk h w pl r k) (F13 : ax_lJ y.cls idx 13 x J yX15_lat 0) (F14 : ax_lJ y.cls idx 14 x J yX15_lat 0) (dec : decode cc pc = .ok (.invokeinterface idx cnt, 5)) (hd : 2 ≤ d) (hr : (rest.map fun v => v.category).sum ≤ 20)
    (kk : ax_W Ω Γ kb nb h (pc + 5) ls (.int (pLat pl r k) :: rest)) : ax_W Ω Γ kb nb h pc ls (.ref w :: rest) := by
  rcases hw with ⟨h20, pr, hw⟩ | ⟨h20, re, hw, ht⟩
  · exact ax_cJ1 (kb := kb) (nb := nb) (mc := 0) (ms := 0) (As := []) G (ct_lat_13 G.1 hw) F13 dec hw rfl (by omega) hr rfl kk
  · exact ax_cJ1 (kb := kb) (nb := nb) (mc := 0) (ms := 0) (As := []) G (ct_lat_14 G.1 hw) F14 dec hw rfl (by omega) hr rfl kk
theorem wk_duration {Ω : ax_O} {Γ : ax_F} {y : MethodName} {cc : ByteArray} {nL : Nat} {ret : Option FieldType} {hh : List (Nat × Nat × Nat × Nat)} {d kb nb pc : Nat} {h : ax_H} {ls : List (Option Value)} {rest : List Value} (G : ax_C Ω Γ y cc nL ret hh d) {idx cnt w k : Nat} {pl r : pR} {x : MethodName} {J : String}  (hw : cWk h w pl r k) (F13 : ax_lJ y.cls idx 13 x J yX15_duration 0) (F14 : ax_lJ y.cls idx 14 x J yX15_duration 0) (dec : decode cc pc = .ok (.invokeinterface idx cnt, 5)) (hd : 2 ≤ d) (hr : (rest.map fun v => v.category).sum ≤ 20)
    (kk : ax_W Ω Γ kb nb h (pc + 5) ls (.int (pDur pl r k) :: rest)) : ax_W Ω Γ kb nb h pc ls (.ref w :: rest) := by
  rcases hw with ⟨h20, pr, hw⟩ | ⟨h20, re, hw, ht⟩
  · exact ax_cJ1 (kb := kb) (nb := nb) (mc := 0) (ms := 0) (As := []) G (ct_duration_13 G.1 hw) F13 dec hw rfl (by omega) hr rfl kk
  · exact ax_cJ1 (kb := kb) (nb := nb) (mc := 0) (ms := 0) (As := []) G (ct_duration_14 G.1 hw) F14 dec hw rfl (by omega) hr rfl kk
theorem wk_push {Ω : ax_O} {Γ : ax_F} {y : MethodName} {cc : ByteArray} {nL : Nat} {ret : Option FieldType} {hh : List (Nat × Nat × Nat × Nat)} {d kb nb pc : Nat} {h : ax_H} {ls : List (Option Value)} {rest : List Value} (G : ax_C Ω Γ y cc nL ret hh d) {idx cnt w k : Nat} {pl r : pR} {x : MethodName} {J : String}  (hw : cWk h w pl r k) (F13 : ax_lJ y.cls idx 13 x J yX15_push 0) (F14 : ax_lJ y.cls idx 14 x J yX15_push 0) (dec : decode cc pc = .ok (.invokeinterface idx cnt, 5)) (hd : 2 ≤ d) (hr : (rest.map fun v => v.category).sum ≤ 20)
    (kk : ax_W Ω Γ kb nb h (pc + 5) ls (.int (pOf pl r k 5 5) :: rest)) : ax_W Ω Γ kb nb h pc ls (.ref w :: rest) := by
  rcases hw with ⟨h20, pr, hw⟩ | ⟨h20, re, hw, ht⟩
  · exact ax_cJ1 (kb := kb) (nb := nb) (mc := 0) (ms := 0) (As := []) G (ct_push_13 G.1 hw) F13 dec hw rfl (by omega) hr rfl kk
  · exact ax_cJ1 (kb := kb) (nb := nb) (mc := 0) (ms := 0) (As := []) G (ct_push_14 G.1 hw) F14 dec hw rfl (by omega) hr rfl kk
theorem wk_from {Ω : ax_O} {Γ : ax_F} {y : MethodName} {cc : ByteArray} {nL : Nat} {ret : Option FieldType} {hh : List (Nat × Nat × Nat × Nat)} {d kb nb pc : Nat} {h : ax_H} {ls : List (Option Value)} {rest : List Value} (G : ax_C Ω Γ y cc nL ret hh d) {idx cnt w k : Nat} {pl r : pR} {x : MethodName} {J : String}  (hw : cWk h w pl r k) (F13 : ax_lJ y.cls idx 13 x J yX16_from 0) (F14 : ax_lJ y.cls idx 14 x J yX17_from 0) (dec : decode cc pc = .ok (.invokeinterface idx cnt, 5)) (hd : 2 ≤ d) (hr : (rest.map fun v => v.category).sum ≤ 20)
    (kk : ax_W Ω Γ kb nb h (pc + 5) ls (.int (pFrom pl r k) :: rest)) : ax_W Ω Γ kb nb h pc ls (.ref w :: rest) := by
  rcases hw with ⟨h20, pr, hw⟩ | ⟨h20, re, hw, ht⟩
  · exact ax_cJ1 (kb := kb) (nb := nb) (mc := 0) (ms := 0) (As := []) G (ct_from_13 G.1 hw) F13 dec hw rfl (by omega) hr rfl kk
  · exact ax_cJ1 (kb := kb) (nb := nb) (mc := 0) (ms := 0) (As := []) G (ct_from_14 G.1 hw) F14 dec hw rfl (by omega) hr rfl kk
theorem wk_to {Ω : ax_O} {Γ : ax_F} {y : MethodName} {cc : ByteArray} {nL : Nat} {ret : Option FieldType} {hh : List (Nat × Nat × Nat × Nat)} {d kb nb pc : Nat} {h : ax_H} {ls : List (Option Value)} {rest : List Value} (G : ax_C Ω Γ y cc nL ret hh d) {idx cnt w k : Nat} {pl r : pR} {x : MethodName} {J : String}  (hw : cWk h w pl r k) (F13 : ax_lJ y.cls idx 13 x J yX16_to 0) (F14 : ax_lJ y.cls idx 14 x J yX17_to 0) (dec : decode cc pc = .ok (.invokeinterface idx cnt, 5)) (hd : 2 ≤ d) (hr : (rest.map fun v => v.category).sum ≤ 20)
    (kk : ax_W Ω Γ kb nb h (pc + 5) ls (.int (pTo pl r k) :: rest)) : ax_W Ω Γ kb nb h pc ls (.ref w :: rest) := by
  rcases hw with ⟨h20, pr, hw⟩ | ⟨h20, re, hw, ht⟩
  · exact ax_cJ1 (kb := kb) (nb := nb) (mc := 0) (ms := 0) (As := []) G (ct_to_13 G.1 hw) F13 dec hw rfl (by omega) hr rfl kk
  · exact ax_cJ1 (kb := kb) (nb := nb) (mc := 0) (ms := 0) (As := []) G (by rw [ht]; exact ct_to_14 G.1 hw) F14 dec hw rfl (by omega) hr rfl kk
theorem ct_growth {Ω : ax_O} (hA : ax_Amb Ω) {h : ax_H} {w k : Nat} {pl r : pR} (hw : cWk h w pl r k) (mi : Int32) : ax_Met Ω yX20_growth 3 0 0 [.ref w, .int mi] h (.inl (some (.int (pGrows pl r k mi)))) h := by
  refine ax_met q1752 q156 (by decide +kernel) (by decide) hA (Nat.le_of_ble_eq_true rfl) (fun Γ G E => ?_)
  show ax_W Ω Γ 0 0 h 0 [some (.ref w), some (.int mi)] []
  refine ax_aload_n (pc := 0) G dX20_growth_0 rfl rfl ?_
  refine wk_push (pc := 1) G (hw) lJX20_1_13 lJX20_1_14 dX20_growth_1 (by decide) (Nat.le_of_ble_eq_true rfl) ?_
  refine ax_iload_n (pc := 6) G dX20_growth_6 rfl rfl ?_
  refine ax_cS1 (pc := 7) (kb := 0) (nb := 0) G (ct_grown hA (pOf pl r k 5 5) mi) lSX20_7 dX20_growth_7 rfl (by decide) (Nat.le_of_ble_eq_true rfl) rfl ?_
  exact ax_iretE (pc := 10) G E rfl (rfl) dX20_growth_10 (rfl) (rfl)

theorem wk_growth {Ω : ax_O} {Γ : ax_F} {y : MethodName} {cc : ByteArray} {nL : Nat} {ret : Option FieldType} {hh : List (Nat × Nat × Nat × Nat)} {d kb nb pc : Nat} {h : ax_H} {ls : List (Option Value)} {rest : List Value} (G : ax_C Ω Γ y cc nL ret hh d) {idx cnt w k : Nat} {pl r : pR} {x : MethodName} {J : String} {mi : Int32} (hw : cWk h w pl r k) (F13 : ax_lJ y.cls idx 13 x J yX20_growth 1) (F14 : ax_lJ y.cls idx 14 x J yX20_growth 1) (dec : decode cc pc = .ok (.invokeinterface idx cnt, 5)) (hd : 4 ≤ d) (hr : (rest.map fun v => v.category).sum ≤ 20)
    (kk : ax_W Ω Γ kb nb h (pc + 5) ls (.int (pGrows pl r k mi) :: rest)) : ax_W Ω Γ kb nb h pc ls (.int mi :: .ref w :: rest) := by
  rcases hw with ⟨h20, pr, hw⟩ | ⟨h20, re, hw, ht⟩
  · exact ax_cJ1 (kb := kb) (nb := nb) (mc := 0) (ms := 0) (As := [.int mi]) G (ct_growth G.1 (Or.inl ⟨h20, pr, hw⟩) mi) F13 dec hw rfl (by omega) hr rfl kk
  · exact ax_cJ1 (kb := kb) (nb := nb) (mc := 0) (ms := 0) (As := [.int mi]) G (ct_growth G.1 (Or.inr ⟨h20, re, hw, ht⟩) mi) F14 dec hw rfl (by omega) hr rfl kk
theorem ct_angleFrom {Ω : ax_O} (hA : ax_Amb Ω) {h : ax_H} {w k : Nat} {pl r : pR} (hw : cWk h w pl r k) (lon lat : Int32) : ax_Met Ω yX19_angleFrom 3 0 0 [.ref w, .int lon, .int lat] h (.inl (some (.int (cAng pl r k lon lat)))) h := by
  refine ax_met q1771 q155 (by decide +kernel) (by decide) hA (Nat.le_of_ble_eq_true rfl) (fun Γ G E => ?_)
  show ax_W Ω Γ 0 0 h 0 [some (.ref w), some (.int lon), some (.int lat)] []
  refine ax_iload_n (pc := 0) G dX19_angleFrom_0 rfl rfl ?_
  refine ax_aload_n (pc := 1) G dX19_angleFrom_1 rfl rfl ?_
  refine wk_lon (pc := 2) G (hw) lJX19_12_13 lJX19_12_14 dX19_angleFrom_2 (by decide) (Nat.le_of_ble_eq_true rfl) ?_
  refine ax_cS1 (pc := 7) (kb := 0) (nb := 0) G (ct_around hA lon (pLon pl r k)) lSX19_18 dX19_angleFrom_7 rfl (by decide) (Nat.le_of_ble_eq_true rfl) rfl ?_
  refine ax_iload_n (pc := 10) G dX19_angleFrom_10 rfl rfl ?_
  refine ax_aload_n (pc := 11) G dX19_angleFrom_11 rfl rfl ?_
  refine wk_lat (pc := 12) G (hw) lJX19_21_13 lJX19_21_14 dX19_angleFrom_12 (by decide) (Nat.le_of_ble_eq_true rfl) ?_
  refine ax_isub (pc := 17) G dX19_angleFrom_17 ?_
  refine ax_abs (pc := 18) G q1793 q1679 q132 q1680 (by decide) (Nat.le_of_ble_eq_true rfl) dX19_angleFrom_18 ?_
  refine ax_max (pc := 21) G q1794 q322 q132 q323 (by decide) (Nat.le_of_ble_eq_true rfl) dX19_angleFrom_21 ?_
  exact ax_iretE (pc := 24) G E rfl (rfl) dX19_angleFrom_24 (rfl) (rfl)

theorem wk_angleFrom {Ω : ax_O} {Γ : ax_F} {y : MethodName} {cc : ByteArray} {nL : Nat} {ret : Option FieldType} {hh : List (Nat × Nat × Nat × Nat)} {d kb nb pc : Nat} {h : ax_H} {ls : List (Option Value)} {rest : List Value} (G : ax_C Ω Γ y cc nL ret hh d) {idx cnt w k : Nat} {pl r : pR} {x : MethodName} {J : String} {lon lat : Int32} (hw : cWk h w pl r k) (F13 : ax_lJ y.cls idx 13 x J yX19_angleFrom 2) (F14 : ax_lJ y.cls idx 14 x J yX19_angleFrom 2) (dec : decode cc pc = .ok (.invokeinterface idx cnt, 5)) (hd : 4 ≤ d) (hr : (rest.map fun v => v.category).sum ≤ 20)
    (kk : ax_W Ω Γ kb nb h (pc + 5) ls (.int (cAng pl r k lon lat) :: rest)) : ax_W Ω Γ kb nb h pc ls (.int lat :: .int lon :: .ref w :: rest) := by
  rcases hw with ⟨h20, pr, hw⟩ | ⟨h20, re, hw, ht⟩
  · exact ax_cJ1 (kb := kb) (nb := nb) (mc := 0) (ms := 0) (As := [.int lon, .int lat]) G (ct_angleFrom G.1 (Or.inl ⟨h20, pr, hw⟩) lon lat) F13 dec hw rfl (by omega) hr rfl kk
  · exact ax_cJ1 (kb := kb) (nb := nb) (mc := 0) (ms := 0) (As := [.int lon, .int lat]) G (ct_angleFrom G.1 (Or.inr ⟨h20, re, hw, ht⟩) lon lat) F14 dec hw rfl (by omega) hr rfl kk
theorem ct_overlaps {Ω : ax_O} (hA : ax_Amb Ω) {h : ax_H} {w : Nat} {f0 f1 : Int32} (hw : h.1 w = some (.inr (15, [.int f0, .int f1]))) (a b : Int32) : ax_Met Ω yX18_overlaps 1 0 0 [.ref w, .int a, .int b] h (.inl (some (.int (bI (decide (a ≤ f1) && decide (f0 < b)))))) h := by
  refine ax_met q1841 q153 (by decide +kernel) (by decide) hA (Nat.le_of_ble_eq_true rfl) (fun Γ G E => ?_)
  show ax_W Ω Γ 0 0 h 0 [some (.ref w), some (.int a), some (.int b)] []
  refine ax_iload_n (pc := 0) G dX18_overlaps_0 rfl rfl ?_
  refine ax_aload_n (pc := 1) G dX18_overlaps_1 rfl rfl ?_
  refine ax_getf (pc := 2) (v := .int f1) G flX18_13_15 dX18_overlaps_2 (hw) rfl ?_
  refine ax_icmp_gt (pc := 5) (tgt := 20) G dX18_overlaps_5 rfl (fun c5 => ?_) (fun c5 => ?_)
  · refine ax_iconst (pc := 20) (v := nI 0) G dX18_overlaps_20 ic_0 ?_
    exact ax_iretE (pc := 21) G E rfl (rfl) dX18_overlaps_21 (by first | (simp only [decide_eq_true (Int32.not_lt.mp ‹¬ f1 < a›), decide_eq_true (Int32.not_le.mp ‹¬ b ≤ f0›)]; rfl) | (simp only [decide_eq_false (Int32.not_le.mpr ‹f1 < a›)]; rfl) | (simp only [decide_eq_false ‹¬ f0 < b›, Bool.and_false]; rfl) | (simp only [decide_eq_false (Int32.not_lt.mpr ‹b ≤ f0›), Bool.and_false]; rfl)) (rfl)
  · refine ax_iload_n (pc := 8) G dX18_overlaps_8 rfl rfl ?_
    refine ax_aload_n (pc := 9) G dX18_overlaps_9 rfl rfl ?_
    refine ax_getf (pc := 10) (v := .int f0) G flX18_7_15 dX18_overlaps_10 (hw) rfl ?_
    refine ax_icmp_le (pc := 13) (tgt := 20) G dX18_overlaps_13 rfl (fun c13 => ?_) (fun c13 => ?_)
    · refine ax_iconst (pc := 20) (v := nI 0) G dX18_overlaps_20 ic_0 ?_
      exact ax_iretE (pc := 21) G E rfl (rfl) dX18_overlaps_21 (by first | (simp only [decide_eq_true (Int32.not_lt.mp ‹¬ f1 < a›), decide_eq_true (Int32.not_le.mp ‹¬ b ≤ f0›)]; rfl) | (simp only [decide_eq_false (Int32.not_le.mpr ‹f1 < a›)]; rfl) | (simp only [decide_eq_false ‹¬ f0 < b›, Bool.and_false]; rfl) | (simp only [decide_eq_false (Int32.not_lt.mpr ‹b ≤ f0›), Bool.and_false]; rfl)) (rfl)
    · refine ax_iconst (pc := 16) (v := nI 1) G dX18_overlaps_16 ic_1 ?_
      refine ax_goto (pc := 17) (tgt := 21) G dX18_overlaps_17 rfl ?_
      exact ax_iretE (pc := 21) G E rfl (rfl) dX18_overlaps_21 (by first | (simp only [decide_eq_true (Int32.not_lt.mp ‹¬ f1 < a›), decide_eq_true (Int32.not_le.mp ‹¬ b ≤ f0›)]; rfl) | (simp only [decide_eq_false (Int32.not_le.mpr ‹f1 < a›)]; rfl) | (simp only [decide_eq_false ‹¬ f0 < b›, Bool.and_false]; rfl) | (simp only [decide_eq_false (Int32.not_lt.mpr ‹b ≤ f0›), Bool.and_false]; rfl)) (rfl)

theorem ct_pcheck {Ω : ax_O} (hA : ax_Amb Ω) {h : ax_H} (i n : Nat) (hi : i < n) (hn : n < 1000) : ax_Met Ω yJ14_checkIndex 1 0 0 [.int (nI i), .int (nI n), .null] h (.inl (some (.int (nI i)))) h := by
  refine ax_met q1023 q135 (by decide +kernel) (by decide) hA (Nat.le_of_ble_eq_true rfl) (fun Γ G E => ?_)
  show ax_W Ω Γ 0 0 h 0 [some (.int (nI i)), some (.int (nI n)), some (.null)] []
  refine ax_iload_n (pc := 0) G dJ14_checkIndex_0 rfl rfl ?_
  refine ax_if_lt (pc := 1) (tgt := 9) G dJ14_checkIndex_1 rfl (fun c9 => absurd c9 (nI_pos (by omega))) (fun _ => ?_)
  refine ax_iload_n (pc := 4) G dJ14_checkIndex_4 rfl rfl ?_
  refine ax_iload_n (pc := 5) G dJ14_checkIndex_5 rfl rfl ?_
  refine ax_icmp_ltN (pc := 6) (tgt := 16) G dJ14_checkIndex_6 rfl (by omega) (by omega) (fun c6 => ?_) (fun c6 => ?_)
  · refine ax_iload_n (pc := 16) G dJ14_checkIndex_16 rfl rfl ?_
    exact ax_iretE (pc := 17) G E rfl (rfl) dJ14_checkIndex_17 (rfl) (rfl)
  · omega

theorem ct_ocheck {Ω : ax_O} (hA : ax_Amb Ω) {h : ax_H} (i n : Nat) (hi : i < n) (hn : n < 1000) : ax_Met Ω yJ20_checkIndex 2 0 0 [.int (nI i), .int (nI n)] h (.inl (some (.int (nI i)))) h := by
  refine ax_met q1213 q148 (by decide +kernel) (by decide) hA (Nat.le_of_ble_eq_true rfl) (fun Γ G E => ?_)
  show ax_W Ω Γ 0 0 h 0 [some (.int (nI i)), some (.int (nI n))] []
  refine ax_iload_n (pc := 0) G dJ20_checkIndex_0 rfl rfl ?_
  refine ax_iload_n (pc := 1) G dJ20_checkIndex_1 rfl rfl ?_
  refine ax_null (pc := 2) G dJ20_checkIndex_2 ?_
  refine ax_cS1 (pc := 3) (kb := 0) (nb := 0) G (ct_pcheck hA i n (by omega) (by omega)) lSJ20_105 dJ20_checkIndex_3 rfl (by decide) (Nat.le_of_ble_eq_true rfl) rfl ?_
  exact ax_iretE (pc := 6) G E rfl (rfl) dJ20_checkIndex_6 (rfl) (rfl)

theorem ct_lsize {Ω : ax_O} (hA : ax_Amb Ω) {h : ax_H} {L e n : Nat} {mc : Int32} (hL : h.1 L = some (.inr (16, [.int mc, .ref e, .int (nI n)])))  : ax_Met Ω yJ2_size 1 0 0 [.ref L] h (.inl (some (.int (nI n)))) h := by
  refine ax_met q797 q122 (by decide +kernel) (by decide) hA (Nat.le_of_ble_eq_true rfl) (fun Γ G E => ?_)
  show ax_W Ω Γ 0 0 h 0 [some (.ref L)] []
  refine ax_aload_n (pc := 0) G dJ2_size_0 rfl rfl ?_
  refine ax_getf (pc := 1) (v := .int (nI n)) G flJ2_48_16 dJ2_size_1 (hL) rfl ?_
  exact ax_iretE (pc := 4) G E rfl (rfl) dJ2_size_4 (rfl) (rfl)

theorem ct_lempty {Ω : ax_O} (hA : ax_Amb Ω) {h : ax_H} {L e n : Nat} {mc : Int32} (hL : h.1 L = some (.inr (16, [.int mc, .ref e, .int (nI n)]))) (hn : n < 1000) : ax_Met Ω yJ2_isEmpty 1 0 0 [.ref L] h (.inl (some (.int (bI (decide (n = 0)))))) h := by
  refine ax_met q1391 q122 (by decide +kernel) (by decide) hA (Nat.le_of_ble_eq_true rfl) (fun Γ G E => ?_)
  show ax_W Ω Γ 0 0 h 0 [some (.ref L)] []
  refine ax_aload_n (pc := 0) G dJ2_isEmpty_0 rfl rfl ?_
  refine ax_getf (pc := 1) (v := .int (nI n)) G flJ2_48_16 dJ2_isEmpty_1 (hL) rfl ?_
  refine ax_if_ne (pc := 4) (tgt := 11) G dJ2_isEmpty_4 rfl (fun c4 => ?_) (fun c4 => ?_)
  · have c4b : ¬ n = 0 := nz_ne c4
    refine ax_iconst (pc := 11) (v := nI 0) G dJ2_isEmpty_11 ic_0 ?_
    exact ax_iretE (pc := 12) G E rfl (rfl) dJ2_isEmpty_12 (by rw [decide_eq_false c4b]; rfl) (rfl)
  · have c4b : n = 0 := nz_eq c4 (by omega)
    refine ax_iconst (pc := 7) (v := nI 1) G dJ2_isEmpty_7 ic_1 ?_
    refine ax_goto (pc := 8) (tgt := 12) G dJ2_isEmpty_8 rfl ?_
    exact ax_iretE (pc := 12) G E rfl (rfl) dJ2_isEmpty_12 (by rw [decide_eq_true c4b]; rfl) (rfl)

theorem ct_lelem {Ω : ax_O} (hA : ax_Amb Ω) {h : ax_H} {L e n cap : Nat} {mc : Int32} {f : Nat → Option Nat} (hL : h.1 L = some (.inr (16, [.int mc, .ref e, .int (nI n)]))) (hE : h.1 e = some (.inl (.object "java/lang/Object", cap, .inr (.inr (.inr (.inr f)))))) {q : Nat} (i : Nat) (hi : i < cap) (hc : cap < 1000) (hf : f i = some q) : ax_Met Ω yJ2_elementData 1 0 0 [.ref L, .int (nI i)] h (.inl (some (.ref q))) h := by
  refine ax_met q1218 q122 (by decide +kernel) (by decide) hA (Nat.le_of_ble_eq_true rfl) (fun Γ G E => ?_)
  show ax_W Ω Γ 0 0 h 0 [some (.ref L), some (.int (nI i))] []
  refine ax_aload_n (pc := 0) G dJ2_elementData_0 rfl rfl ?_
  refine ax_getf (pc := 1) (v := .ref e) G flJ2_9_16 dJ2_elementData_1 (hL) rfl ?_
  refine ax_iload_n (pc := 4) G dJ2_elementData_4 rfl rfl ?_
  refine ax_aaload (pc := 5) G i dJ2_elementData_5 (hE) rfl (by omega) (by omega) ?_
  refine ax_top (show va_rf _ = .ref q from by rw [hf]; rfl) ?_
  exact ax_aretE (pc := 6) G E rfl (Or.inl ⟨_, rfl⟩) (Or.inr ⟨_, rfl⟩) dJ2_elementData_6 (rfl) (rfl)

theorem ct_lget {Ω : ax_O} (hA : ax_Amb Ω) {h : ax_H} {L e n cap : Nat} {mc : Int32} {f : Nat → Option Nat} (hL : h.1 L = some (.inr (16, [.int mc, .ref e, .int (nI n)]))) (hE : h.1 e = some (.inl (.object "java/lang/Object", cap, .inr (.inr (.inr (.inr f)))))) {q : Nat} (i : Nat) (hi : i < n) (hn : n ≤ cap) (hc : cap < 1000) (hf : f i = some q) : ax_Met Ω yJ2_get 3 0 0 [.ref L, .int (nI i)] h (.inl (some (.ref q))) h := by
  refine ax_met q1210 q122 (by decide +kernel) (by decide) hA (Nat.le_of_ble_eq_true rfl) (fun Γ G E => ?_)
  show ax_W Ω Γ 0 0 h 0 [some (.ref L), some (.int (nI i))] []
  refine ax_iload_n (pc := 0) G dJ2_get_0 rfl rfl ?_
  refine ax_aload_n (pc := 1) G dJ2_get_1 rfl rfl ?_
  refine ax_getf (pc := 2) (v := .int (nI n)) G flJ2_48_16 dJ2_get_2 (hL) rfl ?_
  refine ax_cS1 (pc := 5) (kb := 0) (nb := 0) G (ct_ocheck hA i n (by omega) (by omega)) lSJ2_118 dJ2_get_5 rfl (by decide) (Nat.le_of_ble_eq_true rfl) rfl ?_
  refine ax_pop (pc := 8) G dJ2_get_8 rfl ?_
  refine ax_aload_n (pc := 9) G dJ2_get_9 rfl rfl ?_
  refine ax_iload_n (pc := 10) G dJ2_get_10 rfl rfl ?_
  refine ax_cV1 (pc := 11) (kb := 0) (nb := 0) G (ct_lelem hA hL hE i (by omega) hc hf) lVJ2_123_16 dJ2_get_11 (hL) rfl (by decide) (Nat.le_of_ble_eq_true rfl) rfl ?_
  exact ax_aretE (pc := 14) G E rfl (Or.inl ⟨_, rfl⟩) (Or.inr ⟨_, rfl⟩) dJ2_get_14 (rfl) (rfl)

