/-! THE LIBRARY: strings -/
theorem ct_scoder {Ω : ax_O} (hA : ax_Amb Ω) {h : ax_H} {w e : Nat} {hs hz : Int32} (hW : h.1 w = some (.inr (19, [.ref e, .int (nI 0), .int hs, .int hz])))  : ax_Met Ω yJ9_coder 0 0 0 [.ref w] h (.inl (some (.int (nI 0)))) h := by
  refine ax_met q383 q129 (by decide +kernel) (by decide) hA (Nat.le_of_ble_eq_true rfl) (fun Γ G E => ?_)
  show ax_W Ω Γ 0 0 h 0 [some (.ref w)] []
  refine ax_getsZ (pc := 0) G (zCS hA) q384 dJ9_coder_0 ?_
  show ax_W Ω Γ _ _ _ _ _ (.int (nI 1) :: _)
  refine ax_if_eq (pc := 3) (tgt := 13) G dJ9_coder_3 rfl (fun c9 => absurd c9 (by decide)) (fun _ => ?_)
  refine ax_aload_n (pc := 6) G dJ9_coder_6 rfl rfl ?_
  refine ax_getf (pc := 7) (v := .int (nI 0)) G flJ9_15_19 dJ9_coder_7 (hW) rfl ?_
  refine ax_goto (pc := 10) (tgt := 14) G dJ9_coder_10 rfl ?_
  exact ax_iretE (pc := 14) G E rfl (rfl) dJ9_coder_14 (rfl) (rfl)

theorem ct_slatin {Ω : ax_O} (hA : ax_Amb Ω) {h : ax_H} {w e : Nat} {hs hz : Int32} (hW : h.1 w = some (.inr (19, [.ref e, .int (nI 0), .int hs, .int hz])))  : ax_Met Ω yJ9_isLatin1 0 0 0 [.ref w] h (.inl (some (.int (nI 1)))) h := by
  refine ax_met q1111 q129 (by decide +kernel) (by decide) hA (Nat.le_of_ble_eq_true rfl) (fun Γ G E => ?_)
  show ax_W Ω Γ 0 0 h 0 [some (.ref w)] []
  refine ax_getsZ (pc := 0) G (zCS hA) q384 dJ9_isLatin1_0 ?_
  show ax_W Ω Γ _ _ _ _ _ (.int (nI 1) :: _)
  refine ax_if_eq (pc := 3) (tgt := 17) G dJ9_isLatin1_3 rfl (fun c9 => absurd c9 (by decide)) (fun _ => ?_)
  refine ax_aload_n (pc := 6) G dJ9_isLatin1_6 rfl rfl ?_
  refine ax_getf (pc := 7) (v := .int (nI 0)) G flJ9_15_19 dJ9_isLatin1_7 (hW) rfl ?_
  refine ax_if_ne (pc := 10) (tgt := 17) G dJ9_isLatin1_10 rfl (fun c9 => absurd rfl c9) (fun _ => ?_)
  refine ax_iconst (pc := 13) (v := nI 1) G dJ9_isLatin1_13 ic_1 ?_
  refine ax_goto (pc := 14) (tgt := 18) G dJ9_isLatin1_14 rfl ?_
  exact ax_iretE (pc := 18) G E rfl (rfl) dJ9_isLatin1_18 (rfl) (rfl)

theorem ct_slen {Ω : ax_O} (hA : ax_Amb Ω) {h : ax_H} {w e n : Nat} {hs hz : Int32} {a : Nat → Int32} (hW : h.1 w = some (.inr (19, [.ref e, .int (nI 0), .int hs, .int hz]))) (hE : h.1 e = some (.inl (.byte, n, .inl a))) (hn : n < 1000)  : ax_Met Ω yJ9_length 1 0 0 [.ref w] h (.inl (some (.int (nI n)))) h := by
  refine ax_met q379 q129 (by decide +kernel) (by decide) hA (Nat.le_of_ble_eq_true rfl) (fun Γ G E => ?_)
  show ax_W Ω Γ 0 0 h 0 [some (.ref w)] []
  refine ax_aload_n (pc := 0) G dJ9_length_0 rfl rfl ?_
  refine ax_getf (pc := 1) (v := .ref e) G flJ9_9_19 dJ9_length_1 (hW) rfl ?_
  refine ax_alen (pc := 4) (v := nI n) G dJ9_length_4 (hE) rfl ?_
  refine ax_aload_n (pc := 5) G dJ9_length_5 rfl rfl ?_
  refine ax_cV1 (pc := 6) (kb := 0) (nb := 0) G (ct_scoder hA (hW)) lVJ9_335_19 dJ9_length_6 (hW) rfl (by decide) (Nat.le_of_ble_eq_true rfl) rfl ?_
  refine ax_ishr (pc := 9) G dJ9_length_9 ?_
  refine ax_top (show Value.int ((nI n) >>> ((nI 0) &&& 31)) = .int (nI n) from congrArg Value.int (sb_shr0 _)) ?_
  exact ax_iretE (pc := 10) G E rfl (rfl) dJ9_length_10 (rfl) (rfl)

theorem ct_sempty {Ω : ax_O} (hA : ax_Amb Ω) {h : ax_H} {w e n : Nat} {hs hz : Int32} {a : Nat → Int32} (hW : h.1 w = some (.inr (19, [.ref e, .int (nI 0), .int hs, .int hz]))) (hE : h.1 e = some (.inl (.byte, n, .inl a))) (hn : n < 1000)  : ax_Met Ω yJ9_isEmpty 1 0 0 [.ref w] h (.inl (some (.int (bI (decide (n = 0)))))) h := by
  refine ax_met q1186 q129 (by decide +kernel) (by decide) hA (Nat.le_of_ble_eq_true rfl) (fun Γ G E => ?_)
  show ax_W Ω Γ 0 0 h 0 [some (.ref w)] []
  refine ax_aload_n (pc := 0) G dJ9_isEmpty_0 rfl rfl ?_
  refine ax_getf (pc := 1) (v := .ref e) G flJ9_9_19 dJ9_isEmpty_1 (hW) rfl ?_
  refine ax_alen (pc := 4) (v := nI n) G dJ9_isEmpty_4 (hE) rfl ?_
  refine ax_if_ne (pc := 5) (tgt := 12) G dJ9_isEmpty_5 rfl (fun c5 => ?_) (fun c5 => ?_)
  · have c5b : ¬ n = 0 := nz_ne c5
    refine ax_iconst (pc := 12) (v := nI 0) G dJ9_isEmpty_12 ic_0 ?_
    exact ax_iretE (pc := 13) G E rfl (rfl) dJ9_isEmpty_13 (by rw [decide_eq_false c5b]; rfl) (rfl)
  · have c5b : n = 0 := nz_eq c5 (by omega)
    refine ax_iconst (pc := 8) (v := nI 1) G dJ9_isEmpty_8 ic_1 ?_
    refine ax_goto (pc := 9) (tgt := 13) G dJ9_isEmpty_9 rfl ?_
    exact ax_iretE (pc := 13) G E rfl (rfl) dJ9_isEmpty_13 (by rw [decide_eq_true c5b]; rfl) (rfl)

theorem ct_pcheckR {Ω : ax_O} (hA : ax_Amb Ω) {h : ax_H} (t9 : Nat) (i n : Nat) (hi : i < n) (hn : n < 1000) : ax_Met Ω yJ14_checkIndex 1 0 0 [.int (nI i), .int (nI n), .ref t9] h (.inl (some (.int (nI i)))) h := by
  refine ax_met q1023 q135 (by decide +kernel) (by decide) hA (Nat.le_of_ble_eq_true rfl) (fun Γ G E => ?_)
  show ax_W Ω Γ 0 0 h 0 [some (.int (nI i)), some (.int (nI n)), some (.ref t9)] []
  refine ax_iload_n (pc := 0) G dJ14_checkIndex_0 rfl rfl ?_
  refine ax_if_lt (pc := 1) (tgt := 9) G dJ14_checkIndex_1 rfl (fun c9 => absurd c9 (nI_pos (by omega))) (fun _ => ?_)
  refine ax_iload_n (pc := 4) G dJ14_checkIndex_4 rfl rfl ?_
  refine ax_iload_n (pc := 5) G dJ14_checkIndex_5 rfl rfl ?_
  refine ax_icmp_ltN (pc := 6) (tgt := 16) G dJ14_checkIndex_6 rfl (by omega) (by omega) (fun c6 => ?_) (fun c6 => ?_)
  · refine ax_iload_n (pc := 16) G dJ14_checkIndex_16 rfl rfl ?_
    exact ax_iretE (pc := 17) G E rfl (rfl) dJ14_checkIndex_17 (rfl) (rfl)
  · omega

theorem nz_char : ∀ {c : Nat}, c < 256 → narrow .char (.int (nI c)) = .int (nI c) := by decide +kernel
theorem ct_scheck {Ω : ax_O} (hA : ax_Amb Ω) {h : ax_H} (i n : Nat) (hi : i < n) (hn : n < 1000) : ax_Met Ω yJ9_checkIndex 2 0 0 [.int (nI i), .int (nI n)] h (.inl none) h := by
  refine ax_met q1020 q129 (by decide +kernel) (by decide) hA (Nat.le_of_ble_eq_true rfl) (fun Γ G E => ?_)
  show ax_W Ω Γ 0 0 h 0 [some (.int (nI i)), some (.int (nI n))] []
  refine ax_iload_n (pc := 0) G dJ9_checkIndex_0 rfl rfl ?_
  refine ax_iload_n (pc := 1) G dJ9_checkIndex_1 rfl rfl ?_
  rcases zSI hA with z9 | ⟨t9, z9⟩
  · refine ax_getsZ (pc := 2) G z9 q362 dJ9_checkIndex_2 ?_
    refine ax_cS1 (pc := 5) (kb := 0) (nb := 0) G (ct_pcheck hA i n (by omega) (by omega)) lSJ9_1059 dJ9_checkIndex_5 rfl (by decide) (Nat.le_of_ble_eq_true rfl) rfl ?_
    refine ax_pop (pc := 8) G dJ9_checkIndex_8 rfl ?_
    exact ax_vretE (pc := 9) G E rfl dJ9_checkIndex_9 (rfl)
  · refine ax_getsZ (pc := 2) G z9 q362 dJ9_checkIndex_2 ?_
    refine ax_cS1 (pc := 5) (kb := 0) (nb := 0) G (ct_pcheckR hA t9 i n (by omega) (by omega)) lSJ9_1059 dJ9_checkIndex_5 rfl (by decide) (Nat.le_of_ble_eq_true rfl) rfl ?_
    refine ax_pop (pc := 8) G dJ9_checkIndex_8 rfl ?_
    exact ax_vretE (pc := 9) G E rfl dJ9_checkIndex_9 (rfl)

theorem ct_sat1 {Ω : ax_O} (hA : ax_Amb Ω) {h : ax_H} {e n : Nat} {a : Nat → Int32} {t : Nat → Nat} (hE : h.1 e = some (.inl (.byte, n, .inl a))) (hLat : sb_Lat t n a) (hn : n < 1000) (i : Nat) (hi : i < n) : ax_Met Ω yJ15_charAt 3 0 0 [.ref e, .int (nI i)] h (.inl (some (.int (nI (t i))))) h := by
  refine ax_met q1193 q136 (by decide +kernel) (by decide) hA (Nat.le_of_ble_eq_true rfl) (fun Γ G E => ?_)
  show ax_W Ω Γ 0 0 h 0 [some (.ref e), some (.int (nI i))] []
  refine ax_iload_n (pc := 0) G dJ15_charAt_0 rfl rfl ?_
  refine ax_aload_n (pc := 1) G dJ15_charAt_1 rfl rfl ?_
  refine ax_alen (pc := 2) (v := nI n) G dJ15_charAt_2 (hE) rfl ?_
  refine ax_cS0 (pc := 3) (kb := 0) (nb := 0) G (ct_scheck hA i n (by omega) (by omega)) lSJ15_9 dJ15_charAt_3 rfl (by decide) (Nat.le_of_ble_eq_true rfl) rfl ?_
  refine ax_aload_n (pc := 6) G dJ15_charAt_6 rfl rfl ?_
  refine ax_iload_n (pc := 7) G dJ15_charAt_7 rfl rfl ?_
  refine ax_baload (pc := 8) G i dJ15_charAt_8 (hE) rfl (by omega) (by omega) ?_
  refine ax_sipush (pc := 9) (v := nI 255) G dJ15_charAt_9 is_255 ?_
  refine ax_iand (pc := 12) G dJ15_charAt_12 ?_
  refine ax_top (show Value.int ((a i) &&& (nI 255)) = .int (nI (t i)) from congrArg Value.int (by rw [(hLat _ (show i < n by omega)).2]; exact (sb_byte _ (hLat _ (show i < n by omega)).1).1)) ?_
  refine ax_i2c (pc := 13) G dJ15_charAt_13 rfl ?_
  refine ax_top (show Value.int (((nI (t i)).toUInt32 % 65536).toInt32) = .int (nI (t i)) from congrArg Value.int ((sb_byte _ (hLat _ (show i < n by omega)).1).2.1)) ?_
  exact ax_iretE (pc := 14) G E rfl (nz_char (hLat i hi).1) dJ15_charAt_14 (rfl) (rfl)

theorem ct_sat {Ω : ax_O} (hA : ax_Amb Ω) {h : ax_H} {w e n : Nat} {hs hz : Int32} {a : Nat → Int32} {t : Nat → Nat} (hW : h.1 w = some (.inr (19, [.ref e, .int (nI 0), .int hs, .int hz]))) (hE : h.1 e = some (.inl (.byte, n, .inl a))) (hLat : sb_Lat t n a) (hn : n < 1000) (i : Nat) (hi : i < n) : ax_Met Ω yJ9_charAt 4 0 0 [.ref w, .int (nI i)] h (.inl (some (.int (nI (t i))))) h := by
  refine ax_met q1190 q129 (by decide +kernel) (by decide) hA (Nat.le_of_ble_eq_true rfl) (fun Γ G E => ?_)
  show ax_W Ω Γ 0 0 h 0 [some (.ref w), some (.int (nI i))] []
  refine ax_aload_n (pc := 0) G dJ9_charAt_0 rfl rfl ?_
  refine ax_cV1 (pc := 1) (kb := 0) (nb := 0) G (ct_slatin hA (hW)) lVJ9_492_19 dJ9_charAt_1 (hW) rfl (by decide) (Nat.le_of_ble_eq_true rfl) rfl ?_
  refine ax_if_eq (pc := 4) (tgt := 16) G dJ9_charAt_4 rfl (fun c9 => absurd c9 (by decide)) (fun _ => ?_)
  refine ax_aload_n (pc := 7) G dJ9_charAt_7 rfl rfl ?_
  refine ax_getf (pc := 8) (v := .ref e) G flJ9_9_19 dJ9_charAt_8 (hW) rfl ?_
  refine ax_iload_n (pc := 11) G dJ9_charAt_11 rfl rfl ?_
  refine ax_cS1 (pc := 12) (kb := 0) (nb := 0) G (ct_sat1 hA (hE) hLat hn i hi) lSJ9_495 dJ9_charAt_12 rfl (by decide) (Nat.le_of_ble_eq_true rfl) rfl ?_
  exact ax_iretE (pc := 15) G E rfl (nz_char (hLat i hi).1) dJ9_charAt_15 (rfl) (rfl)

/-- the first places are alike -/
def sEqB (a b : Nat → Int32) : Nat → Bool
  | 0 => true
  | k + 1 => sEqB a b k && decide (a k = b k)
theorem sEqB_self {a : Nat → Int32} : ∀ n, sEqB a a n = true
  | 0 => rfl
  | n + 1 => by rw [sEqB, sEqB_self n, decide_eq_true rfl]; rfl
theorem sEqB_f {a b : Nat → Int32} {i : Nat} (hi : ¬ a i = b i) : ∀ n, i < n → sEqB a b n = false
  | 0, h => absurd h (Nat.not_lt_zero _)
  | n + 1, h => by
    rw [sEqB]
    by_cases c : i = n
    · subst c; rw [decide_eq_false hi, Bool.and_false]
    · rw [sEqB_f hi n (by omega), Bool.false_and]
theorem sEqB_s {a b : Nat → Int32} {i : Nat} (h : sEqB a b i = true) (e : a i = b i) : sEqB a b (i + 1) = true := by rw [sEqB, h, decide_eq_true e]; rfl
theorem ct_seq1 {Ω : ax_O} (hA : ax_Amb Ω) {h : ax_H} {e1 e2 n1 n2 : Nat} {a b : Nat → Int32} (hE1 : h.1 e1 = some (.inl (.byte, n1, .inl a))) (hE2 : h.1 e2 = some (.inl (.byte, n2, .inl b))) (hn1 : n1 < 1000) (hn2 : n2 < 1000)  : ax_Met Ω yJ15_equals 0 0 0 [.ref e1, .ref e2] h (.inl (some (.int (bI (decide (n1 = n2) && sEqB a b n1))))) h := by
  refine ax_met q1049 q136 (by decide +kernel) (by decide) hA (Nat.le_of_ble_eq_true rfl) (fun Γ G E => ?_)
  show ax_W Ω Γ 0 0 h 0 [some (.ref e1), some (.ref e2), none] []
  refine ax_aload_n (pc := 0) G dJ15_equals_0 rfl rfl ?_
  refine ax_alen (pc := 1) (v := nI n1) G dJ15_equals_1 (hE1) rfl ?_
  refine ax_aload_n (pc := 2) G dJ15_equals_2 rfl rfl ?_
  refine ax_alen (pc := 3) (v := nI n2) G dJ15_equals_3 (hE2) rfl ?_
  refine ax_icmp_neN (pc := 4) (tgt := 34) G dJ15_equals_4 rfl (by omega) (by omega) (fun c4 => ?_) (fun c4 => ?_)
  · refine ax_iconst (pc := 34) (v := nI 0) G dJ15_equals_34 ic_0 ?_
    exact ax_iretE (pc := 35) G E rfl (rfl) dJ15_equals_35 (by rw [decide_eq_false (by omega)]; rfl) (rfl)
  · refine ax_iconst (pc := 7) (v := nI 0) G dJ15_equals_7 ic_0 ?_
    refine ax_istore_n (pc := 8) G dJ15_equals_8 rfl (Nat.le_of_ble_eq_true rfl) rfl ?_
    have L0 : ∀ (n i : Nat), i + n = n1 → sEqB a b i = true → ax_W Ω Γ 0 0 h 9 [some (.ref e1), some (.ref e2), some (.int (nI i))] [] := by
      intro n
      induction n with
      | zero =>
        intro i hi hv
        have hi9 : n1 = i := by omega
        subst hi9
        refine ax_iload_n (pc := 9) G dJ15_equals_9 rfl rfl ?_
        refine ax_aload_n (pc := 10) G dJ15_equals_10 rfl rfl ?_
        refine ax_alen (pc := 11) (v := nI n1) G dJ15_equals_11 (hE1) rfl ?_
        refine ax_icmp_geN (pc := 12) (tgt := 32) G dJ15_equals_12 rfl (by omega) (by omega) (fun c12 => ?_) (fun c12 => ?_)
        · refine ax_iconst (pc := 32) (v := nI 1) G dJ15_equals_32 ic_1 ?_
          exact ax_iretE (pc := 33) G E rfl (rfl) dJ15_equals_33 (by rw [decide_eq_true (by omega), hv]; rfl) (rfl)
        · omega
      | succ n ih =>
        intro i hi hv
        refine ax_iload_n (pc := 9) G dJ15_equals_9 rfl rfl ?_
        refine ax_aload_n (pc := 10) G dJ15_equals_10 rfl rfl ?_
        refine ax_alen (pc := 11) (v := nI n1) G dJ15_equals_11 (hE1) rfl ?_
        refine ax_icmp_geN (pc := 12) (tgt := 32) G dJ15_equals_12 rfl (by omega) (by omega) (fun c12 => ?_) (fun c12 => ?_)
        · omega
        · refine ax_aload_n (pc := 15) G dJ15_equals_15 rfl rfl ?_
          refine ax_iload_n (pc := 16) G dJ15_equals_16 rfl rfl ?_
          refine ax_baload (pc := 17) G i dJ15_equals_17 (hE1) rfl (by omega) (by omega) ?_
          refine ax_aload_n (pc := 18) G dJ15_equals_18 rfl rfl ?_
          refine ax_iload_n (pc := 19) G dJ15_equals_19 rfl rfl ?_
          refine ax_baload (pc := 20) G i dJ15_equals_20 (hE2) rfl (by omega) (by omega) ?_
          refine ax_icmp_eq (pc := 21) (tgt := 26) G dJ15_equals_21 rfl (fun c21 => ?_) (fun c21 => ?_)
          · refine ax_iincN (pc := 26) (n := 1) G dJ15_equals_26 rfl rfl ic_1 ?_
            refine ax_goto (pc := 29) (tgt := 9) G dJ15_equals_29 rfl ?_
            exact ih (i + 1) (by omega) (sEqB_s hv c21)
          · refine ax_iconst (pc := 24) (v := nI 0) G dJ15_equals_24 ic_0 ?_
            exact ax_iretE (pc := 25) G E rfl (rfl) dJ15_equals_25 (by rw [sEqB_f c21 n1 (by omega), Bool.and_false]; rfl) (rfl)
    exact L0 n1 0 (by omega) rfl

theorem ct_sequals {Ω : ax_O} (hA : ax_Amb Ω) {h : ax_H} {w1 w2 e1 e2 n1 n2 : Nat} {hs1 hz1 hs2 hz2 : Int32} {a b : Nat → Int32} (hW1 : h.1 w1 = some (.inr (19, [.ref e1, .int (nI 0), .int hs1, .int hz1]))) (hW2 : h.1 w2 = some (.inr (19, [.ref e2, .int (nI 0), .int hs2, .int hz2]))) (hE1 : h.1 e1 = some (.inl (.byte, n1, .inl a))) (hE2 : h.1 e2 = some (.inl (.byte, n2, .inl b))) (hn1 : n1 < 1000) (hn2 : n2 < 1000)  : ax_Met Ω yJ9_equals 1 0 0 [.ref w1, .ref w2] h (.inl (some (.int (bI (decide (n1 = n2) && sEqB a b n1))))) h := by
  refine ax_met q1045 q129 (by decide +kernel) (by decide) hA (Nat.le_of_ble_eq_true rfl) (fun Γ G E => ?_)
  show ax_W Ω Γ 0 0 h 0 [some (.ref w1), some (.ref w2), none] []
  refine ax_aload_n (pc := 0) G dJ9_equals_0 rfl rfl ?_
  refine ax_aload_n (pc := 1) G dJ9_equals_1 rfl rfl ?_
  refine ax_acmp_ne (pc := 2) (tgt := 7) (rx := some w1) (ry := some w2) G dJ9_equals_2 rfl (fun c2 => ?_) (fun c2 => ?_)
  · refine ax_aload_n (pc := 7) G dJ9_equals_7 rfl rfl ?_
    refine ax_instY (pc := 8) G q1046 ⟨_, rfl, Or.inl rfl⟩ dJ9_equals_8 (hW2) ?_
    show ax_W Ω Γ _ _ _ _ _ (.int (nI 1) :: _)
    refine ax_if_eq (pc := 11) (tgt := 54) G dJ9_equals_11 rfl (fun c9 => absurd c9 (by decide)) (fun _ => ?_)
    refine ax_aload_n (pc := 14) G dJ9_equals_14 rfl rfl ?_
    refine ax_checkcast (pc := 15) G q1046 ⟨_, rfl, Or.inl rfl⟩ dJ9_equals_15 (hW2) ?_
    refine ax_astore_n (pc := 18) G dJ9_equals_18 rfl (Nat.le_of_ble_eq_true rfl) rfl ?_
    refine ax_getsZ (pc := 19) G (zCS hA) q384 dJ9_equals_19 ?_
    show ax_W Ω Γ _ _ _ _ _ (.int (nI 1) :: _)
    refine ax_if_eq (pc := 22) (tgt := 36) G dJ9_equals_22 rfl (fun c9 => absurd c9 (by decide)) (fun _ => ?_)
    refine ax_aload_n (pc := 25) G dJ9_equals_25 rfl rfl ?_
    refine ax_getf (pc := 26) (v := .int (nI 0)) G flJ9_15_19 dJ9_equals_26 (hW1) rfl ?_
    refine ax_aload_n (pc := 29) G dJ9_equals_29 rfl rfl ?_
    refine ax_getf (pc := 30) (v := .int (nI 0)) G flJ9_15_19 dJ9_equals_30 (hW2) rfl ?_
    refine ax_icmp_ne (pc := 33) (tgt := 54) G dJ9_equals_33 rfl (fun c9 => absurd c9 (by decide)) (fun _ => ?_)
    refine ax_aload_n (pc := 36) G dJ9_equals_36 rfl rfl ?_
    refine ax_getf (pc := 37) (v := .ref e1) G flJ9_9_19 dJ9_equals_37 (hW1) rfl ?_
    refine ax_aload_n (pc := 40) G dJ9_equals_40 rfl rfl ?_
    refine ax_getf (pc := 41) (v := .ref e2) G flJ9_9_19 dJ9_equals_41 (hW2) rfl ?_
    refine ax_cS1 (pc := 44) (kb := 0) (nb := 0) G (ct_seq1 hA hE1 hE2 hn1 hn2) lSJ9_541 dJ9_equals_44 rfl (by decide) (Nat.le_of_ble_eq_true rfl) rfl ?_
    refine ax_if_eq (pc := 47) (tgt := 54) G dJ9_equals_47 rfl (fun c47 => ?_) (fun c47 => ?_)
    · have c47b := bI_f c47
      refine ax_iconst (pc := 54) (v := nI 0) G dJ9_equals_54 ic_0 ?_
      exact ax_iretE (pc := 55) G E rfl (rfl) dJ9_equals_55 (by rw [c47b]; rfl) (rfl)
    · have c47b := bI_t c47
      refine ax_iconst (pc := 50) (v := nI 1) G dJ9_equals_50 ic_1 ?_
      refine ax_goto (pc := 51) (tgt := 55) G dJ9_equals_51 rfl ?_
      exact ax_iretE (pc := 55) G E rfl (rfl) dJ9_equals_55 (by rw [c47b]; rfl) (rfl)
  · refine ax_iconst (pc := 5) (v := nI 1) G dJ9_equals_5 ic_1 ?_
    exact ax_iretE (pc := 6) G E rfl (rfl) dJ9_equals_6 (by
      have q : w1 = w2 := Option.some.inj c2
      subst q
      rw [hW1] at hW2
      have q2 := (List.cons.inj (Prod.mk.inj (Sum.inr.inj (Option.some.inj hW2))).2).1
      have q3 : e1 = e2 := by injection q2
      subst q3
      rw [hE1] at hE2
      have q4 := Sum.inl.inj (Option.some.inj hE2)
      have q5 : n1 = n2 := (Prod.mk.inj (Prod.mk.inj q4).2).1
      have q6 : a = b := Sum.inl.inj (Prod.mk.inj (Prod.mk.inj q4).2).2
      rw [decide_eq_true q5, ← q6, sEqB_self]; rfl) (rfl)

