/-! THE MODEL: texts -/
theorem mt_writesByte {Ω : ax_O} (hA : ax_Amb Ω) {h : ax_H} {m : Nat} {μ : md_S} (hm : Ω.2.1.heap.size ≤ m) {Z : Nat} (hZ : μ.1 24 = nI Z) (hZ8 : Z < 80) (b : Int32) : ax_Met Ω yX10_writesByte 1 0 0 [.ref m, .int b] (md_H h m μ) (.inl none) (md_H h m (md_si (md_sa μ 10 (upd (μ.2 10) Z b)) 24 (nI (Z + 1)))) := by
  refine ax_met q3159 q142 (by decide +kernel) (by decide) hA (Nat.le_of_ble_eq_true rfl) (fun Γ G E => ?_)
  show ax_W Ω Γ 0 0 (md_H h m μ) 0 [some (.ref m), some (.int b)] []
  refine ax_aload_n (pc := 0) G dX10_writesByte_0 rfl rfl ?_
  refine md_get (pc := 1) (v := .ref (m + 10)) G flX10_42_8 dX10_writesByte_1 rfl ?_
  refine ax_aload_n (pc := 4) G dX10_writesByte_4 rfl rfl ?_
  refine md_get (pc := 5) (v := .int (μ.1 24)) G flX10_398_8 dX10_writesByte_5 rfl ?_
  refine ax_top (show Value.int (μ.1 24) = .int (nI Z) from congrArg Value.int (hZ)) ?_
  refine ax_iload_n (pc := 8) G dX10_writesByte_8 rfl rfl ?_
  refine md_st (pc := 9) (i := Z) (j := 10) G 80 dX10_writesByte_9 hm (by decide) (by decide) rfl rfl rfl (by omega) (by decide) ?_
  show ax_W Ω Γ _ _ (md_H h m (md_sa μ 10 (upd (μ.2 10) Z b))) _ _ _
  refine ax_aload_n (pc := 10) G dX10_writesByte_10 rfl rfl ?_
  refine ax_dup (pc := 11) G dX10_writesByte_11 rfl ?_
  refine md_get (pc := 12) (v := .int (μ.1 24)) G flX10_398_8 dX10_writesByte_12 rfl ?_
  refine ax_top (show Value.int (μ.1 24) = .int (nI Z) from congrArg Value.int (hZ)) ?_
  refine ax_iconst (pc := 15) (v := nI 1) G dX10_writesByte_15 ic_1 ?_
  refine ax_iaddN (pc := 16) G dX10_writesByte_16 ?_
  refine md_put (pc := 17) G flX10_398_8 dX10_writesByte_17 hm (by decide) (rfl) rfl rfl ?_
  exact ax_vretE (pc := 20) G E rfl dX10_writesByte_20 (rfl)

theorem mt_writesNumber1 {Ω : ax_O} (hA : ax_Amb Ω) {h : ax_H} {m : Nat} {μ : md_S} (hm : Ω.2.1.heap.size ≤ m) {Z : Nat} (hZ : μ.1 24 = nI Z) (w : Nat) (h0 : 0 ≤ w) (h1 : w < 10) (hZ8 : Z + 1 ≤ 80)  : ax_Met Ω yX10_writesNumber 2 0 0 [.ref m, .int (nI w)] (md_H h m μ) (.inl none) (md_H h m (md_si (md_sa μ 10 (upd (μ.2 10) Z (nI (48 + w / 1 % 10)))) 24 (nI (Z + 1)))) := by
  refine ax_met q3155 q142 (by decide +kernel) (by decide) hA (Nat.le_of_ble_eq_true rfl) (fun Γ G E => ?_)
  show ax_W Ω Γ 0 0 (md_H h m μ) 0 [some (.ref m), some (.int (nI w)), none, none] []
  refine ax_iload_n (pc := 0) G dX10_writesNumber_0 rfl rfl ?_
  refine ax_abs (pc := 1) G q2910 q1679 q132 q1680 (by decide) (Nat.le_of_ble_eq_true rfl) dX10_writesNumber_1 ?_
  refine ax_top (show Value.int (iAbs (nI w)) = .int (nI w) from congrArg Value.int (iAbs_nI (by omega))) ?_
  refine ax_istore_n (pc := 4) G dX10_writesNumber_4 rfl (Nat.le_of_ble_eq_true rfl) rfl ?_
  refine ax_iload_n (pc := 5) G dX10_writesNumber_5 rfl rfl ?_
  refine ax_if_ge (pc := 6) (tgt := 15) G dX10_writesNumber_6 rfl (fun _ => ?_) (fun c9 => absurd (nI_pos' (by omega)) c9)
  refine ax_iconst (pc := 15) (v := nI 1) G dX10_writesNumber_15 ic_1 ?_
  refine ax_istore_n (pc := 16) G dX10_writesNumber_16 rfl (Nat.le_of_ble_eq_true rfl) rfl ?_
  refine ax_iload_n (pc := 17) G dX10_writesNumber_17 rfl rfl ?_
  refine ax_iload_n (pc := 18) G dX10_writesNumber_18 rfl rfl ?_
  refine ax_idivN (pc := 19) G dX10_writesNumber_19 (by omega) (by omega) (by omega) ?_
  refine ax_bipush (pc := 20) (v := nI 10) G dX10_writesNumber_20 ib_10 ?_
  refine ax_icmp_ltN (pc := 22) (tgt := 33) G dX10_writesNumber_22 rfl (by omega) (by omega) (fun c22 => ?_) (fun c22 => ?_)
  · refine ax_iload_n (pc := 33) G dX10_writesNumber_33 rfl rfl ?_
    refine ax_if_le (pc := 34) (tgt := 58) G dX10_writesNumber_34 rfl (fun c9 => absurd c9 (by decide)) (fun _ => ?_)
    refine ax_aload_n (pc := 37) G dX10_writesNumber_37 rfl rfl ?_
    refine ax_bipush (pc := 38) (v := nI 48) G dX10_writesNumber_38 ib_48 ?_
    refine ax_iload_n (pc := 40) G dX10_writesNumber_40 rfl rfl ?_
    refine ax_iload_n (pc := 41) G dX10_writesNumber_41 rfl rfl ?_
    refine ax_idivN (pc := 42) G dX10_writesNumber_42 (by omega) (by omega) (by omega) ?_
    refine ax_bipush (pc := 43) (v := nI 10) G dX10_writesNumber_43 ib_10 ?_
    refine ax_iremN (pc := 45) G dX10_writesNumber_45 (by omega) (by omega) (by omega) ?_
    refine ax_iaddN (pc := 46) G dX10_writesNumber_46 ?_
    refine ax_cV0 (pc := 47) (kb := 0) (nb := 0) G (mt_writesByte hA (h := h) (m := m) (μ := μ) (Z := Z) hm hZ (by omega) (nI (48 + w / 1 % 10))) lVX10_401_8 dX10_writesNumber_47 md_obj rfl (by decide) (Nat.le_of_ble_eq_true rfl) rfl ?_
    show ax_W Ω Γ _ _ (md_H h m (md_si (md_sa μ 10 (upd (μ.2 10) Z (nI (48 + w / 1 % 10)))) 24 (nI (Z + 1)))) _ _ _
    refine ax_iload_n (pc := 50) G dX10_writesNumber_50 rfl rfl ?_
    refine ax_bipush (pc := 51) (v := nI 10) G dX10_writesNumber_51 ib_10 ?_
    refine ax_idivN (pc := 53) G dX10_writesNumber_53 (by omega) (by omega) (by omega) ?_
    refine ax_istore_n (pc := 54) G dX10_writesNumber_54 rfl (Nat.le_of_ble_eq_true rfl) rfl ?_
    refine ax_goto (pc := 55) (tgt := 33) G dX10_writesNumber_55 rfl ?_
    refine ax_iload_n (pc := 33) G dX10_writesNumber_33 rfl rfl ?_
    refine ax_if_le (pc := 34) (tgt := 58) G dX10_writesNumber_34 rfl (fun _ => ?_) (fun c9 => absurd (by decide) c9)
    exact ax_vretE (pc := 58) G E rfl dX10_writesNumber_58 (rfl)
  · omega

theorem mt_writesNumber2 {Ω : ax_O} (hA : ax_Amb Ω) {h : ax_H} {m : Nat} {μ : md_S} (hm : Ω.2.1.heap.size ≤ m) {Z : Nat} (hZ : μ.1 24 = nI Z) (w : Nat) (h0 : 10 ≤ w) (h1 : w < 100) (hZ8 : Z + 2 ≤ 80)  : ax_Met Ω yX10_writesNumber 2 0 0 [.ref m, .int (nI w)] (md_H h m μ) (.inl none) (md_H h m (md_si (md_sa (md_si (md_sa μ 10 (upd (μ.2 10) Z (nI (48 + w / 10 % 10)))) 24 (nI (Z + 1))) 10 (upd (upd (μ.2 10) Z (nI (48 + w / 10 % 10))) (Z + 1) (nI (48 + w / 1 % 10)))) 24 (nI (Z + 1 + 1)))) := by
  refine ax_met q3155 q142 (by decide +kernel) (by decide) hA (Nat.le_of_ble_eq_true rfl) (fun Γ G E => ?_)
  show ax_W Ω Γ 0 0 (md_H h m μ) 0 [some (.ref m), some (.int (nI w)), none, none] []
  refine ax_iload_n (pc := 0) G dX10_writesNumber_0 rfl rfl ?_
  refine ax_abs (pc := 1) G q2910 q1679 q132 q1680 (by decide) (Nat.le_of_ble_eq_true rfl) dX10_writesNumber_1 ?_
  refine ax_top (show Value.int (iAbs (nI w)) = .int (nI w) from congrArg Value.int (iAbs_nI (by omega))) ?_
  refine ax_istore_n (pc := 4) G dX10_writesNumber_4 rfl (Nat.le_of_ble_eq_true rfl) rfl ?_
  refine ax_iload_n (pc := 5) G dX10_writesNumber_5 rfl rfl ?_
  refine ax_if_ge (pc := 6) (tgt := 15) G dX10_writesNumber_6 rfl (fun _ => ?_) (fun c9 => absurd (nI_pos' (by omega)) c9)
  refine ax_iconst (pc := 15) (v := nI 1) G dX10_writesNumber_15 ic_1 ?_
  refine ax_istore_n (pc := 16) G dX10_writesNumber_16 rfl (Nat.le_of_ble_eq_true rfl) rfl ?_
  refine ax_iload_n (pc := 17) G dX10_writesNumber_17 rfl rfl ?_
  refine ax_iload_n (pc := 18) G dX10_writesNumber_18 rfl rfl ?_
  refine ax_idivN (pc := 19) G dX10_writesNumber_19 (by omega) (by omega) (by omega) ?_
  refine ax_bipush (pc := 20) (v := nI 10) G dX10_writesNumber_20 ib_10 ?_
  refine ax_icmp_ltN (pc := 22) (tgt := 33) G dX10_writesNumber_22 rfl (by omega) (by omega) (fun c22 => ?_) (fun c22 => ?_)
  · omega
  · refine ax_iload_n (pc := 25) G dX10_writesNumber_25 rfl rfl ?_
    refine ax_bipush (pc := 26) (v := nI 10) G dX10_writesNumber_26 ib_10 ?_
    refine ax_imulN (pc := 28) G dX10_writesNumber_28 ?_
    refine ax_istore_n (pc := 29) G dX10_writesNumber_29 rfl (Nat.le_of_ble_eq_true rfl) rfl ?_
    refine ax_goto (pc := 30) (tgt := 17) G dX10_writesNumber_30 rfl ?_
    refine ax_iload_n (pc := 17) G dX10_writesNumber_17 rfl rfl ?_
    refine ax_iload_n (pc := 18) G dX10_writesNumber_18 rfl rfl ?_
    refine ax_idivN (pc := 19) G dX10_writesNumber_19 (by omega) (by omega) (by omega) ?_
    refine ax_bipush (pc := 20) (v := nI 10) G dX10_writesNumber_20 ib_10 ?_
    refine ax_icmp_ltN (pc := 22) (tgt := 33) G dX10_writesNumber_22 rfl (by omega) (by omega) (fun c22x => ?_) (fun c22x => ?_)
    · refine ax_iload_n (pc := 33) G dX10_writesNumber_33 rfl rfl ?_
      refine ax_if_le (pc := 34) (tgt := 58) G dX10_writesNumber_34 rfl (fun c9 => absurd c9 (by decide)) (fun _ => ?_)
      refine ax_aload_n (pc := 37) G dX10_writesNumber_37 rfl rfl ?_
      refine ax_bipush (pc := 38) (v := nI 48) G dX10_writesNumber_38 ib_48 ?_
      refine ax_iload_n (pc := 40) G dX10_writesNumber_40 rfl rfl ?_
      refine ax_iload_n (pc := 41) G dX10_writesNumber_41 rfl rfl ?_
      refine ax_idivN (pc := 42) G dX10_writesNumber_42 (by omega) (by omega) (by omega) ?_
      refine ax_bipush (pc := 43) (v := nI 10) G dX10_writesNumber_43 ib_10 ?_
      refine ax_iremN (pc := 45) G dX10_writesNumber_45 (by omega) (by omega) (by omega) ?_
      refine ax_iaddN (pc := 46) G dX10_writesNumber_46 ?_
      refine ax_cV0 (pc := 47) (kb := 0) (nb := 0) G (mt_writesByte hA (h := h) (m := m) (μ := μ) (Z := Z) hm hZ (by omega) (nI (48 + w / 10 % 10))) lVX10_401_8 dX10_writesNumber_47 md_obj rfl (by decide) (Nat.le_of_ble_eq_true rfl) rfl ?_
      show ax_W Ω Γ _ _ (md_H h m (md_si (md_sa μ 10 (upd (μ.2 10) Z (nI (48 + w / 10 % 10)))) 24 (nI (Z + 1)))) _ _ _
      refine ax_iload_n (pc := 50) G dX10_writesNumber_50 rfl rfl ?_
      refine ax_bipush (pc := 51) (v := nI 10) G dX10_writesNumber_51 ib_10 ?_
      refine ax_idivN (pc := 53) G dX10_writesNumber_53 (by omega) (by omega) (by omega) ?_
      refine ax_istore_n (pc := 54) G dX10_writesNumber_54 rfl (Nat.le_of_ble_eq_true rfl) rfl ?_
      refine ax_goto (pc := 55) (tgt := 33) G dX10_writesNumber_55 rfl ?_
      refine ax_iload_n (pc := 33) G dX10_writesNumber_33 rfl rfl ?_
      refine ax_if_le (pc := 34) (tgt := 58) G dX10_writesNumber_34 rfl (fun c9 => absurd c9 (by decide)) (fun _ => ?_)
      refine ax_aload_n (pc := 37) G dX10_writesNumber_37 rfl rfl ?_
      refine ax_bipush (pc := 38) (v := nI 48) G dX10_writesNumber_38 ib_48 ?_
      refine ax_iload_n (pc := 40) G dX10_writesNumber_40 rfl rfl ?_
      refine ax_iload_n (pc := 41) G dX10_writesNumber_41 rfl rfl ?_
      refine ax_idivN (pc := 42) G dX10_writesNumber_42 (by omega) (by omega) (by omega) ?_
      refine ax_bipush (pc := 43) (v := nI 10) G dX10_writesNumber_43 ib_10 ?_
      refine ax_iremN (pc := 45) G dX10_writesNumber_45 (by omega) (by omega) (by omega) ?_
      refine ax_iaddN (pc := 46) G dX10_writesNumber_46 ?_
      refine ax_cV0 (pc := 47) (kb := 0) (nb := 0) G (mt_writesByte hA (h := h) (m := m) (μ := (md_si (md_sa μ 10 (upd (μ.2 10) Z (nI (48 + w / 10 % 10)))) 24 (nI (Z + 1)))) (Z := (Z + 1)) hm rfl (by omega) (nI (48 + w / 1 % 10))) lVX10_401_8 dX10_writesNumber_47 md_obj rfl (by decide) (Nat.le_of_ble_eq_true rfl) rfl ?_
      show ax_W Ω Γ _ _ (md_H h m (md_si (md_sa (md_si (md_sa μ 10 (upd (μ.2 10) Z (nI (48 + w / 10 % 10)))) 24 (nI (Z + 1))) 10 (upd (upd (μ.2 10) Z (nI (48 + w / 10 % 10))) (Z + 1) (nI (48 + w / 1 % 10)))) 24 (nI (Z + 1 + 1)))) _ _ _
      refine ax_iload_n (pc := 50) G dX10_writesNumber_50 rfl rfl ?_
      refine ax_bipush (pc := 51) (v := nI 10) G dX10_writesNumber_51 ib_10 ?_
      refine ax_idivN (pc := 53) G dX10_writesNumber_53 (by omega) (by omega) (by omega) ?_
      refine ax_istore_n (pc := 54) G dX10_writesNumber_54 rfl (Nat.le_of_ble_eq_true rfl) rfl ?_
      refine ax_goto (pc := 55) (tgt := 33) G dX10_writesNumber_55 rfl ?_
      refine ax_iload_n (pc := 33) G dX10_writesNumber_33 rfl rfl ?_
      refine ax_if_le (pc := 34) (tgt := 58) G dX10_writesNumber_34 rfl (fun _ => ?_) (fun c9 => absurd (by decide) c9)
      exact ax_vretE (pc := 58) G E rfl dX10_writesNumber_58 (rfl)
    · omega

theorem mt_writesNumber3 {Ω : ax_O} (hA : ax_Amb Ω) {h : ax_H} {m : Nat} {μ : md_S} (hm : Ω.2.1.heap.size ≤ m) {Z : Nat} (hZ : μ.1 24 = nI Z) (w : Nat) (h0 : 100 ≤ w) (h1 : w < 1000) (hZ8 : Z + 3 ≤ 80)  : ax_Met Ω yX10_writesNumber 2 0 0 [.ref m, .int (nI w)] (md_H h m μ) (.inl none) (md_H h m (md_si (md_sa (md_si (md_sa (md_si (md_sa μ 10 (upd (μ.2 10) Z (nI (48 + w / 100 % 10)))) 24 (nI (Z + 1))) 10 (upd (upd (μ.2 10) Z (nI (48 + w / 100 % 10))) (Z + 1) (nI (48 + w / 10 % 10)))) 24 (nI (Z + 1 + 1))) 10 (upd (upd (upd (μ.2 10) Z (nI (48 + w / 100 % 10))) (Z + 1) (nI (48 + w / 10 % 10))) (Z + 1 + 1) (nI (48 + w / 1 % 10)))) 24 (nI (Z + 1 + 1 + 1)))) := by
  refine ax_met q3155 q142 (by decide +kernel) (by decide) hA (Nat.le_of_ble_eq_true rfl) (fun Γ G E => ?_)
  show ax_W Ω Γ 0 0 (md_H h m μ) 0 [some (.ref m), some (.int (nI w)), none, none] []
  refine ax_iload_n (pc := 0) G dX10_writesNumber_0 rfl rfl ?_
  refine ax_abs (pc := 1) G q2910 q1679 q132 q1680 (by decide) (Nat.le_of_ble_eq_true rfl) dX10_writesNumber_1 ?_
  refine ax_top (show Value.int (iAbs (nI w)) = .int (nI w) from congrArg Value.int (iAbs_nI (by omega))) ?_
  refine ax_istore_n (pc := 4) G dX10_writesNumber_4 rfl (Nat.le_of_ble_eq_true rfl) rfl ?_
  refine ax_iload_n (pc := 5) G dX10_writesNumber_5 rfl rfl ?_
  refine ax_if_ge (pc := 6) (tgt := 15) G dX10_writesNumber_6 rfl (fun _ => ?_) (fun c9 => absurd (nI_pos' (by omega)) c9)
  refine ax_iconst (pc := 15) (v := nI 1) G dX10_writesNumber_15 ic_1 ?_
  refine ax_istore_n (pc := 16) G dX10_writesNumber_16 rfl (Nat.le_of_ble_eq_true rfl) rfl ?_
  refine ax_iload_n (pc := 17) G dX10_writesNumber_17 rfl rfl ?_
  refine ax_iload_n (pc := 18) G dX10_writesNumber_18 rfl rfl ?_
  refine ax_idivN (pc := 19) G dX10_writesNumber_19 (by omega) (by omega) (by omega) ?_
  refine ax_bipush (pc := 20) (v := nI 10) G dX10_writesNumber_20 ib_10 ?_
  refine ax_icmp_ltN (pc := 22) (tgt := 33) G dX10_writesNumber_22 rfl (by omega) (by omega) (fun c22 => ?_) (fun c22 => ?_)
  · omega
  · refine ax_iload_n (pc := 25) G dX10_writesNumber_25 rfl rfl ?_
    refine ax_bipush (pc := 26) (v := nI 10) G dX10_writesNumber_26 ib_10 ?_
    refine ax_imulN (pc := 28) G dX10_writesNumber_28 ?_
    refine ax_istore_n (pc := 29) G dX10_writesNumber_29 rfl (Nat.le_of_ble_eq_true rfl) rfl ?_
    refine ax_goto (pc := 30) (tgt := 17) G dX10_writesNumber_30 rfl ?_
    refine ax_iload_n (pc := 17) G dX10_writesNumber_17 rfl rfl ?_
    refine ax_iload_n (pc := 18) G dX10_writesNumber_18 rfl rfl ?_
    refine ax_idivN (pc := 19) G dX10_writesNumber_19 (by omega) (by omega) (by omega) ?_
    refine ax_bipush (pc := 20) (v := nI 10) G dX10_writesNumber_20 ib_10 ?_
    refine ax_icmp_ltN (pc := 22) (tgt := 33) G dX10_writesNumber_22 rfl (by omega) (by omega) (fun c22x => ?_) (fun c22x => ?_)
    · omega
    · refine ax_iload_n (pc := 25) G dX10_writesNumber_25 rfl rfl ?_
      refine ax_bipush (pc := 26) (v := nI 10) G dX10_writesNumber_26 ib_10 ?_
      refine ax_imulN (pc := 28) G dX10_writesNumber_28 ?_
      refine ax_istore_n (pc := 29) G dX10_writesNumber_29 rfl (Nat.le_of_ble_eq_true rfl) rfl ?_
      refine ax_goto (pc := 30) (tgt := 17) G dX10_writesNumber_30 rfl ?_
      refine ax_iload_n (pc := 17) G dX10_writesNumber_17 rfl rfl ?_
      refine ax_iload_n (pc := 18) G dX10_writesNumber_18 rfl rfl ?_
      refine ax_idivN (pc := 19) G dX10_writesNumber_19 (by omega) (by omega) (by omega) ?_
      refine ax_bipush (pc := 20) (v := nI 10) G dX10_writesNumber_20 ib_10 ?_
      refine ax_icmp_ltN (pc := 22) (tgt := 33) G dX10_writesNumber_22 rfl (by omega) (by omega) (fun c22xx => ?_) (fun c22xx => ?_)
      · refine ax_iload_n (pc := 33) G dX10_writesNumber_33 rfl rfl ?_
        refine ax_if_le (pc := 34) (tgt := 58) G dX10_writesNumber_34 rfl (fun c9 => absurd c9 (by decide)) (fun _ => ?_)
        refine ax_aload_n (pc := 37) G dX10_writesNumber_37 rfl rfl ?_
        refine ax_bipush (pc := 38) (v := nI 48) G dX10_writesNumber_38 ib_48 ?_
        refine ax_iload_n (pc := 40) G dX10_writesNumber_40 rfl rfl ?_
        refine ax_iload_n (pc := 41) G dX10_writesNumber_41 rfl rfl ?_
        refine ax_idivN (pc := 42) G dX10_writesNumber_42 (by omega) (by omega) (by omega) ?_
        refine ax_bipush (pc := 43) (v := nI 10) G dX10_writesNumber_43 ib_10 ?_
        refine ax_iremN (pc := 45) G dX10_writesNumber_45 (by omega) (by omega) (by omega) ?_
        refine ax_iaddN (pc := 46) G dX10_writesNumber_46 ?_
        refine ax_cV0 (pc := 47) (kb := 0) (nb := 0) G (mt_writesByte hA (h := h) (m := m) (μ := μ) (Z := Z) hm hZ (by omega) (nI (48 + w / 100 % 10))) lVX10_401_8 dX10_writesNumber_47 md_obj rfl (by decide) (Nat.le_of_ble_eq_true rfl) rfl ?_
        show ax_W Ω Γ _ _ (md_H h m (md_si (md_sa μ 10 (upd (μ.2 10) Z (nI (48 + w / 100 % 10)))) 24 (nI (Z + 1)))) _ _ _
        refine ax_iload_n (pc := 50) G dX10_writesNumber_50 rfl rfl ?_
        refine ax_bipush (pc := 51) (v := nI 10) G dX10_writesNumber_51 ib_10 ?_
        refine ax_idivN (pc := 53) G dX10_writesNumber_53 (by omega) (by omega) (by omega) ?_
        refine ax_istore_n (pc := 54) G dX10_writesNumber_54 rfl (Nat.le_of_ble_eq_true rfl) rfl ?_
        refine ax_goto (pc := 55) (tgt := 33) G dX10_writesNumber_55 rfl ?_
        refine ax_iload_n (pc := 33) G dX10_writesNumber_33 rfl rfl ?_
        refine ax_if_le (pc := 34) (tgt := 58) G dX10_writesNumber_34 rfl (fun c9 => absurd c9 (by decide)) (fun _ => ?_)
        refine ax_aload_n (pc := 37) G dX10_writesNumber_37 rfl rfl ?_
        refine ax_bipush (pc := 38) (v := nI 48) G dX10_writesNumber_38 ib_48 ?_
        refine ax_iload_n (pc := 40) G dX10_writesNumber_40 rfl rfl ?_
        refine ax_iload_n (pc := 41) G dX10_writesNumber_41 rfl rfl ?_
        refine ax_idivN (pc := 42) G dX10_writesNumber_42 (by omega) (by omega) (by omega) ?_
        refine ax_bipush (pc := 43) (v := nI 10) G dX10_writesNumber_43 ib_10 ?_
        refine ax_iremN (pc := 45) G dX10_writesNumber_45 (by omega) (by omega) (by omega) ?_
        refine ax_iaddN (pc := 46) G dX10_writesNumber_46 ?_
        refine ax_cV0 (pc := 47) (kb := 0) (nb := 0) G (mt_writesByte hA (h := h) (m := m) (μ := (md_si (md_sa μ 10 (upd (μ.2 10) Z (nI (48 + w / 100 % 10)))) 24 (nI (Z + 1)))) (Z := (Z + 1)) hm rfl (by omega) (nI (48 + w / 10 % 10))) lVX10_401_8 dX10_writesNumber_47 md_obj rfl (by decide) (Nat.le_of_ble_eq_true rfl) rfl ?_
        show ax_W Ω Γ _ _ (md_H h m (md_si (md_sa (md_si (md_sa μ 10 (upd (μ.2 10) Z (nI (48 + w / 100 % 10)))) 24 (nI (Z + 1))) 10 (upd (upd (μ.2 10) Z (nI (48 + w / 100 % 10))) (Z + 1) (nI (48 + w / 10 % 10)))) 24 (nI (Z + 1 + 1)))) _ _ _
        refine ax_iload_n (pc := 50) G dX10_writesNumber_50 rfl rfl ?_
        refine ax_bipush (pc := 51) (v := nI 10) G dX10_writesNumber_51 ib_10 ?_
        refine ax_idivN (pc := 53) G dX10_writesNumber_53 (by omega) (by omega) (by omega) ?_
        refine ax_istore_n (pc := 54) G dX10_writesNumber_54 rfl (Nat.le_of_ble_eq_true rfl) rfl ?_
        refine ax_goto (pc := 55) (tgt := 33) G dX10_writesNumber_55 rfl ?_
        refine ax_iload_n (pc := 33) G dX10_writesNumber_33 rfl rfl ?_
        refine ax_if_le (pc := 34) (tgt := 58) G dX10_writesNumber_34 rfl (fun c9 => absurd c9 (by decide)) (fun _ => ?_)
        refine ax_aload_n (pc := 37) G dX10_writesNumber_37 rfl rfl ?_
        refine ax_bipush (pc := 38) (v := nI 48) G dX10_writesNumber_38 ib_48 ?_
        refine ax_iload_n (pc := 40) G dX10_writesNumber_40 rfl rfl ?_
        refine ax_iload_n (pc := 41) G dX10_writesNumber_41 rfl rfl ?_
        refine ax_idivN (pc := 42) G dX10_writesNumber_42 (by omega) (by omega) (by omega) ?_
        refine ax_bipush (pc := 43) (v := nI 10) G dX10_writesNumber_43 ib_10 ?_
        refine ax_iremN (pc := 45) G dX10_writesNumber_45 (by omega) (by omega) (by omega) ?_
        refine ax_iaddN (pc := 46) G dX10_writesNumber_46 ?_
        refine ax_cV0 (pc := 47) (kb := 0) (nb := 0) G (mt_writesByte hA (h := h) (m := m) (μ := (md_si (md_sa (md_si (md_sa μ 10 (upd (μ.2 10) Z (nI (48 + w / 100 % 10)))) 24 (nI (Z + 1))) 10 (upd (upd (μ.2 10) Z (nI (48 + w / 100 % 10))) (Z + 1) (nI (48 + w / 10 % 10)))) 24 (nI (Z + 1 + 1)))) (Z := (Z + 1 + 1)) hm rfl (by omega) (nI (48 + w / 1 % 10))) lVX10_401_8 dX10_writesNumber_47 md_obj rfl (by decide) (Nat.le_of_ble_eq_true rfl) rfl ?_
        show ax_W Ω Γ _ _ (md_H h m (md_si (md_sa (md_si (md_sa (md_si (md_sa μ 10 (upd (μ.2 10) Z (nI (48 + w / 100 % 10)))) 24 (nI (Z + 1))) 10 (upd (upd (μ.2 10) Z (nI (48 + w / 100 % 10))) (Z + 1) (nI (48 + w / 10 % 10)))) 24 (nI (Z + 1 + 1))) 10 (upd (upd (upd (μ.2 10) Z (nI (48 + w / 100 % 10))) (Z + 1) (nI (48 + w / 10 % 10))) (Z + 1 + 1) (nI (48 + w / 1 % 10)))) 24 (nI (Z + 1 + 1 + 1)))) _ _ _
        refine ax_iload_n (pc := 50) G dX10_writesNumber_50 rfl rfl ?_
        refine ax_bipush (pc := 51) (v := nI 10) G dX10_writesNumber_51 ib_10 ?_
        refine ax_idivN (pc := 53) G dX10_writesNumber_53 (by omega) (by omega) (by omega) ?_
        refine ax_istore_n (pc := 54) G dX10_writesNumber_54 rfl (Nat.le_of_ble_eq_true rfl) rfl ?_
        refine ax_goto (pc := 55) (tgt := 33) G dX10_writesNumber_55 rfl ?_
        refine ax_iload_n (pc := 33) G dX10_writesNumber_33 rfl rfl ?_
        refine ax_if_le (pc := 34) (tgt := 58) G dX10_writesNumber_34 rfl (fun _ => ?_) (fun c9 => absurd (by decide) c9)
        exact ax_vretE (pc := 58) G E rfl dX10_writesNumber_58 (rfl)
      · omega

theorem mt_writesNumber4 {Ω : ax_O} (hA : ax_Amb Ω) {h : ax_H} {m : Nat} {μ : md_S} (hm : Ω.2.1.heap.size ≤ m) {Z : Nat} (hZ : μ.1 24 = nI Z) (w : Nat) (h0 : 1000 ≤ w) (h1 : w < 10000) (hZ8 : Z + 4 ≤ 80)  : ax_Met Ω yX10_writesNumber 2 0 0 [.ref m, .int (nI w)] (md_H h m μ) (.inl none) (md_H h m (md_si (md_sa (md_si (md_sa (md_si (md_sa (md_si (md_sa μ 10 (upd (μ.2 10) Z (nI (48 + w / 1000 % 10)))) 24 (nI (Z + 1))) 10 (upd (upd (μ.2 10) Z (nI (48 + w / 1000 % 10))) (Z + 1) (nI (48 + w / 100 % 10)))) 24 (nI (Z + 1 + 1))) 10 (upd (upd (upd (μ.2 10) Z (nI (48 + w / 1000 % 10))) (Z + 1) (nI (48 + w / 100 % 10))) (Z + 1 + 1) (nI (48 + w / 10 % 10)))) 24 (nI (Z + 1 + 1 + 1))) 10 (upd (upd (upd (upd (μ.2 10) Z (nI (48 + w / 1000 % 10))) (Z + 1) (nI (48 + w / 100 % 10))) (Z + 1 + 1) (nI (48 + w / 10 % 10))) (Z + 1 + 1 + 1) (nI (48 + w / 1 % 10)))) 24 (nI (Z + 1 + 1 + 1 + 1)))) := by
  refine ax_met q3155 q142 (by decide +kernel) (by decide) hA (Nat.le_of_ble_eq_true rfl) (fun Γ G E => ?_)
  show ax_W Ω Γ 0 0 (md_H h m μ) 0 [some (.ref m), some (.int (nI w)), none, none] []
  refine ax_iload_n (pc := 0) G dX10_writesNumber_0 rfl rfl ?_
  refine ax_abs (pc := 1) G q2910 q1679 q132 q1680 (by decide) (Nat.le_of_ble_eq_true rfl) dX10_writesNumber_1 ?_
  refine ax_top (show Value.int (iAbs (nI w)) = .int (nI w) from congrArg Value.int (iAbs_nI (by omega))) ?_
  refine ax_istore_n (pc := 4) G dX10_writesNumber_4 rfl (Nat.le_of_ble_eq_true rfl) rfl ?_
  refine ax_iload_n (pc := 5) G dX10_writesNumber_5 rfl rfl ?_
  refine ax_if_ge (pc := 6) (tgt := 15) G dX10_writesNumber_6 rfl (fun _ => ?_) (fun c9 => absurd (nI_pos' (by omega)) c9)
  refine ax_iconst (pc := 15) (v := nI 1) G dX10_writesNumber_15 ic_1 ?_
  refine ax_istore_n (pc := 16) G dX10_writesNumber_16 rfl (Nat.le_of_ble_eq_true rfl) rfl ?_
  refine ax_iload_n (pc := 17) G dX10_writesNumber_17 rfl rfl ?_
  refine ax_iload_n (pc := 18) G dX10_writesNumber_18 rfl rfl ?_
  refine ax_idivN (pc := 19) G dX10_writesNumber_19 (by omega) (by omega) (by omega) ?_
  refine ax_bipush (pc := 20) (v := nI 10) G dX10_writesNumber_20 ib_10 ?_
  refine ax_icmp_ltN (pc := 22) (tgt := 33) G dX10_writesNumber_22 rfl (by omega) (by omega) (fun c22 => ?_) (fun c22 => ?_)
  · omega
  · refine ax_iload_n (pc := 25) G dX10_writesNumber_25 rfl rfl ?_
    refine ax_bipush (pc := 26) (v := nI 10) G dX10_writesNumber_26 ib_10 ?_
    refine ax_imulN (pc := 28) G dX10_writesNumber_28 ?_
    refine ax_istore_n (pc := 29) G dX10_writesNumber_29 rfl (Nat.le_of_ble_eq_true rfl) rfl ?_
    refine ax_goto (pc := 30) (tgt := 17) G dX10_writesNumber_30 rfl ?_
    refine ax_iload_n (pc := 17) G dX10_writesNumber_17 rfl rfl ?_
    refine ax_iload_n (pc := 18) G dX10_writesNumber_18 rfl rfl ?_
    refine ax_idivN (pc := 19) G dX10_writesNumber_19 (by omega) (by omega) (by omega) ?_
    refine ax_bipush (pc := 20) (v := nI 10) G dX10_writesNumber_20 ib_10 ?_
    refine ax_icmp_ltN (pc := 22) (tgt := 33) G dX10_writesNumber_22 rfl (by omega) (by omega) (fun c22x => ?_) (fun c22x => ?_)
    · omega
    · refine ax_iload_n (pc := 25) G dX10_writesNumber_25 rfl rfl ?_
      refine ax_bipush (pc := 26) (v := nI 10) G dX10_writesNumber_26 ib_10 ?_
      refine ax_imulN (pc := 28) G dX10_writesNumber_28 ?_
      refine ax_istore_n (pc := 29) G dX10_writesNumber_29 rfl (Nat.le_of_ble_eq_true rfl) rfl ?_
      refine ax_goto (pc := 30) (tgt := 17) G dX10_writesNumber_30 rfl ?_
      refine ax_iload_n (pc := 17) G dX10_writesNumber_17 rfl rfl ?_
      refine ax_iload_n (pc := 18) G dX10_writesNumber_18 rfl rfl ?_
      refine ax_idivN (pc := 19) G dX10_writesNumber_19 (by omega) (by omega) (by omega) ?_
      refine ax_bipush (pc := 20) (v := nI 10) G dX10_writesNumber_20 ib_10 ?_
      refine ax_icmp_ltN (pc := 22) (tgt := 33) G dX10_writesNumber_22 rfl (by omega) (by omega) (fun c22xx => ?_) (fun c22xx => ?_)
      · omega
      · refine ax_iload_n (pc := 25) G dX10_writesNumber_25 rfl rfl ?_
        refine ax_bipush (pc := 26) (v := nI 10) G dX10_writesNumber_26 ib_10 ?_
        refine ax_imulN (pc := 28) G dX10_writesNumber_28 ?_
        refine ax_istore_n (pc := 29) G dX10_writesNumber_29 rfl (Nat.le_of_ble_eq_true rfl) rfl ?_
        refine ax_goto (pc := 30) (tgt := 17) G dX10_writesNumber_30 rfl ?_
        refine ax_iload_n (pc := 17) G dX10_writesNumber_17 rfl rfl ?_
        refine ax_iload_n (pc := 18) G dX10_writesNumber_18 rfl rfl ?_
        refine ax_idivN (pc := 19) G dX10_writesNumber_19 (by omega) (by omega) (by omega) ?_
        refine ax_bipush (pc := 20) (v := nI 10) G dX10_writesNumber_20 ib_10 ?_
        refine ax_icmp_ltN (pc := 22) (tgt := 33) G dX10_writesNumber_22 rfl (by omega) (by omega) (fun c22xxx => ?_) (fun c22xxx => ?_)
        · refine ax_iload_n (pc := 33) G dX10_writesNumber_33 rfl rfl ?_
          refine ax_if_le (pc := 34) (tgt := 58) G dX10_writesNumber_34 rfl (fun c9 => absurd c9 (by decide)) (fun _ => ?_)
          refine ax_aload_n (pc := 37) G dX10_writesNumber_37 rfl rfl ?_
          refine ax_bipush (pc := 38) (v := nI 48) G dX10_writesNumber_38 ib_48 ?_
          refine ax_iload_n (pc := 40) G dX10_writesNumber_40 rfl rfl ?_
          refine ax_iload_n (pc := 41) G dX10_writesNumber_41 rfl rfl ?_
          refine ax_idivN (pc := 42) G dX10_writesNumber_42 (by omega) (by omega) (by omega) ?_
          refine ax_bipush (pc := 43) (v := nI 10) G dX10_writesNumber_43 ib_10 ?_
          refine ax_iremN (pc := 45) G dX10_writesNumber_45 (by omega) (by omega) (by omega) ?_
          refine ax_iaddN (pc := 46) G dX10_writesNumber_46 ?_
          refine ax_cV0 (pc := 47) (kb := 0) (nb := 0) G (mt_writesByte hA (h := h) (m := m) (μ := μ) (Z := Z) hm hZ (by omega) (nI (48 + w / 1000 % 10))) lVX10_401_8 dX10_writesNumber_47 md_obj rfl (by decide) (Nat.le_of_ble_eq_true rfl) rfl ?_
          show ax_W Ω Γ _ _ (md_H h m (md_si (md_sa μ 10 (upd (μ.2 10) Z (nI (48 + w / 1000 % 10)))) 24 (nI (Z + 1)))) _ _ _
          refine ax_iload_n (pc := 50) G dX10_writesNumber_50 rfl rfl ?_
          refine ax_bipush (pc := 51) (v := nI 10) G dX10_writesNumber_51 ib_10 ?_
          refine ax_idivN (pc := 53) G dX10_writesNumber_53 (by omega) (by omega) (by omega) ?_
          refine ax_istore_n (pc := 54) G dX10_writesNumber_54 rfl (Nat.le_of_ble_eq_true rfl) rfl ?_
          refine ax_goto (pc := 55) (tgt := 33) G dX10_writesNumber_55 rfl ?_
          refine ax_iload_n (pc := 33) G dX10_writesNumber_33 rfl rfl ?_
          refine ax_if_le (pc := 34) (tgt := 58) G dX10_writesNumber_34 rfl (fun c9 => absurd c9 (by decide)) (fun _ => ?_)
          refine ax_aload_n (pc := 37) G dX10_writesNumber_37 rfl rfl ?_
          refine ax_bipush (pc := 38) (v := nI 48) G dX10_writesNumber_38 ib_48 ?_
          refine ax_iload_n (pc := 40) G dX10_writesNumber_40 rfl rfl ?_
          refine ax_iload_n (pc := 41) G dX10_writesNumber_41 rfl rfl ?_
          refine ax_idivN (pc := 42) G dX10_writesNumber_42 (by omega) (by omega) (by omega) ?_
          refine ax_bipush (pc := 43) (v := nI 10) G dX10_writesNumber_43 ib_10 ?_
          refine ax_iremN (pc := 45) G dX10_writesNumber_45 (by omega) (by omega) (by omega) ?_
          refine ax_iaddN (pc := 46) G dX10_writesNumber_46 ?_
          refine ax_cV0 (pc := 47) (kb := 0) (nb := 0) G (mt_writesByte hA (h := h) (m := m) (μ := (md_si (md_sa μ 10 (upd (μ.2 10) Z (nI (48 + w / 1000 % 10)))) 24 (nI (Z + 1)))) (Z := (Z + 1)) hm rfl (by omega) (nI (48 + w / 100 % 10))) lVX10_401_8 dX10_writesNumber_47 md_obj rfl (by decide) (Nat.le_of_ble_eq_true rfl) rfl ?_
          show ax_W Ω Γ _ _ (md_H h m (md_si (md_sa (md_si (md_sa μ 10 (upd (μ.2 10) Z (nI (48 + w / 1000 % 10)))) 24 (nI (Z + 1))) 10 (upd (upd (μ.2 10) Z (nI (48 + w / 1000 % 10))) (Z + 1) (nI (48 + w / 100 % 10)))) 24 (nI (Z + 1 + 1)))) _ _ _
          refine ax_iload_n (pc := 50) G dX10_writesNumber_50 rfl rfl ?_
          refine ax_bipush (pc := 51) (v := nI 10) G dX10_writesNumber_51 ib_10 ?_
          refine ax_idivN (pc := 53) G dX10_writesNumber_53 (by omega) (by omega) (by omega) ?_
          refine ax_istore_n (pc := 54) G dX10_writesNumber_54 rfl (Nat.le_of_ble_eq_true rfl) rfl ?_
          refine ax_goto (pc := 55) (tgt := 33) G dX10_writesNumber_55 rfl ?_
          refine ax_iload_n (pc := 33) G dX10_writesNumber_33 rfl rfl ?_
          refine ax_if_le (pc := 34) (tgt := 58) G dX10_writesNumber_34 rfl (fun c9 => absurd c9 (by decide)) (fun _ => ?_)
          refine ax_aload_n (pc := 37) G dX10_writesNumber_37 rfl rfl ?_
          refine ax_bipush (pc := 38) (v := nI 48) G dX10_writesNumber_38 ib_48 ?_
          refine ax_iload_n (pc := 40) G dX10_writesNumber_40 rfl rfl ?_
          refine ax_iload_n (pc := 41) G dX10_writesNumber_41 rfl rfl ?_
          refine ax_idivN (pc := 42) G dX10_writesNumber_42 (by omega) (by omega) (by omega) ?_
          refine ax_bipush (pc := 43) (v := nI 10) G dX10_writesNumber_43 ib_10 ?_
          refine ax_iremN (pc := 45) G dX10_writesNumber_45 (by omega) (by omega) (by omega) ?_
          refine ax_iaddN (pc := 46) G dX10_writesNumber_46 ?_
          refine ax_cV0 (pc := 47) (kb := 0) (nb := 0) G (mt_writesByte hA (h := h) (m := m) (μ := (md_si (md_sa (md_si (md_sa μ 10 (upd (μ.2 10) Z (nI (48 + w / 1000 % 10)))) 24 (nI (Z + 1))) 10 (upd (upd (μ.2 10) Z (nI (48 + w / 1000 % 10))) (Z + 1) (nI (48 + w / 100 % 10)))) 24 (nI (Z + 1 + 1)))) (Z := (Z + 1 + 1)) hm rfl (by omega) (nI (48 + w / 10 % 10))) lVX10_401_8 dX10_writesNumber_47 md_obj rfl (by decide) (Nat.le_of_ble_eq_true rfl) rfl ?_
          show ax_W Ω Γ _ _ (md_H h m (md_si (md_sa (md_si (md_sa (md_si (md_sa μ 10 (upd (μ.2 10) Z (nI (48 + w / 1000 % 10)))) 24 (nI (Z + 1))) 10 (upd (upd (μ.2 10) Z (nI (48 + w / 1000 % 10))) (Z + 1) (nI (48 + w / 100 % 10)))) 24 (nI (Z + 1 + 1))) 10 (upd (upd (upd (μ.2 10) Z (nI (48 + w / 1000 % 10))) (Z + 1) (nI (48 + w / 100 % 10))) (Z + 1 + 1) (nI (48 + w / 10 % 10)))) 24 (nI (Z + 1 + 1 + 1)))) _ _ _
          refine ax_iload_n (pc := 50) G dX10_writesNumber_50 rfl rfl ?_
          refine ax_bipush (pc := 51) (v := nI 10) G dX10_writesNumber_51 ib_10 ?_
          refine ax_idivN (pc := 53) G dX10_writesNumber_53 (by omega) (by omega) (by omega) ?_
          refine ax_istore_n (pc := 54) G dX10_writesNumber_54 rfl (Nat.le_of_ble_eq_true rfl) rfl ?_
          refine ax_goto (pc := 55) (tgt := 33) G dX10_writesNumber_55 rfl ?_
          refine ax_iload_n (pc := 33) G dX10_writesNumber_33 rfl rfl ?_
          refine ax_if_le (pc := 34) (tgt := 58) G dX10_writesNumber_34 rfl (fun c9 => absurd c9 (by decide)) (fun _ => ?_)
          refine ax_aload_n (pc := 37) G dX10_writesNumber_37 rfl rfl ?_
          refine ax_bipush (pc := 38) (v := nI 48) G dX10_writesNumber_38 ib_48 ?_
          refine ax_iload_n (pc := 40) G dX10_writesNumber_40 rfl rfl ?_
          refine ax_iload_n (pc := 41) G dX10_writesNumber_41 rfl rfl ?_
          refine ax_idivN (pc := 42) G dX10_writesNumber_42 (by omega) (by omega) (by omega) ?_
          refine ax_bipush (pc := 43) (v := nI 10) G dX10_writesNumber_43 ib_10 ?_
          refine ax_iremN (pc := 45) G dX10_writesNumber_45 (by omega) (by omega) (by omega) ?_
          refine ax_iaddN (pc := 46) G dX10_writesNumber_46 ?_
          refine ax_cV0 (pc := 47) (kb := 0) (nb := 0) G (mt_writesByte hA (h := h) (m := m) (μ := (md_si (md_sa (md_si (md_sa (md_si (md_sa μ 10 (upd (μ.2 10) Z (nI (48 + w / 1000 % 10)))) 24 (nI (Z + 1))) 10 (upd (upd (μ.2 10) Z (nI (48 + w / 1000 % 10))) (Z + 1) (nI (48 + w / 100 % 10)))) 24 (nI (Z + 1 + 1))) 10 (upd (upd (upd (μ.2 10) Z (nI (48 + w / 1000 % 10))) (Z + 1) (nI (48 + w / 100 % 10))) (Z + 1 + 1) (nI (48 + w / 10 % 10)))) 24 (nI (Z + 1 + 1 + 1)))) (Z := (Z + 1 + 1 + 1)) hm rfl (by omega) (nI (48 + w / 1 % 10))) lVX10_401_8 dX10_writesNumber_47 md_obj rfl (by decide) (Nat.le_of_ble_eq_true rfl) rfl ?_
          show ax_W Ω Γ _ _ (md_H h m (md_si (md_sa (md_si (md_sa (md_si (md_sa (md_si (md_sa μ 10 (upd (μ.2 10) Z (nI (48 + w / 1000 % 10)))) 24 (nI (Z + 1))) 10 (upd (upd (μ.2 10) Z (nI (48 + w / 1000 % 10))) (Z + 1) (nI (48 + w / 100 % 10)))) 24 (nI (Z + 1 + 1))) 10 (upd (upd (upd (μ.2 10) Z (nI (48 + w / 1000 % 10))) (Z + 1) (nI (48 + w / 100 % 10))) (Z + 1 + 1) (nI (48 + w / 10 % 10)))) 24 (nI (Z + 1 + 1 + 1))) 10 (upd (upd (upd (upd (μ.2 10) Z (nI (48 + w / 1000 % 10))) (Z + 1) (nI (48 + w / 100 % 10))) (Z + 1 + 1) (nI (48 + w / 10 % 10))) (Z + 1 + 1 + 1) (nI (48 + w / 1 % 10)))) 24 (nI (Z + 1 + 1 + 1 + 1)))) _ _ _
          refine ax_iload_n (pc := 50) G dX10_writesNumber_50 rfl rfl ?_
          refine ax_bipush (pc := 51) (v := nI 10) G dX10_writesNumber_51 ib_10 ?_
          refine ax_idivN (pc := 53) G dX10_writesNumber_53 (by omega) (by omega) (by omega) ?_
          refine ax_istore_n (pc := 54) G dX10_writesNumber_54 rfl (Nat.le_of_ble_eq_true rfl) rfl ?_
          refine ax_goto (pc := 55) (tgt := 33) G dX10_writesNumber_55 rfl ?_
          refine ax_iload_n (pc := 33) G dX10_writesNumber_33 rfl rfl ?_
          refine ax_if_le (pc := 34) (tgt := 58) G dX10_writesNumber_34 rfl (fun _ => ?_) (fun c9 => absurd (by decide) c9)
          exact ax_vretE (pc := 58) G E rfl dX10_writesNumber_58 (rfl)
        · omega

theorem mt_writesNumber5 {Ω : ax_O} (hA : ax_Amb Ω) {h : ax_H} {m : Nat} {μ : md_S} (hm : Ω.2.1.heap.size ≤ m) {Z : Nat} (hZ : μ.1 24 = nI Z) (w : Nat) (h0 : 10000 ≤ w) (h1 : w < 100000) (hZ8 : Z + 5 ≤ 80)  : ax_Met Ω yX10_writesNumber 2 0 0 [.ref m, .int (nI w)] (md_H h m μ) (.inl none) (md_H h m (md_si (md_sa (md_si (md_sa (md_si (md_sa (md_si (md_sa (md_si (md_sa μ 10 (upd (μ.2 10) Z (nI (48 + w / 10000 % 10)))) 24 (nI (Z + 1))) 10 (upd (upd (μ.2 10) Z (nI (48 + w / 10000 % 10))) (Z + 1) (nI (48 + w / 1000 % 10)))) 24 (nI (Z + 1 + 1))) 10 (upd (upd (upd (μ.2 10) Z (nI (48 + w / 10000 % 10))) (Z + 1) (nI (48 + w / 1000 % 10))) (Z + 1 + 1) (nI (48 + w / 100 % 10)))) 24 (nI (Z + 1 + 1 + 1))) 10 (upd (upd (upd (upd (μ.2 10) Z (nI (48 + w / 10000 % 10))) (Z + 1) (nI (48 + w / 1000 % 10))) (Z + 1 + 1) (nI (48 + w / 100 % 10))) (Z + 1 + 1 + 1) (nI (48 + w / 10 % 10)))) 24 (nI (Z + 1 + 1 + 1 + 1))) 10 (upd (upd (upd (upd (upd (μ.2 10) Z (nI (48 + w / 10000 % 10))) (Z + 1) (nI (48 + w / 1000 % 10))) (Z + 1 + 1) (nI (48 + w / 100 % 10))) (Z + 1 + 1 + 1) (nI (48 + w / 10 % 10))) (Z + 1 + 1 + 1 + 1) (nI (48 + w / 1 % 10)))) 24 (nI (Z + 1 + 1 + 1 + 1 + 1)))) := by
  refine ax_met q3155 q142 (by decide +kernel) (by decide) hA (Nat.le_of_ble_eq_true rfl) (fun Γ G E => ?_)
  show ax_W Ω Γ 0 0 (md_H h m μ) 0 [some (.ref m), some (.int (nI w)), none, none] []
  refine ax_iload_n (pc := 0) G dX10_writesNumber_0 rfl rfl ?_
  refine ax_abs (pc := 1) G q2910 q1679 q132 q1680 (by decide) (Nat.le_of_ble_eq_true rfl) dX10_writesNumber_1 ?_
  refine ax_top (show Value.int (iAbs (nI w)) = .int (nI w) from congrArg Value.int (iAbs_nI (by omega))) ?_
  refine ax_istore_n (pc := 4) G dX10_writesNumber_4 rfl (Nat.le_of_ble_eq_true rfl) rfl ?_
  refine ax_iload_n (pc := 5) G dX10_writesNumber_5 rfl rfl ?_
  refine ax_if_ge (pc := 6) (tgt := 15) G dX10_writesNumber_6 rfl (fun _ => ?_) (fun c9 => absurd (nI_pos' (by omega)) c9)
  refine ax_iconst (pc := 15) (v := nI 1) G dX10_writesNumber_15 ic_1 ?_
  refine ax_istore_n (pc := 16) G dX10_writesNumber_16 rfl (Nat.le_of_ble_eq_true rfl) rfl ?_
  refine ax_iload_n (pc := 17) G dX10_writesNumber_17 rfl rfl ?_
  refine ax_iload_n (pc := 18) G dX10_writesNumber_18 rfl rfl ?_
  refine ax_idivN (pc := 19) G dX10_writesNumber_19 (by omega) (by omega) (by omega) ?_
  refine ax_bipush (pc := 20) (v := nI 10) G dX10_writesNumber_20 ib_10 ?_
  refine ax_icmp_ltN (pc := 22) (tgt := 33) G dX10_writesNumber_22 rfl (by omega) (by omega) (fun c22 => ?_) (fun c22 => ?_)
  · omega
  · refine ax_iload_n (pc := 25) G dX10_writesNumber_25 rfl rfl ?_
    refine ax_bipush (pc := 26) (v := nI 10) G dX10_writesNumber_26 ib_10 ?_
    refine ax_imulN (pc := 28) G dX10_writesNumber_28 ?_
    refine ax_istore_n (pc := 29) G dX10_writesNumber_29 rfl (Nat.le_of_ble_eq_true rfl) rfl ?_
    refine ax_goto (pc := 30) (tgt := 17) G dX10_writesNumber_30 rfl ?_
    refine ax_iload_n (pc := 17) G dX10_writesNumber_17 rfl rfl ?_
    refine ax_iload_n (pc := 18) G dX10_writesNumber_18 rfl rfl ?_
    refine ax_idivN (pc := 19) G dX10_writesNumber_19 (by omega) (by omega) (by omega) ?_
    refine ax_bipush (pc := 20) (v := nI 10) G dX10_writesNumber_20 ib_10 ?_
    refine ax_icmp_ltN (pc := 22) (tgt := 33) G dX10_writesNumber_22 rfl (by omega) (by omega) (fun c22x => ?_) (fun c22x => ?_)
    · omega
    · refine ax_iload_n (pc := 25) G dX10_writesNumber_25 rfl rfl ?_
      refine ax_bipush (pc := 26) (v := nI 10) G dX10_writesNumber_26 ib_10 ?_
      refine ax_imulN (pc := 28) G dX10_writesNumber_28 ?_
      refine ax_istore_n (pc := 29) G dX10_writesNumber_29 rfl (Nat.le_of_ble_eq_true rfl) rfl ?_
      refine ax_goto (pc := 30) (tgt := 17) G dX10_writesNumber_30 rfl ?_
      refine ax_iload_n (pc := 17) G dX10_writesNumber_17 rfl rfl ?_
      refine ax_iload_n (pc := 18) G dX10_writesNumber_18 rfl rfl ?_
      refine ax_idivN (pc := 19) G dX10_writesNumber_19 (by omega) (by omega) (by omega) ?_
      refine ax_bipush (pc := 20) (v := nI 10) G dX10_writesNumber_20 ib_10 ?_
      refine ax_icmp_ltN (pc := 22) (tgt := 33) G dX10_writesNumber_22 rfl (by omega) (by omega) (fun c22xx => ?_) (fun c22xx => ?_)
      · omega
      · refine ax_iload_n (pc := 25) G dX10_writesNumber_25 rfl rfl ?_
        refine ax_bipush (pc := 26) (v := nI 10) G dX10_writesNumber_26 ib_10 ?_
        refine ax_imulN (pc := 28) G dX10_writesNumber_28 ?_
        refine ax_istore_n (pc := 29) G dX10_writesNumber_29 rfl (Nat.le_of_ble_eq_true rfl) rfl ?_
        refine ax_goto (pc := 30) (tgt := 17) G dX10_writesNumber_30 rfl ?_
        refine ax_iload_n (pc := 17) G dX10_writesNumber_17 rfl rfl ?_
        refine ax_iload_n (pc := 18) G dX10_writesNumber_18 rfl rfl ?_
        refine ax_idivN (pc := 19) G dX10_writesNumber_19 (by omega) (by omega) (by omega) ?_
        refine ax_bipush (pc := 20) (v := nI 10) G dX10_writesNumber_20 ib_10 ?_
        refine ax_icmp_ltN (pc := 22) (tgt := 33) G dX10_writesNumber_22 rfl (by omega) (by omega) (fun c22xxx => ?_) (fun c22xxx => ?_)
        · omega
        · refine ax_iload_n (pc := 25) G dX10_writesNumber_25 rfl rfl ?_
          refine ax_bipush (pc := 26) (v := nI 10) G dX10_writesNumber_26 ib_10 ?_
          refine ax_imulN (pc := 28) G dX10_writesNumber_28 ?_
          refine ax_istore_n (pc := 29) G dX10_writesNumber_29 rfl (Nat.le_of_ble_eq_true rfl) rfl ?_
          refine ax_goto (pc := 30) (tgt := 17) G dX10_writesNumber_30 rfl ?_
          refine ax_iload_n (pc := 17) G dX10_writesNumber_17 rfl rfl ?_
          refine ax_iload_n (pc := 18) G dX10_writesNumber_18 rfl rfl ?_
          refine ax_idivN (pc := 19) G dX10_writesNumber_19 (by omega) (by omega) (by omega) ?_
          refine ax_bipush (pc := 20) (v := nI 10) G dX10_writesNumber_20 ib_10 ?_
          refine ax_icmp_ltN (pc := 22) (tgt := 33) G dX10_writesNumber_22 rfl (by omega) (by omega) (fun c22xxxx => ?_) (fun c22xxxx => ?_)
          · refine ax_iload_n (pc := 33) G dX10_writesNumber_33 rfl rfl ?_
            refine ax_if_le (pc := 34) (tgt := 58) G dX10_writesNumber_34 rfl (fun c9 => absurd c9 (by decide)) (fun _ => ?_)
            refine ax_aload_n (pc := 37) G dX10_writesNumber_37 rfl rfl ?_
            refine ax_bipush (pc := 38) (v := nI 48) G dX10_writesNumber_38 ib_48 ?_
            refine ax_iload_n (pc := 40) G dX10_writesNumber_40 rfl rfl ?_
            refine ax_iload_n (pc := 41) G dX10_writesNumber_41 rfl rfl ?_
            refine ax_idivN (pc := 42) G dX10_writesNumber_42 (by omega) (by omega) (by omega) ?_
            refine ax_bipush (pc := 43) (v := nI 10) G dX10_writesNumber_43 ib_10 ?_
            refine ax_iremN (pc := 45) G dX10_writesNumber_45 (by omega) (by omega) (by omega) ?_
            refine ax_iaddN (pc := 46) G dX10_writesNumber_46 ?_
            refine ax_cV0 (pc := 47) (kb := 0) (nb := 0) G (mt_writesByte hA (h := h) (m := m) (μ := μ) (Z := Z) hm hZ (by omega) (nI (48 + w / 10000 % 10))) lVX10_401_8 dX10_writesNumber_47 md_obj rfl (by decide) (Nat.le_of_ble_eq_true rfl) rfl ?_
            show ax_W Ω Γ _ _ (md_H h m (md_si (md_sa μ 10 (upd (μ.2 10) Z (nI (48 + w / 10000 % 10)))) 24 (nI (Z + 1)))) _ _ _
            refine ax_iload_n (pc := 50) G dX10_writesNumber_50 rfl rfl ?_
            refine ax_bipush (pc := 51) (v := nI 10) G dX10_writesNumber_51 ib_10 ?_
            refine ax_idivN (pc := 53) G dX10_writesNumber_53 (by omega) (by omega) (by omega) ?_
            refine ax_istore_n (pc := 54) G dX10_writesNumber_54 rfl (Nat.le_of_ble_eq_true rfl) rfl ?_
            refine ax_goto (pc := 55) (tgt := 33) G dX10_writesNumber_55 rfl ?_
            refine ax_iload_n (pc := 33) G dX10_writesNumber_33 rfl rfl ?_
            refine ax_if_le (pc := 34) (tgt := 58) G dX10_writesNumber_34 rfl (fun c9 => absurd c9 (by decide)) (fun _ => ?_)
            refine ax_aload_n (pc := 37) G dX10_writesNumber_37 rfl rfl ?_
            refine ax_bipush (pc := 38) (v := nI 48) G dX10_writesNumber_38 ib_48 ?_
            refine ax_iload_n (pc := 40) G dX10_writesNumber_40 rfl rfl ?_
            refine ax_iload_n (pc := 41) G dX10_writesNumber_41 rfl rfl ?_
            refine ax_idivN (pc := 42) G dX10_writesNumber_42 (by omega) (by omega) (by omega) ?_
            refine ax_bipush (pc := 43) (v := nI 10) G dX10_writesNumber_43 ib_10 ?_
            refine ax_iremN (pc := 45) G dX10_writesNumber_45 (by omega) (by omega) (by omega) ?_
            refine ax_iaddN (pc := 46) G dX10_writesNumber_46 ?_
            refine ax_cV0 (pc := 47) (kb := 0) (nb := 0) G (mt_writesByte hA (h := h) (m := m) (μ := (md_si (md_sa μ 10 (upd (μ.2 10) Z (nI (48 + w / 10000 % 10)))) 24 (nI (Z + 1)))) (Z := (Z + 1)) hm rfl (by omega) (nI (48 + w / 1000 % 10))) lVX10_401_8 dX10_writesNumber_47 md_obj rfl (by decide) (Nat.le_of_ble_eq_true rfl) rfl ?_
            show ax_W Ω Γ _ _ (md_H h m (md_si (md_sa (md_si (md_sa μ 10 (upd (μ.2 10) Z (nI (48 + w / 10000 % 10)))) 24 (nI (Z + 1))) 10 (upd (upd (μ.2 10) Z (nI (48 + w / 10000 % 10))) (Z + 1) (nI (48 + w / 1000 % 10)))) 24 (nI (Z + 1 + 1)))) _ _ _
            refine ax_iload_n (pc := 50) G dX10_writesNumber_50 rfl rfl ?_
            refine ax_bipush (pc := 51) (v := nI 10) G dX10_writesNumber_51 ib_10 ?_
            refine ax_idivN (pc := 53) G dX10_writesNumber_53 (by omega) (by omega) (by omega) ?_
            refine ax_istore_n (pc := 54) G dX10_writesNumber_54 rfl (Nat.le_of_ble_eq_true rfl) rfl ?_
            refine ax_goto (pc := 55) (tgt := 33) G dX10_writesNumber_55 rfl ?_
            refine ax_iload_n (pc := 33) G dX10_writesNumber_33 rfl rfl ?_
            refine ax_if_le (pc := 34) (tgt := 58) G dX10_writesNumber_34 rfl (fun c9 => absurd c9 (by decide)) (fun _ => ?_)
            refine ax_aload_n (pc := 37) G dX10_writesNumber_37 rfl rfl ?_
            refine ax_bipush (pc := 38) (v := nI 48) G dX10_writesNumber_38 ib_48 ?_
            refine ax_iload_n (pc := 40) G dX10_writesNumber_40 rfl rfl ?_
            refine ax_iload_n (pc := 41) G dX10_writesNumber_41 rfl rfl ?_
            refine ax_idivN (pc := 42) G dX10_writesNumber_42 (by omega) (by omega) (by omega) ?_
            refine ax_bipush (pc := 43) (v := nI 10) G dX10_writesNumber_43 ib_10 ?_
            refine ax_iremN (pc := 45) G dX10_writesNumber_45 (by omega) (by omega) (by omega) ?_
            refine ax_iaddN (pc := 46) G dX10_writesNumber_46 ?_
            refine ax_cV0 (pc := 47) (kb := 0) (nb := 0) G (mt_writesByte hA (h := h) (m := m) (μ := (md_si (md_sa (md_si (md_sa μ 10 (upd (μ.2 10) Z (nI (48 + w / 10000 % 10)))) 24 (nI (Z + 1))) 10 (upd (upd (μ.2 10) Z (nI (48 + w / 10000 % 10))) (Z + 1) (nI (48 + w / 1000 % 10)))) 24 (nI (Z + 1 + 1)))) (Z := (Z + 1 + 1)) hm rfl (by omega) (nI (48 + w / 100 % 10))) lVX10_401_8 dX10_writesNumber_47 md_obj rfl (by decide) (Nat.le_of_ble_eq_true rfl) rfl ?_
            show ax_W Ω Γ _ _ (md_H h m (md_si (md_sa (md_si (md_sa (md_si (md_sa μ 10 (upd (μ.2 10) Z (nI (48 + w / 10000 % 10)))) 24 (nI (Z + 1))) 10 (upd (upd (μ.2 10) Z (nI (48 + w / 10000 % 10))) (Z + 1) (nI (48 + w / 1000 % 10)))) 24 (nI (Z + 1 + 1))) 10 (upd (upd (upd (μ.2 10) Z (nI (48 + w / 10000 % 10))) (Z + 1) (nI (48 + w / 1000 % 10))) (Z + 1 + 1) (nI (48 + w / 100 % 10)))) 24 (nI (Z + 1 + 1 + 1)))) _ _ _
            refine ax_iload_n (pc := 50) G dX10_writesNumber_50 rfl rfl ?_
            refine ax_bipush (pc := 51) (v := nI 10) G dX10_writesNumber_51 ib_10 ?_
            refine ax_idivN (pc := 53) G dX10_writesNumber_53 (by omega) (by omega) (by omega) ?_
            refine ax_istore_n (pc := 54) G dX10_writesNumber_54 rfl (Nat.le_of_ble_eq_true rfl) rfl ?_
            refine ax_goto (pc := 55) (tgt := 33) G dX10_writesNumber_55 rfl ?_
            refine ax_iload_n (pc := 33) G dX10_writesNumber_33 rfl rfl ?_
            refine ax_if_le (pc := 34) (tgt := 58) G dX10_writesNumber_34 rfl (fun c9 => absurd c9 (by decide)) (fun _ => ?_)
            refine ax_aload_n (pc := 37) G dX10_writesNumber_37 rfl rfl ?_
            refine ax_bipush (pc := 38) (v := nI 48) G dX10_writesNumber_38 ib_48 ?_
            refine ax_iload_n (pc := 40) G dX10_writesNumber_40 rfl rfl ?_
            refine ax_iload_n (pc := 41) G dX10_writesNumber_41 rfl rfl ?_
            refine ax_idivN (pc := 42) G dX10_writesNumber_42 (by omega) (by omega) (by omega) ?_
            refine ax_bipush (pc := 43) (v := nI 10) G dX10_writesNumber_43 ib_10 ?_
            refine ax_iremN (pc := 45) G dX10_writesNumber_45 (by omega) (by omega) (by omega) ?_
            refine ax_iaddN (pc := 46) G dX10_writesNumber_46 ?_
            refine ax_cV0 (pc := 47) (kb := 0) (nb := 0) G (mt_writesByte hA (h := h) (m := m) (μ := (md_si (md_sa (md_si (md_sa (md_si (md_sa μ 10 (upd (μ.2 10) Z (nI (48 + w / 10000 % 10)))) 24 (nI (Z + 1))) 10 (upd (upd (μ.2 10) Z (nI (48 + w / 10000 % 10))) (Z + 1) (nI (48 + w / 1000 % 10)))) 24 (nI (Z + 1 + 1))) 10 (upd (upd (upd (μ.2 10) Z (nI (48 + w / 10000 % 10))) (Z + 1) (nI (48 + w / 1000 % 10))) (Z + 1 + 1) (nI (48 + w / 100 % 10)))) 24 (nI (Z + 1 + 1 + 1)))) (Z := (Z + 1 + 1 + 1)) hm rfl (by omega) (nI (48 + w / 10 % 10))) lVX10_401_8 dX10_writesNumber_47 md_obj rfl (by decide) (Nat.le_of_ble_eq_true rfl) rfl ?_
            show ax_W Ω Γ _ _ (md_H h m (md_si (md_sa (md_si (md_sa (md_si (md_sa (md_si (md_sa μ 10 (upd (μ.2 10) Z (nI (48 + w / 10000 % 10)))) 24 (nI (Z + 1))) 10 (upd (upd (μ.2 10) Z (nI (48 + w / 10000 % 10))) (Z + 1) (nI (48 + w / 1000 % 10)))) 24 (nI (Z + 1 + 1))) 10 (upd (upd (upd (μ.2 10) Z (nI (48 + w / 10000 % 10))) (Z + 1) (nI (48 + w / 1000 % 10))) (Z + 1 + 1) (nI (48 + w / 100 % 10)))) 24 (nI (Z + 1 + 1 + 1))) 10 (upd (upd (upd (upd (μ.2 10) Z (nI (48 + w / 10000 % 10))) (Z + 1) (nI (48 + w / 1000 % 10))) (Z + 1 + 1) (nI (48 + w / 100 % 10))) (Z + 1 + 1 + 1) (nI (48 + w / 10 % 10)))) 24 (nI (Z + 1 + 1 + 1 + 1)))) _ _ _
            refine ax_iload_n (pc := 50) G dX10_writesNumber_50 rfl rfl ?_
            refine ax_bipush (pc := 51) (v := nI 10) G dX10_writesNumber_51 ib_10 ?_
            refine ax_idivN (pc := 53) G dX10_writesNumber_53 (by omega) (by omega) (by omega) ?_
            refine ax_istore_n (pc := 54) G dX10_writesNumber_54 rfl (Nat.le_of_ble_eq_true rfl) rfl ?_
            refine ax_goto (pc := 55) (tgt := 33) G dX10_writesNumber_55 rfl ?_
            refine ax_iload_n (pc := 33) G dX10_writesNumber_33 rfl rfl ?_
            refine ax_if_le (pc := 34) (tgt := 58) G dX10_writesNumber_34 rfl (fun c9 => absurd c9 (by decide)) (fun _ => ?_)
            refine ax_aload_n (pc := 37) G dX10_writesNumber_37 rfl rfl ?_
            refine ax_bipush (pc := 38) (v := nI 48) G dX10_writesNumber_38 ib_48 ?_
            refine ax_iload_n (pc := 40) G dX10_writesNumber_40 rfl rfl ?_
            refine ax_iload_n (pc := 41) G dX10_writesNumber_41 rfl rfl ?_
            refine ax_idivN (pc := 42) G dX10_writesNumber_42 (by omega) (by omega) (by omega) ?_
            refine ax_bipush (pc := 43) (v := nI 10) G dX10_writesNumber_43 ib_10 ?_
            refine ax_iremN (pc := 45) G dX10_writesNumber_45 (by omega) (by omega) (by omega) ?_
            refine ax_iaddN (pc := 46) G dX10_writesNumber_46 ?_
            refine ax_cV0 (pc := 47) (kb := 0) (nb := 0) G (mt_writesByte hA (h := h) (m := m) (μ := (md_si (md_sa (md_si (md_sa (md_si (md_sa (md_si (md_sa μ 10 (upd (μ.2 10) Z (nI (48 + w / 10000 % 10)))) 24 (nI (Z + 1))) 10 (upd (upd (μ.2 10) Z (nI (48 + w / 10000 % 10))) (Z + 1) (nI (48 + w / 1000 % 10)))) 24 (nI (Z + 1 + 1))) 10 (upd (upd (upd (μ.2 10) Z (nI (48 + w / 10000 % 10))) (Z + 1) (nI (48 + w / 1000 % 10))) (Z + 1 + 1) (nI (48 + w / 100 % 10)))) 24 (nI (Z + 1 + 1 + 1))) 10 (upd (upd (upd (upd (μ.2 10) Z (nI (48 + w / 10000 % 10))) (Z + 1) (nI (48 + w / 1000 % 10))) (Z + 1 + 1) (nI (48 + w / 100 % 10))) (Z + 1 + 1 + 1) (nI (48 + w / 10 % 10)))) 24 (nI (Z + 1 + 1 + 1 + 1)))) (Z := (Z + 1 + 1 + 1 + 1)) hm rfl (by omega) (nI (48 + w / 1 % 10))) lVX10_401_8 dX10_writesNumber_47 md_obj rfl (by decide) (Nat.le_of_ble_eq_true rfl) rfl ?_
            show ax_W Ω Γ _ _ (md_H h m (md_si (md_sa (md_si (md_sa (md_si (md_sa (md_si (md_sa (md_si (md_sa μ 10 (upd (μ.2 10) Z (nI (48 + w / 10000 % 10)))) 24 (nI (Z + 1))) 10 (upd (upd (μ.2 10) Z (nI (48 + w / 10000 % 10))) (Z + 1) (nI (48 + w / 1000 % 10)))) 24 (nI (Z + 1 + 1))) 10 (upd (upd (upd (μ.2 10) Z (nI (48 + w / 10000 % 10))) (Z + 1) (nI (48 + w / 1000 % 10))) (Z + 1 + 1) (nI (48 + w / 100 % 10)))) 24 (nI (Z + 1 + 1 + 1))) 10 (upd (upd (upd (upd (μ.2 10) Z (nI (48 + w / 10000 % 10))) (Z + 1) (nI (48 + w / 1000 % 10))) (Z + 1 + 1) (nI (48 + w / 100 % 10))) (Z + 1 + 1 + 1) (nI (48 + w / 10 % 10)))) 24 (nI (Z + 1 + 1 + 1 + 1))) 10 (upd (upd (upd (upd (upd (μ.2 10) Z (nI (48 + w / 10000 % 10))) (Z + 1) (nI (48 + w / 1000 % 10))) (Z + 1 + 1) (nI (48 + w / 100 % 10))) (Z + 1 + 1 + 1) (nI (48 + w / 10 % 10))) (Z + 1 + 1 + 1 + 1) (nI (48 + w / 1 % 10)))) 24 (nI (Z + 1 + 1 + 1 + 1 + 1)))) _ _ _
            refine ax_iload_n (pc := 50) G dX10_writesNumber_50 rfl rfl ?_
            refine ax_bipush (pc := 51) (v := nI 10) G dX10_writesNumber_51 ib_10 ?_
            refine ax_idivN (pc := 53) G dX10_writesNumber_53 (by omega) (by omega) (by omega) ?_
            refine ax_istore_n (pc := 54) G dX10_writesNumber_54 rfl (Nat.le_of_ble_eq_true rfl) rfl ?_
            refine ax_goto (pc := 55) (tgt := 33) G dX10_writesNumber_55 rfl ?_
            refine ax_iload_n (pc := 33) G dX10_writesNumber_33 rfl rfl ?_
            refine ax_if_le (pc := 34) (tgt := 58) G dX10_writesNumber_34 rfl (fun _ => ?_) (fun c9 => absurd (by decide) c9)
            exact ax_vretE (pc := 58) G E rfl dX10_writesNumber_58 (rfl)
          · omega

