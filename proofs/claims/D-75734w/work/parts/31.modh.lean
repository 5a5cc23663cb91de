/-! THE MODEL: changes -/
theorem mt_remember {Ω : ax_O} (hA : ax_Amb Ω) {h : ax_H} {m : Nat} {μ : md_S} (hm : Ω.2.1.heap.size ≤ m) (u : Nat) (hu : u < 8) (h18 : μ.1 18 = nI u) : ax_Met Ω yX10_remember 2 0 0 [.ref m] (md_H h m μ) (.inl none) (md_H h m (md_si (md_sa μ 7 (pPut (μ.2 7) (fun k => μ.2 4 (0 + k)) (627 * u) 627)) 18 (nI (u + 1)))) := by
  refine ax_met q3181 q142 (by decide +kernel) (by decide) hA (Nat.le_of_ble_eq_true rfl) (fun Γ G E => ?_)
  show ax_W Ω Γ 0 0 (md_H h m μ) 0 [some (.ref m), none] []
  refine ax_aload_n (pc := 0) G dX10_remember_0 rfl rfl ?_
  refine md_get (pc := 1) (v := .int (μ.1 18)) G flX10_197_8 dX10_remember_1 rfl ?_
  refine ax_top (show Value.int (μ.1 18) = .int (nI u) from congrArg Value.int (h18)) ?_
  refine ax_bipush (pc := 4) (v := nI 8) G dX10_remember_4 ib_8 ?_
  refine ax_icmp_neN (pc := 6) (tgt := 54) G dX10_remember_6 rfl (by omega) (by omega) (fun c6 => ?_) (fun c6 => ?_)
  · refine ax_aload_n (pc := 54) G dX10_remember_54 rfl rfl ?_
    refine md_get (pc := 55) (v := .ref (m + 4)) G flX10_23_8 dX10_remember_55 rfl ?_
    refine ax_iconst (pc := 58) (v := nI 0) G dX10_remember_58 ic_0 ?_
    refine ax_aload_n (pc := 59) G dX10_remember_59 rfl rfl ?_
    refine md_get (pc := 60) (v := .ref (m + 7)) G flX10_32_8 dX10_remember_60 rfl ?_
    refine ax_sipush (pc := 63) (v := nI 627) G dX10_remember_63 is_627 ?_
    refine ax_aload_n (pc := 66) G dX10_remember_66 rfl rfl ?_
    refine md_get (pc := 67) (v := .int (μ.1 18)) G flX10_197_8 dX10_remember_67 rfl ?_
    refine ax_top (show Value.int (μ.1 18) = .int (nI u) from congrArg Value.int (h18)) ?_
    refine ax_imulN (pc := 70) G dX10_remember_70 ?_
    refine ax_cS0 (pc := 71) (kb := 0) (nb := 0) G (mt_copy_4_7 hA (h := h) (m := m) (μ := μ) hm 0 (627 * u) (by omega) (by omega)) lSX10_189 dX10_remember_71 rfl (by decide) (Nat.le_of_ble_eq_true rfl) rfl ?_
    show ax_W Ω Γ _ _ (md_H h m (md_sa μ 7 (pPut (μ.2 7) (fun z9 => (μ.2 4) (0 + z9)) (627 * u) 627))) _ _ _
    refine ax_aload_n (pc := 74) G dX10_remember_74 rfl rfl ?_
    refine ax_dup (pc := 75) G dX10_remember_75 rfl ?_
    refine md_get (pc := 76) (v := .int (μ.1 18)) G flX10_197_8 dX10_remember_76 rfl ?_
    refine ax_top (show Value.int (μ.1 18) = .int (nI u) from congrArg Value.int (h18)) ?_
    refine ax_iconst (pc := 79) (v := nI 1) G dX10_remember_79 ic_1 ?_
    refine ax_iaddN (pc := 80) G dX10_remember_80 ?_
    refine md_put (pc := 81) G flX10_197_8 dX10_remember_81 hm (by decide) (rfl) rfl rfl ?_
    exact ax_vretE (pc := 84) G E rfl dX10_remember_84 (rfl)
  · omega

theorem mt_remember8 {Ω : ax_O} (hA : ax_Amb Ω) {h : ax_H} {m : Nat} {μ : md_S} (hm : Ω.2.1.heap.size ≤ m) (h18 : μ.1 18 = nI 8) : ax_Met Ω yX10_remember 2 0 0 [.ref m] (md_H h m μ) (.inl none) (md_H h m (md_si (md_sa (md_si (md_sa μ 7 (pSh (μ.2 7) 4389)) 18 (nI 7)) 7 (pPut (pSh (μ.2 7) 4389) (fun k => μ.2 4 (0 + k)) (627 * 7) 627)) 18 (nI 8))) := by
  refine ax_met q3181 q142 (by decide +kernel) (by decide) hA (Nat.le_of_ble_eq_true rfl) (fun Γ G E => ?_)
  have L0 : ∀ (n i : Nat), i + n = 4389 → ax_W Ω Γ 0 0 (md_H h m (md_sa μ 7 (pSh (μ.2 7) i))) 13 [some (.ref m), some (.int (nI (627 + i)))] [] := by
    intro n
    induction n with
    | zero =>
      intro i hi
      have hi9 : i = 4389 := by omega
      subst hi9
      refine ax_iload_n (pc := 13) G dX10_remember_13 rfl rfl ?_
      refine ax_aload_n (pc := 14) G dX10_remember_14 rfl rfl ?_
      refine md_get (pc := 15) (v := .ref (m + 7)) G flX10_32_8 dX10_remember_15 rfl ?_
      refine ax_alen (pc := 18) (v := nI 5016) G dX10_remember_18 (md_arr (j := 7) (by decide) (by decide)) rfl ?_
      refine ax_icmp_geN (pc := 19) (tgt := 44) G dX10_remember_19 rfl (by omega) (by omega) (fun c19 => ?_) (fun c19 => ?_)
      · refine ax_aload_n (pc := 44) G dX10_remember_44 rfl rfl ?_
        refine ax_dup (pc := 45) G dX10_remember_45 rfl ?_
        refine md_get (pc := 46) (v := .int (μ.1 18)) G flX10_197_8 dX10_remember_46 rfl ?_
        refine ax_top (show Value.int (μ.1 18) = .int (nI 8) from congrArg Value.int (h18)) ?_
        refine ax_iconst (pc := 49) (v := nI 1) G dX10_remember_49 ic_1 ?_
        refine ax_isubN (pc := 50) G dX10_remember_50 (by omega) ?_
        refine md_put (pc := 51) G flX10_197_8 dX10_remember_51 hm (by decide) (rfl) rfl rfl ?_
        refine ax_aload_n (pc := 54) G dX10_remember_54 rfl rfl ?_
        refine md_get (pc := 55) (v := .ref (m + 4)) G flX10_23_8 dX10_remember_55 rfl ?_
        refine ax_iconst (pc := 58) (v := nI 0) G dX10_remember_58 ic_0 ?_
        refine ax_aload_n (pc := 59) G dX10_remember_59 rfl rfl ?_
        refine md_get (pc := 60) (v := .ref (m + 7)) G flX10_32_8 dX10_remember_60 rfl ?_
        refine ax_sipush (pc := 63) (v := nI 627) G dX10_remember_63 is_627 ?_
        refine ax_aload_n (pc := 66) G dX10_remember_66 rfl rfl ?_
        refine md_get (pc := 67) (v := .int (nI (8 - 1))) G flX10_197_8 dX10_remember_67 rfl ?_
        refine ax_imulN (pc := 70) G dX10_remember_70 ?_
        refine ax_cS0 (pc := 71) (kb := 0) (nb := 0) G (mt_copy_4_7 hA (h := h) (m := m) (μ := (md_si (md_sa μ 7 (pSh (μ.2 7) 4389)) 18 (nI (8 - 1)))) hm 0 (627 * (8 - 1)) (by omega) (by omega)) lSX10_189 dX10_remember_71 rfl (by decide) (Nat.le_of_ble_eq_true rfl) rfl ?_
        show ax_W Ω Γ _ _ (md_H h m (md_sa (md_si (md_sa μ 7 (pSh (μ.2 7) 4389)) 18 (nI (8 - 1))) 7 (pPut (pSh (μ.2 7) 4389) (fun z9 => (μ.2 4) (0 + z9)) (627 * (8 - 1)) 627))) _ _ _
        refine ax_aload_n (pc := 74) G dX10_remember_74 rfl rfl ?_
        refine ax_dup (pc := 75) G dX10_remember_75 rfl ?_
        refine md_get (pc := 76) (v := .int (nI (8 - 1))) G flX10_197_8 dX10_remember_76 rfl ?_
        refine ax_iconst (pc := 79) (v := nI 1) G dX10_remember_79 ic_1 ?_
        refine ax_iaddN (pc := 80) G dX10_remember_80 ?_
        refine md_put (pc := 81) G flX10_197_8 dX10_remember_81 hm (by decide) (rfl) rfl rfl ?_
        exact ax_vretE (pc := 84) G E rfl dX10_remember_84 (rfl)
      · omega
    | succ n ih =>
      intro i hi
      refine ax_iload_n (pc := 13) G dX10_remember_13 rfl rfl ?_
      refine ax_aload_n (pc := 14) G dX10_remember_14 rfl rfl ?_
      refine md_get (pc := 15) (v := .ref (m + 7)) G flX10_32_8 dX10_remember_15 rfl ?_
      refine ax_alen (pc := 18) (v := nI 5016) G dX10_remember_18 (md_arr (j := 7) (by decide) (by decide)) rfl ?_
      refine ax_icmp_geN (pc := 19) (tgt := 44) G dX10_remember_19 rfl (by omega) (by omega) (fun c19 => ?_) (fun c19 => ?_)
      · omega
      · refine ax_aload_n (pc := 22) G dX10_remember_22 rfl rfl ?_
        refine md_get (pc := 23) (v := .ref (m + 7)) G flX10_32_8 dX10_remember_23 rfl ?_
        refine ax_iload_n (pc := 26) G dX10_remember_26 rfl rfl ?_
        refine ax_sipush (pc := 27) (v := nI 627) G dX10_remember_27 is_627 ?_
        refine ax_isubN (pc := 30) G dX10_remember_30 (by omega) ?_
        refine ax_aload_n (pc := 31) G dX10_remember_31 rfl rfl ?_
        refine md_get (pc := 32) (v := .ref (m + 7)) G flX10_32_8 dX10_remember_32 rfl ?_
        refine ax_iload_n (pc := 35) G dX10_remember_35 rfl rfl ?_
        refine md_ld (pc := 36) (i := 627 + i) (j := 7) G 5016 dX10_remember_36 (by decide) (by decide) rfl rfl rfl (by omega) (by decide) ?_
        refine ax_top (show Value.int _ = Value.int ((μ.2 7) (i + 627)) from congrArg Value.int (pSh_r (μ.2 7) i)) ?_
        rw [show 627 + i - 627 = i from by omega]
        refine md_st (pc := 37) (i := i) (j := 7) G 5016 dX10_remember_37 hm (by decide) (by decide) rfl rfl rfl (by omega) (by decide) ?_
        show ax_W Ω Γ _ _ (md_H h m (md_sa (md_sa μ 7 (pSh (μ.2 7) i)) 7 (upd (pSh (μ.2 7) i) i ((μ.2 7) (i + 627))))) _ _ _
        rw [md_saa]
        show ax_W Ω Γ _ _ (md_H h m (md_sa μ 7 (upd (pSh (μ.2 7) i) i ((μ.2 7) (i + 627))))) _ _ _
        refine ax_iincN (pc := 38) (n := 1) G dX10_remember_38 rfl rfl ic_1 ?_
        refine ax_goto (pc := 41) (tgt := 13) G dX10_remember_41 rfl ?_
        have q9 := ih (i + 1) (by omega)
        rw [← pSh_s] at q9
        exact q9
  show ax_W Ω Γ 0 0 (md_H h m μ) 0 [some (.ref m), none] []
  refine ax_aload_n (pc := 0) G dX10_remember_0 rfl rfl ?_
  refine md_get (pc := 1) (v := .int (μ.1 18)) G flX10_197_8 dX10_remember_1 rfl ?_
  refine ax_top (show Value.int (μ.1 18) = .int (nI 8) from congrArg Value.int (h18)) ?_
  refine ax_bipush (pc := 4) (v := nI 8) G dX10_remember_4 ib_8 ?_
  refine ax_icmp_ne (pc := 6) (tgt := 54) G dX10_remember_6 rfl (fun c9 => absurd c9 (by decide)) (fun _ => ?_)
  refine ax_sipush (pc := 9) (v := nI 627) G dX10_remember_9 is_627 ?_
  refine ax_istore_n (pc := 12) G dX10_remember_12 rfl (Nat.le_of_ble_eq_true rfl) rfl ?_
  have q9 := L0 4389 0 (by omega)
  rw [pSh_0, md_same] at q9
  exact q9

