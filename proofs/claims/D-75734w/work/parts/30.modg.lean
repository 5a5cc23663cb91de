/-! THE MODEL: copies -/
theorem mt_copy_4_6 {Ω : ax_O} (hA : ax_Amb Ω) {h : ax_H} {m : Nat} {μ : md_S} (hm : Ω.2.1.heap.size ≤ m) (p q : Nat) (hp : p + 627 ≤ 627) (hq : q + 627 ≤ 627)  : ax_Met Ω yX10_copy 1 0 0 [.ref (m + 4), .int (nI p), .ref (m + 6), .int (nI q)] (md_H h m μ) (.inl none) (md_H h m (md_sa μ 6 (pPut (μ.2 6) (fun k => μ.2 4 (p + k)) q 627))) := by
  refine ax_met q2769 q142 (by decide +kernel) (by decide) hA (Nat.le_of_ble_eq_true rfl) (fun Γ G E => ?_)
  have L0 : ∀ (n i : Nat), i + n = 627 → ax_W Ω Γ 0 0 (md_H h m (md_sa μ 6 (pPut (μ.2 6) (fun k => μ.2 4 (p + k)) q i))) 3 [some (.ref (m + 4)), some (.int (nI p)), some (.ref (m + 6)), some (.int (nI q)), some (.int (nI i))] [] := by
    intro n
    induction n with
    | zero =>
      intro i hi
      have hi9 : i = 627 := by omega
      subst hi9
      refine ax_iload (pc := 3) G dX10_copy_3 rfl ?_
      refine ax_sipush (pc := 5) (v := nI 627) G dX10_copy_5 is_627 ?_
      refine ax_icmp_ge (pc := 8) (tgt := 29) G dX10_copy_8 rfl (fun _ => ?_) (fun c9 => absurd (by decide) c9)
      exact ax_vretE (pc := 29) G E rfl dX10_copy_29 (rfl)
    | succ n ih =>
      intro i hi
      refine ax_iload (pc := 3) G dX10_copy_3 rfl ?_
      refine ax_sipush (pc := 5) (v := nI 627) G dX10_copy_5 is_627 ?_
      refine ax_icmp_geN (pc := 8) (tgt := 29) G dX10_copy_8 rfl (by omega) (by omega) (fun c8 => ?_) (fun c8 => ?_)
      · omega
      · refine ax_aload_n (pc := 11) G dX10_copy_11 rfl rfl ?_
        refine ax_iload_n (pc := 12) G dX10_copy_12 rfl rfl ?_
        refine ax_iload (pc := 13) G dX10_copy_13 rfl ?_
        refine ax_iaddN (pc := 15) G dX10_copy_15 ?_
        refine ax_aload_n (pc := 16) G dX10_copy_16 rfl rfl ?_
        refine ax_iload_n (pc := 17) G dX10_copy_17 rfl rfl ?_
        refine ax_iload (pc := 18) G dX10_copy_18 rfl ?_
        refine ax_iaddN (pc := 20) G dX10_copy_20 ?_
        refine md_ld (pc := 21) (i := p + i) (j := 4) G 627 dX10_copy_21 (by decide) (by decide) rfl rfl rfl (by omega) (by decide) ?_
        refine md_st (pc := 22) (i := q + i) (j := 6) G 627 dX10_copy_22 hm (by decide) (by decide) rfl rfl rfl (by omega) (by decide) ?_
        show ax_W Ω Γ _ _ (md_H h m (md_sa (md_sa μ 6 (pPut (μ.2 6) (fun k => μ.2 4 (p + k)) q i)) 6 (upd (pPut (μ.2 6) (fun k => μ.2 4 (p + k)) q i) (q + i) ((μ.2 4) (p + i))))) _ _ _
        rw [md_saa]
        show ax_W Ω Γ _ _ (md_H h m (md_sa μ 6 (upd (pPut (μ.2 6) (fun k => μ.2 4 (p + k)) q i) (q + i) ((μ.2 4) (p + i))))) _ _ _
        refine ax_iincN (pc := 23) (n := 1) G dX10_copy_23 rfl rfl ic_1 ?_
        refine ax_goto (pc := 26) (tgt := 3) G dX10_copy_26 rfl ?_
        have q9 := ih (i + 1) (by omega)
        rw [← pPut_s] at q9
        exact q9
  show ax_W Ω Γ 0 0 (md_H h m μ) 0 [some (.ref (m + 4)), some (.int (nI p)), some (.ref (m + 6)), some (.int (nI q)), none] []
  refine ax_iconst (pc := 0) (v := nI 0) G dX10_copy_0 ic_0 ?_
  refine ax_istore (pc := 1) G dX10_copy_1 (Nat.le_of_ble_eq_true rfl) rfl ?_
  have q9 := L0 627 0 (by omega)
  rw [pPut_0, md_same] at q9
  exact q9

theorem mt_copy_5_4 {Ω : ax_O} (hA : ax_Amb Ω) {h : ax_H} {m : Nat} {μ : md_S} (hm : Ω.2.1.heap.size ≤ m) (p q : Nat) (hp : p + 627 ≤ 627) (hq : q + 627 ≤ 627)  : ax_Met Ω yX10_copy 1 0 0 [.ref (m + 5), .int (nI p), .ref (m + 4), .int (nI q)] (md_H h m μ) (.inl none) (md_H h m (md_sa μ 4 (pPut (μ.2 4) (fun k => μ.2 5 (p + k)) q 627))) := by
  refine ax_met q2769 q142 (by decide +kernel) (by decide) hA (Nat.le_of_ble_eq_true rfl) (fun Γ G E => ?_)
  have L0 : ∀ (n i : Nat), i + n = 627 → ax_W Ω Γ 0 0 (md_H h m (md_sa μ 4 (pPut (μ.2 4) (fun k => μ.2 5 (p + k)) q i))) 3 [some (.ref (m + 5)), some (.int (nI p)), some (.ref (m + 4)), some (.int (nI q)), some (.int (nI i))] [] := by
    intro n
    induction n with
    | zero =>
      intro i hi
      have hi9 : i = 627 := by omega
      subst hi9
      refine ax_iload (pc := 3) G dX10_copy_3 rfl ?_
      refine ax_sipush (pc := 5) (v := nI 627) G dX10_copy_5 is_627 ?_
      refine ax_icmp_ge (pc := 8) (tgt := 29) G dX10_copy_8 rfl (fun _ => ?_) (fun c9 => absurd (by decide) c9)
      exact ax_vretE (pc := 29) G E rfl dX10_copy_29 (rfl)
    | succ n ih =>
      intro i hi
      refine ax_iload (pc := 3) G dX10_copy_3 rfl ?_
      refine ax_sipush (pc := 5) (v := nI 627) G dX10_copy_5 is_627 ?_
      refine ax_icmp_geN (pc := 8) (tgt := 29) G dX10_copy_8 rfl (by omega) (by omega) (fun c8 => ?_) (fun c8 => ?_)
      · omega
      · refine ax_aload_n (pc := 11) G dX10_copy_11 rfl rfl ?_
        refine ax_iload_n (pc := 12) G dX10_copy_12 rfl rfl ?_
        refine ax_iload (pc := 13) G dX10_copy_13 rfl ?_
        refine ax_iaddN (pc := 15) G dX10_copy_15 ?_
        refine ax_aload_n (pc := 16) G dX10_copy_16 rfl rfl ?_
        refine ax_iload_n (pc := 17) G dX10_copy_17 rfl rfl ?_
        refine ax_iload (pc := 18) G dX10_copy_18 rfl ?_
        refine ax_iaddN (pc := 20) G dX10_copy_20 ?_
        refine md_ld (pc := 21) (i := p + i) (j := 5) G 627 dX10_copy_21 (by decide) (by decide) rfl rfl rfl (by omega) (by decide) ?_
        refine md_st (pc := 22) (i := q + i) (j := 4) G 627 dX10_copy_22 hm (by decide) (by decide) rfl rfl rfl (by omega) (by decide) ?_
        show ax_W Ω Γ _ _ (md_H h m (md_sa (md_sa μ 4 (pPut (μ.2 4) (fun k => μ.2 5 (p + k)) q i)) 4 (upd (pPut (μ.2 4) (fun k => μ.2 5 (p + k)) q i) (q + i) ((μ.2 5) (p + i))))) _ _ _
        rw [md_saa]
        show ax_W Ω Γ _ _ (md_H h m (md_sa μ 4 (upd (pPut (μ.2 4) (fun k => μ.2 5 (p + k)) q i) (q + i) ((μ.2 5) (p + i))))) _ _ _
        refine ax_iincN (pc := 23) (n := 1) G dX10_copy_23 rfl rfl ic_1 ?_
        refine ax_goto (pc := 26) (tgt := 3) G dX10_copy_26 rfl ?_
        have q9 := ih (i + 1) (by omega)
        rw [← pPut_s] at q9
        exact q9
  show ax_W Ω Γ 0 0 (md_H h m μ) 0 [some (.ref (m + 5)), some (.int (nI p)), some (.ref (m + 4)), some (.int (nI q)), none] []
  refine ax_iconst (pc := 0) (v := nI 0) G dX10_copy_0 ic_0 ?_
  refine ax_istore (pc := 1) G dX10_copy_1 (Nat.le_of_ble_eq_true rfl) rfl ?_
  have q9 := L0 627 0 (by omega)
  rw [pPut_0, md_same] at q9
  exact q9

theorem mt_copy_4_7 {Ω : ax_O} (hA : ax_Amb Ω) {h : ax_H} {m : Nat} {μ : md_S} (hm : Ω.2.1.heap.size ≤ m) (p q : Nat) (hp : p + 627 ≤ 627) (hq : q + 627 ≤ 5016)  : ax_Met Ω yX10_copy 1 0 0 [.ref (m + 4), .int (nI p), .ref (m + 7), .int (nI q)] (md_H h m μ) (.inl none) (md_H h m (md_sa μ 7 (pPut (μ.2 7) (fun k => μ.2 4 (p + k)) q 627))) := by
  refine ax_met q2769 q142 (by decide +kernel) (by decide) hA (Nat.le_of_ble_eq_true rfl) (fun Γ G E => ?_)
  have L0 : ∀ (n i : Nat), i + n = 627 → ax_W Ω Γ 0 0 (md_H h m (md_sa μ 7 (pPut (μ.2 7) (fun k => μ.2 4 (p + k)) q i))) 3 [some (.ref (m + 4)), some (.int (nI p)), some (.ref (m + 7)), some (.int (nI q)), some (.int (nI i))] [] := by
    intro n
    induction n with
    | zero =>
      intro i hi
      have hi9 : i = 627 := by omega
      subst hi9
      refine ax_iload (pc := 3) G dX10_copy_3 rfl ?_
      refine ax_sipush (pc := 5) (v := nI 627) G dX10_copy_5 is_627 ?_
      refine ax_icmp_ge (pc := 8) (tgt := 29) G dX10_copy_8 rfl (fun _ => ?_) (fun c9 => absurd (by decide) c9)
      exact ax_vretE (pc := 29) G E rfl dX10_copy_29 (rfl)
    | succ n ih =>
      intro i hi
      refine ax_iload (pc := 3) G dX10_copy_3 rfl ?_
      refine ax_sipush (pc := 5) (v := nI 627) G dX10_copy_5 is_627 ?_
      refine ax_icmp_geN (pc := 8) (tgt := 29) G dX10_copy_8 rfl (by omega) (by omega) (fun c8 => ?_) (fun c8 => ?_)
      · omega
      · refine ax_aload_n (pc := 11) G dX10_copy_11 rfl rfl ?_
        refine ax_iload_n (pc := 12) G dX10_copy_12 rfl rfl ?_
        refine ax_iload (pc := 13) G dX10_copy_13 rfl ?_
        refine ax_iaddN (pc := 15) G dX10_copy_15 ?_
        refine ax_aload_n (pc := 16) G dX10_copy_16 rfl rfl ?_
        refine ax_iload_n (pc := 17) G dX10_copy_17 rfl rfl ?_
        refine ax_iload (pc := 18) G dX10_copy_18 rfl ?_
        refine ax_iaddN (pc := 20) G dX10_copy_20 ?_
        refine md_ld (pc := 21) (i := p + i) (j := 4) G 627 dX10_copy_21 (by decide) (by decide) rfl rfl rfl (by omega) (by decide) ?_
        refine md_st (pc := 22) (i := q + i) (j := 7) G 5016 dX10_copy_22 hm (by decide) (by decide) rfl rfl rfl (by omega) (by decide) ?_
        show ax_W Ω Γ _ _ (md_H h m (md_sa (md_sa μ 7 (pPut (μ.2 7) (fun k => μ.2 4 (p + k)) q i)) 7 (upd (pPut (μ.2 7) (fun k => μ.2 4 (p + k)) q i) (q + i) ((μ.2 4) (p + i))))) _ _ _
        rw [md_saa]
        show ax_W Ω Γ _ _ (md_H h m (md_sa μ 7 (upd (pPut (μ.2 7) (fun k => μ.2 4 (p + k)) q i) (q + i) ((μ.2 4) (p + i))))) _ _ _
        refine ax_iincN (pc := 23) (n := 1) G dX10_copy_23 rfl rfl ic_1 ?_
        refine ax_goto (pc := 26) (tgt := 3) G dX10_copy_26 rfl ?_
        have q9 := ih (i + 1) (by omega)
        rw [← pPut_s] at q9
        exact q9
  show ax_W Ω Γ 0 0 (md_H h m μ) 0 [some (.ref (m + 4)), some (.int (nI p)), some (.ref (m + 7)), some (.int (nI q)), none] []
  refine ax_iconst (pc := 0) (v := nI 0) G dX10_copy_0 ic_0 ?_
  refine ax_istore (pc := 1) G dX10_copy_1 (Nat.le_of_ble_eq_true rfl) rfl ?_
  have q9 := L0 627 0 (by omega)
  rw [pPut_0, md_same] at q9
  exact q9

theorem mt_copy_7_4 {Ω : ax_O} (hA : ax_Amb Ω) {h : ax_H} {m : Nat} {μ : md_S} (hm : Ω.2.1.heap.size ≤ m) (p q : Nat) (hp : p + 627 ≤ 5016) (hq : q + 627 ≤ 627)  : ax_Met Ω yX10_copy 1 0 0 [.ref (m + 7), .int (nI p), .ref (m + 4), .int (nI q)] (md_H h m μ) (.inl none) (md_H h m (md_sa μ 4 (pPut (μ.2 4) (fun k => μ.2 7 (p + k)) q 627))) := by
  refine ax_met q2769 q142 (by decide +kernel) (by decide) hA (Nat.le_of_ble_eq_true rfl) (fun Γ G E => ?_)
  have L0 : ∀ (n i : Nat), i + n = 627 → ax_W Ω Γ 0 0 (md_H h m (md_sa μ 4 (pPut (μ.2 4) (fun k => μ.2 7 (p + k)) q i))) 3 [some (.ref (m + 7)), some (.int (nI p)), some (.ref (m + 4)), some (.int (nI q)), some (.int (nI i))] [] := by
    intro n
    induction n with
    | zero =>
      intro i hi
      have hi9 : i = 627 := by omega
      subst hi9
      refine ax_iload (pc := 3) G dX10_copy_3 rfl ?_
      refine ax_sipush (pc := 5) (v := nI 627) G dX10_copy_5 is_627 ?_
      refine ax_icmp_ge (pc := 8) (tgt := 29) G dX10_copy_8 rfl (fun _ => ?_) (fun c9 => absurd (by decide) c9)
      exact ax_vretE (pc := 29) G E rfl dX10_copy_29 (rfl)
    | succ n ih =>
      intro i hi
      refine ax_iload (pc := 3) G dX10_copy_3 rfl ?_
      refine ax_sipush (pc := 5) (v := nI 627) G dX10_copy_5 is_627 ?_
      refine ax_icmp_geN (pc := 8) (tgt := 29) G dX10_copy_8 rfl (by omega) (by omega) (fun c8 => ?_) (fun c8 => ?_)
      · omega
      · refine ax_aload_n (pc := 11) G dX10_copy_11 rfl rfl ?_
        refine ax_iload_n (pc := 12) G dX10_copy_12 rfl rfl ?_
        refine ax_iload (pc := 13) G dX10_copy_13 rfl ?_
        refine ax_iaddN (pc := 15) G dX10_copy_15 ?_
        refine ax_aload_n (pc := 16) G dX10_copy_16 rfl rfl ?_
        refine ax_iload_n (pc := 17) G dX10_copy_17 rfl rfl ?_
        refine ax_iload (pc := 18) G dX10_copy_18 rfl ?_
        refine ax_iaddN (pc := 20) G dX10_copy_20 ?_
        refine md_ld (pc := 21) (i := p + i) (j := 7) G 5016 dX10_copy_21 (by decide) (by decide) rfl rfl rfl (by omega) (by decide) ?_
        refine md_st (pc := 22) (i := q + i) (j := 4) G 627 dX10_copy_22 hm (by decide) (by decide) rfl rfl rfl (by omega) (by decide) ?_
        show ax_W Ω Γ _ _ (md_H h m (md_sa (md_sa μ 4 (pPut (μ.2 4) (fun k => μ.2 7 (p + k)) q i)) 4 (upd (pPut (μ.2 4) (fun k => μ.2 7 (p + k)) q i) (q + i) ((μ.2 7) (p + i))))) _ _ _
        rw [md_saa]
        show ax_W Ω Γ _ _ (md_H h m (md_sa μ 4 (upd (pPut (μ.2 4) (fun k => μ.2 7 (p + k)) q i) (q + i) ((μ.2 7) (p + i))))) _ _ _
        refine ax_iincN (pc := 23) (n := 1) G dX10_copy_23 rfl rfl ic_1 ?_
        refine ax_goto (pc := 26) (tgt := 3) G dX10_copy_26 rfl ?_
        have q9 := ih (i + 1) (by omega)
        rw [← pPut_s] at q9
        exact q9
  show ax_W Ω Γ 0 0 (md_H h m μ) 0 [some (.ref (m + 7)), some (.int (nI p)), some (.ref (m + 4)), some (.int (nI q)), none] []
  refine ax_iconst (pc := 0) (v := nI 0) G dX10_copy_0 ic_0 ?_
  refine ax_istore (pc := 1) G dX10_copy_1 (Nat.le_of_ble_eq_true rfl) rfl ?_
  have q9 := L0 627 0 (by omega)
  rw [pPut_0, md_same] at q9
  exact q9

theorem mt_copy_4_8 {Ω : ax_O} (hA : ax_Amb Ω) {h : ax_H} {m : Nat} {μ : md_S} (hm : Ω.2.1.heap.size ≤ m) (p q : Nat) (hp : p + 627 ≤ 627) (hq : q + 627 ≤ 1254)  : ax_Met Ω yX10_copy 1 0 0 [.ref (m + 4), .int (nI p), .ref (m + 8), .int (nI q)] (md_H h m μ) (.inl none) (md_H h m (md_sa μ 8 (pPut (μ.2 8) (fun k => μ.2 4 (p + k)) q 627))) := by
  refine ax_met q2769 q142 (by decide +kernel) (by decide) hA (Nat.le_of_ble_eq_true rfl) (fun Γ G E => ?_)
  have L0 : ∀ (n i : Nat), i + n = 627 → ax_W Ω Γ 0 0 (md_H h m (md_sa μ 8 (pPut (μ.2 8) (fun k => μ.2 4 (p + k)) q i))) 3 [some (.ref (m + 4)), some (.int (nI p)), some (.ref (m + 8)), some (.int (nI q)), some (.int (nI i))] [] := by
    intro n
    induction n with
    | zero =>
      intro i hi
      have hi9 : i = 627 := by omega
      subst hi9
      refine ax_iload (pc := 3) G dX10_copy_3 rfl ?_
      refine ax_sipush (pc := 5) (v := nI 627) G dX10_copy_5 is_627 ?_
      refine ax_icmp_ge (pc := 8) (tgt := 29) G dX10_copy_8 rfl (fun _ => ?_) (fun c9 => absurd (by decide) c9)
      exact ax_vretE (pc := 29) G E rfl dX10_copy_29 (rfl)
    | succ n ih =>
      intro i hi
      refine ax_iload (pc := 3) G dX10_copy_3 rfl ?_
      refine ax_sipush (pc := 5) (v := nI 627) G dX10_copy_5 is_627 ?_
      refine ax_icmp_geN (pc := 8) (tgt := 29) G dX10_copy_8 rfl (by omega) (by omega) (fun c8 => ?_) (fun c8 => ?_)
      · omega
      · refine ax_aload_n (pc := 11) G dX10_copy_11 rfl rfl ?_
        refine ax_iload_n (pc := 12) G dX10_copy_12 rfl rfl ?_
        refine ax_iload (pc := 13) G dX10_copy_13 rfl ?_
        refine ax_iaddN (pc := 15) G dX10_copy_15 ?_
        refine ax_aload_n (pc := 16) G dX10_copy_16 rfl rfl ?_
        refine ax_iload_n (pc := 17) G dX10_copy_17 rfl rfl ?_
        refine ax_iload (pc := 18) G dX10_copy_18 rfl ?_
        refine ax_iaddN (pc := 20) G dX10_copy_20 ?_
        refine md_ld (pc := 21) (i := p + i) (j := 4) G 627 dX10_copy_21 (by decide) (by decide) rfl rfl rfl (by omega) (by decide) ?_
        refine md_st (pc := 22) (i := q + i) (j := 8) G 1254 dX10_copy_22 hm (by decide) (by decide) rfl rfl rfl (by omega) (by decide) ?_
        show ax_W Ω Γ _ _ (md_H h m (md_sa (md_sa μ 8 (pPut (μ.2 8) (fun k => μ.2 4 (p + k)) q i)) 8 (upd (pPut (μ.2 8) (fun k => μ.2 4 (p + k)) q i) (q + i) ((μ.2 4) (p + i))))) _ _ _
        rw [md_saa]
        show ax_W Ω Γ _ _ (md_H h m (md_sa μ 8 (upd (pPut (μ.2 8) (fun k => μ.2 4 (p + k)) q i) (q + i) ((μ.2 4) (p + i))))) _ _ _
        refine ax_iincN (pc := 23) (n := 1) G dX10_copy_23 rfl rfl ic_1 ?_
        refine ax_goto (pc := 26) (tgt := 3) G dX10_copy_26 rfl ?_
        have q9 := ih (i + 1) (by omega)
        rw [← pPut_s] at q9
        exact q9
  show ax_W Ω Γ 0 0 (md_H h m μ) 0 [some (.ref (m + 4)), some (.int (nI p)), some (.ref (m + 8)), some (.int (nI q)), none] []
  refine ax_iconst (pc := 0) (v := nI 0) G dX10_copy_0 ic_0 ?_
  refine ax_istore (pc := 1) G dX10_copy_1 (Nat.le_of_ble_eq_true rfl) rfl ?_
  have q9 := L0 627 0 (by omega)
  rw [pPut_0, md_same] at q9
  exact q9

theorem mt_copy_8_4 {Ω : ax_O} (hA : ax_Amb Ω) {h : ax_H} {m : Nat} {μ : md_S} (hm : Ω.2.1.heap.size ≤ m) (p q : Nat) (hp : p + 627 ≤ 1254) (hq : q + 627 ≤ 627)  : ax_Met Ω yX10_copy 1 0 0 [.ref (m + 8), .int (nI p), .ref (m + 4), .int (nI q)] (md_H h m μ) (.inl none) (md_H h m (md_sa μ 4 (pPut (μ.2 4) (fun k => μ.2 8 (p + k)) q 627))) := by
  refine ax_met q2769 q142 (by decide +kernel) (by decide) hA (Nat.le_of_ble_eq_true rfl) (fun Γ G E => ?_)
  have L0 : ∀ (n i : Nat), i + n = 627 → ax_W Ω Γ 0 0 (md_H h m (md_sa μ 4 (pPut (μ.2 4) (fun k => μ.2 8 (p + k)) q i))) 3 [some (.ref (m + 8)), some (.int (nI p)), some (.ref (m + 4)), some (.int (nI q)), some (.int (nI i))] [] := by
    intro n
    induction n with
    | zero =>
      intro i hi
      have hi9 : i = 627 := by omega
      subst hi9
      refine ax_iload (pc := 3) G dX10_copy_3 rfl ?_
      refine ax_sipush (pc := 5) (v := nI 627) G dX10_copy_5 is_627 ?_
      refine ax_icmp_ge (pc := 8) (tgt := 29) G dX10_copy_8 rfl (fun _ => ?_) (fun c9 => absurd (by decide) c9)
      exact ax_vretE (pc := 29) G E rfl dX10_copy_29 (rfl)
    | succ n ih =>
      intro i hi
      refine ax_iload (pc := 3) G dX10_copy_3 rfl ?_
      refine ax_sipush (pc := 5) (v := nI 627) G dX10_copy_5 is_627 ?_
      refine ax_icmp_geN (pc := 8) (tgt := 29) G dX10_copy_8 rfl (by omega) (by omega) (fun c8 => ?_) (fun c8 => ?_)
      · omega
      · refine ax_aload_n (pc := 11) G dX10_copy_11 rfl rfl ?_
        refine ax_iload_n (pc := 12) G dX10_copy_12 rfl rfl ?_
        refine ax_iload (pc := 13) G dX10_copy_13 rfl ?_
        refine ax_iaddN (pc := 15) G dX10_copy_15 ?_
        refine ax_aload_n (pc := 16) G dX10_copy_16 rfl rfl ?_
        refine ax_iload_n (pc := 17) G dX10_copy_17 rfl rfl ?_
        refine ax_iload (pc := 18) G dX10_copy_18 rfl ?_
        refine ax_iaddN (pc := 20) G dX10_copy_20 ?_
        refine md_ld (pc := 21) (i := p + i) (j := 8) G 1254 dX10_copy_21 (by decide) (by decide) rfl rfl rfl (by omega) (by decide) ?_
        refine md_st (pc := 22) (i := q + i) (j := 4) G 627 dX10_copy_22 hm (by decide) (by decide) rfl rfl rfl (by omega) (by decide) ?_
        show ax_W Ω Γ _ _ (md_H h m (md_sa (md_sa μ 4 (pPut (μ.2 4) (fun k => μ.2 8 (p + k)) q i)) 4 (upd (pPut (μ.2 4) (fun k => μ.2 8 (p + k)) q i) (q + i) ((μ.2 8) (p + i))))) _ _ _
        rw [md_saa]
        show ax_W Ω Γ _ _ (md_H h m (md_sa μ 4 (upd (pPut (μ.2 4) (fun k => μ.2 8 (p + k)) q i) (q + i) ((μ.2 8) (p + i))))) _ _ _
        refine ax_iincN (pc := 23) (n := 1) G dX10_copy_23 rfl rfl ic_1 ?_
        refine ax_goto (pc := 26) (tgt := 3) G dX10_copy_26 rfl ?_
        have q9 := ih (i + 1) (by omega)
        rw [← pPut_s] at q9
        exact q9
  show ax_W Ω Γ 0 0 (md_H h m μ) 0 [some (.ref (m + 8)), some (.int (nI p)), some (.ref (m + 4)), some (.int (nI q)), none] []
  refine ax_iconst (pc := 0) (v := nI 0) G dX10_copy_0 ic_0 ?_
  refine ax_istore (pc := 1) G dX10_copy_1 (Nat.le_of_ble_eq_true rfl) rfl ?_
  have q9 := L0 627 0 (by omega)
  rw [pPut_0, md_same] at q9
  exact q9

