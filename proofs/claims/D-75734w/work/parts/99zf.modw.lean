/-! THE MODEL: spread -/
theorem cv_ge {x y : UInt32} (hx : fPos x) (hy : fPos y) : 0 ≤ Op.cmpValue (FP.fcmp x y) .g ↔ ¬ FP.fcmp x y = some .lt := by
  obtain ⟨o, e, -⟩ := fCmp_x hx hy
  rw [e]; cases o <;> decide
theorem cv_le {x y : UInt32} (hx : fPos x) (hy : fPos y) : Op.cmpValue (FP.fcmp x y) .l ≤ 0 ↔ ¬ FP.fcmp x y = some .gt := by
  obtain ⟨o, e, -⟩ := fCmp_x hx hy
  rw [e]; cases o <;> decide
/-- the least, the greatest as the model keeps them -/
def mMn (s : pR) : Nat → UInt32
  | 0 => cShare s 0
  | n + 1 => if FP.fcmp (cShare s (n + 1)) (mMn s n) = some .lt then cShare s (n + 1) else mMn s n
def mMx (s : pR) : Nat → UInt32
  | 0 => cShare s 0
  | n + 1 => if FP.fcmp (cShare s (n + 1)) (mMx s n) = some .gt then cShare s (n + 1) else mMx s n
theorem mMn_p {s : pR} : ∀ {n : Nat}, (∀ p, p ≤ n → fPos (cShare s p)) → fPos (mMn s n)
  | 0, h => h 0 (Nat.le_refl _)
  | n + 1, h => by rw [mMn]; split; exact h _ (Nat.le_refl _); exact mMn_p fun p hp => h p (by omega)
theorem mMx_p {s : pR} : ∀ {n : Nat}, (∀ p, p ≤ n → fPos (cShare s p)) → fPos (mMx s n)
  | 0, h => h 0 (Nat.le_refl _)
  | n + 1, h => by rw [mMx]; split; exact h _ (Nat.le_refl _); exact mMx_p fun p hp => h p (by omega)
theorem ax_l4c {Ω : ax_O} {Γ : ax_F} {kb nb pc : Nat} {h : ax_H} {a c x y z : Option Value} {st : List Value} (kk : ax_W Ω Γ kb nb h pc [a, c, x, y, none] st) : ax_W Ω Γ kb nb h pc [a, c, x, y, z] st :=
  ax_lwk (by rfl) (fun i v hi => by
    match i, hi with
    | 0, hi => exact hi
    | 1, hi => exact hi
    | 2, hi => exact hi
    | 3, hi => exact hi
    | 4, hi => cases hi
    | n + 5, hi => cases hi) kk
theorem mq_spread_Y {Ω : ax_O} (hA : ax_Amb Ω) {h : ax_H} {m : Nat} {μ : md_S} (hm : Ω.2.1.heap.size ≤ m) (h19 : μ.1 19 = nI 1) {P V O : Nat} (hp : pWP (μ.2 2) P V O) (M : Nat) (hM : P = M + 1) (hS9 : ∀ p, p < 6 → fPos (cShare (μ.2 4) p) ∧ (¬ (μ.2 4) (17 + p) = 0 → vf_n32 (FP.fdiv (FP.i2f ((μ.2 4) (23 + p))) (FP.i2f ((μ.2 4) (17 + p))))))  : ax_Met Ω yX10_spread 9 0 0 [.ref m] (md_H h m μ) (.inl (some (.float (FP.fsub (mMx (μ.2 4) M) (mMn (μ.2 4) M))))) (md_H h m (md_si μ 0 (nI 0))) := by
  refine ax_met q3107 q142 (by decide +kernel) (by decide) hA (Nat.le_of_ble_eq_true rfl) (fun Γ G E => ?_)
  have hl_P := hp.lP
  show ax_W Ω Γ 0 0 (md_H h m μ) 0 [some (.ref m), none, none, none, none] []
  refine ax_aload_n (pc := 0) G dX10_spread_0 rfl rfl ?_
  refine ax_iconst (pc := 1) (v := nI 1) G dX10_spread_1 ic_1 ?_
  refine ax_cV1 (pc := 2) (kb := 0) (nb := 0) G (mt_mayAskY hA (μ := μ) hm h19) lVX10_368_8 dX10_spread_2 md_obj rfl (by decide) (Nat.le_of_ble_eq_true rfl) rfl ?_
  show ax_W Ω Γ _ _ (md_H h m (md_si μ 0 (nI 0))) _ _ _
  refine ax_if_ne (pc := 5) (tgt := 10) G dX10_spread_5 rfl (fun _ => ?_) (fun c9 => absurd c9 (by decide))
  refine ax_aload_n (pc := 10) G dX10_spread_10 rfl rfl ?_
  refine ax_iconst (pc := 11) (v := nI 0) G dX10_spread_11 ic_0 ?_
  refine ax_cV1 (pc := 12) (kb := 0) (nb := 0) G (mt_shareOf hA (μ := (md_si μ 0 (nI 0))) hm 0 (by omega) (hS9 0 (by omega)).2) lVX10_387_8 dX10_spread_12 md_obj rfl (by decide) (Nat.le_of_ble_eq_true rfl) rfl ?_
  refine ax_fstore_n (pc := 15) G dX10_spread_15 rfl (Nat.le_of_ble_eq_true rfl) rfl ?_
  refine ax_fload_n (pc := 16) G dX10_spread_16 rfl rfl ?_
  refine ax_fstore_n (pc := 17) G dX10_spread_17 rfl (Nat.le_of_ble_eq_true rfl) rfl ?_
  refine ax_iconst (pc := 18) (v := nI 1) G dX10_spread_18 ic_1 ?_
  refine ax_istore_n (pc := 19) G dX10_spread_19 rfl (Nat.le_of_ble_eq_true rfl) rfl ?_
  have L : ∀ (k i : Nat), i + k = M → ax_W Ω Γ 0 0 (md_H h m (md_si μ 0 (nI 0))) 20 [some (.ref m), some (.float (mMn (μ.2 4) i)), some (.float (mMx (μ.2 4) i)), some (.int (nI (i + 1))), none] [] := by
    intro k
    induction k with
    | zero =>
      intro i hi
      have hi9 : i = M := by omega
      subst hi9
      refine ax_iload_n (pc := 20) G dX10_spread_20 rfl rfl ?_
      refine ax_aload_n (pc := 21) G dX10_spread_21 rfl rfl ?_
      refine md_get (pc := 22) (v := .ref (m + 2)) G flX10_17_8 dX10_spread_22 rfl ?_
      refine ax_bipush (pc := 25) (v := nI 10) G dX10_spread_25 ib_10 ?_
      refine md_ld (pc := 27) (i := 10) (j := 2) G 235 dX10_spread_27 (by decide) (by decide) rfl rfl rfl (by omega) (by decide) ?_
      refine ax_top (show Value.int ((μ.2 2) 10) = .int (nI P) from congrArg Value.int (hp.hP)) ?_
      refine ax_icmp_geN (pc := 28) (tgt := 72) G dX10_spread_28 rfl (by omega) (by omega) (fun c28 => ?_) (fun c28 => ?_)
      · refine ax_fload_n (pc := 72) G dX10_spread_72 rfl rfl ?_
        refine ax_fload_n (pc := 73) G dX10_spread_73 rfl rfl ?_
        refine ax_fsub (pc := 74) G dX10_spread_74 (fSub_n32 (mMx_p fun p hp9 => (hS9 p (by omega)).1) (mMn_p fun p hp9 => (hS9 p (by omega)).1)) ?_
        exact ax_fretE (pc := 75) G E rfl dX10_spread_75 (rfl) (rfl)
      · omega
    | succ k ih =>
      intro i hi
      refine ax_iload_n (pc := 20) G dX10_spread_20 rfl rfl ?_
      refine ax_aload_n (pc := 21) G dX10_spread_21 rfl rfl ?_
      refine md_get (pc := 22) (v := .ref (m + 2)) G flX10_17_8 dX10_spread_22 rfl ?_
      refine ax_bipush (pc := 25) (v := nI 10) G dX10_spread_25 ib_10 ?_
      refine md_ld (pc := 27) (i := 10) (j := 2) G 235 dX10_spread_27 (by decide) (by decide) rfl rfl rfl (by omega) (by decide) ?_
      refine ax_top (show Value.int ((μ.2 2) 10) = .int (nI P) from congrArg Value.int (hp.hP)) ?_
      refine ax_icmp_geN (pc := 28) (tgt := 72) G dX10_spread_28 rfl (by omega) (by omega) (fun c28 => ?_) (fun c28 => ?_)
      · omega
      · refine ax_aload_n (pc := 31) G dX10_spread_31 rfl rfl ?_
        refine ax_iload_n (pc := 32) G dX10_spread_32 rfl rfl ?_
        refine ax_cV1 (pc := 33) (kb := 0) (nb := 0) G (mt_shareOf hA (μ := (md_si μ 0 (nI 0))) hm (i + 1) (by omega) (hS9 (i + 1) (by omega)).2) lVX10_387_8 dX10_spread_33 md_obj rfl (by decide) (Nat.le_of_ble_eq_true rfl) rfl ?_
        refine ax_fstore (pc := 36) G dX10_spread_36 (Nat.le_of_ble_eq_true rfl) rfl ?_
        refine ax_fload (pc := 38) G dX10_spread_38 rfl ?_
        refine ax_fload_n (pc := 40) G dX10_spread_40 rfl rfl ?_
        refine ax_fcmp (pc := 41) G dX10_spread_41 ?_
        refine ax_if_ge (pc := 42) (tgt := 50) G dX10_spread_42 rfl (fun c42 => ?_) (fun c42 => ?_)
        · replace c42 : 0 ≤ (Op.cmpValue (FP.fcmp (cShare (μ.2 4) (i + 1)) (mMn (μ.2 4) i)) .g) := c42
          refine ax_fload_n (pc := 50) G dX10_spread_50 rfl rfl ?_
          refine ax_fstore_n (pc := 51) G dX10_spread_51 rfl (Nat.le_of_ble_eq_true rfl) rfl ?_
          refine ax_fload (pc := 52) G dX10_spread_52 rfl ?_
          refine ax_fload_n (pc := 54) G dX10_spread_54 rfl rfl ?_
          refine ax_fcmp (pc := 55) G dX10_spread_55 ?_
          refine ax_if_le (pc := 56) (tgt := 64) G dX10_spread_56 rfl (fun c56 => ?_) (fun c56 => ?_)
          · replace c56 : (Op.cmpValue (FP.fcmp (cShare (μ.2 4) (i + 1)) (mMx (μ.2 4) i)) .l) ≤ 0 := c56
            refine ax_fload_n (pc := 64) G dX10_spread_64 rfl rfl ?_
            refine ax_fstore_n (pc := 65) G dX10_spread_65 rfl (Nat.le_of_ble_eq_true rfl) rfl ?_
            refine ax_iincN (pc := 66) (n := 1) G dX10_spread_66 rfl rfl ic_1 ?_
            refine ax_goto (pc := 69) (tgt := 20) G dX10_spread_69 rfl ?_
            have q9 := ih (i + 1) (by omega)
            rw [show mMn (μ.2 4) (i + 1) = mMn (μ.2 4) i from if_neg ((cv_ge (hS9 _ (by omega)).1 (mMn_p fun p hp9 => (hS9 p (by omega)).1)).mp ‹0 ≤ Op.cmpValue (FP.fcmp (cShare (μ.2 4) (i + 1)) (mMn (μ.2 4) i)) .g›), show mMx (μ.2 4) (i + 1) = mMx (μ.2 4) i from if_neg ((cv_le (hS9 _ (by omega)).1 (mMx_p fun p hp9 => (hS9 p (by omega)).1)).mp ‹Op.cmpValue (FP.fcmp (cShare (μ.2 4) (i + 1)) (mMx (μ.2 4) i)) .l ≤ 0›)] at q9
            exact ax_l4c q9
          · replace c56 : ¬ (Op.cmpValue (FP.fcmp (cShare (μ.2 4) (i + 1)) (mMx (μ.2 4) i)) .l) ≤ 0 := c56
            refine ax_fload (pc := 59) G dX10_spread_59 rfl ?_
            refine ax_goto (pc := 61) (tgt := 65) G dX10_spread_61 rfl ?_
            refine ax_fstore_n (pc := 65) G dX10_spread_65 rfl (Nat.le_of_ble_eq_true rfl) rfl ?_
            refine ax_iincN (pc := 66) (n := 1) G dX10_spread_66 rfl rfl ic_1 ?_
            refine ax_goto (pc := 69) (tgt := 20) G dX10_spread_69 rfl ?_
            have q9 := ih (i + 1) (by omega)
            rw [show mMn (μ.2 4) (i + 1) = mMn (μ.2 4) i from if_neg ((cv_ge (hS9 _ (by omega)).1 (mMn_p fun p hp9 => (hS9 p (by omega)).1)).mp ‹0 ≤ Op.cmpValue (FP.fcmp (cShare (μ.2 4) (i + 1)) (mMn (μ.2 4) i)) .g›), show mMx (μ.2 4) (i + 1) = cShare (μ.2 4) (i + 1) from if_pos (Decidable.not_not.mp fun z => ‹¬ Op.cmpValue (FP.fcmp (cShare (μ.2 4) (i + 1)) (mMx (μ.2 4) i)) .l ≤ 0› ((cv_le (hS9 _ (by omega)).1 (mMx_p fun p hp9 => (hS9 p (by omega)).1)).mpr z))] at q9
            exact ax_l4c q9
        · replace c42 : ¬ 0 ≤ (Op.cmpValue (FP.fcmp (cShare (μ.2 4) (i + 1)) (mMn (μ.2 4) i)) .g) := c42
          refine ax_fload (pc := 45) G dX10_spread_45 rfl ?_
          refine ax_goto (pc := 47) (tgt := 51) G dX10_spread_47 rfl ?_
          refine ax_fstore_n (pc := 51) G dX10_spread_51 rfl (Nat.le_of_ble_eq_true rfl) rfl ?_
          refine ax_fload (pc := 52) G dX10_spread_52 rfl ?_
          refine ax_fload_n (pc := 54) G dX10_spread_54 rfl rfl ?_
          refine ax_fcmp (pc := 55) G dX10_spread_55 ?_
          refine ax_if_le (pc := 56) (tgt := 64) G dX10_spread_56 rfl (fun c56 => ?_) (fun c56 => ?_)
          · replace c56 : (Op.cmpValue (FP.fcmp (cShare (μ.2 4) (i + 1)) (mMx (μ.2 4) i)) .l) ≤ 0 := c56
            refine ax_fload_n (pc := 64) G dX10_spread_64 rfl rfl ?_
            refine ax_fstore_n (pc := 65) G dX10_spread_65 rfl (Nat.le_of_ble_eq_true rfl) rfl ?_
            refine ax_iincN (pc := 66) (n := 1) G dX10_spread_66 rfl rfl ic_1 ?_
            refine ax_goto (pc := 69) (tgt := 20) G dX10_spread_69 rfl ?_
            have q9 := ih (i + 1) (by omega)
            rw [show mMn (μ.2 4) (i + 1) = cShare (μ.2 4) (i + 1) from if_pos (Decidable.not_not.mp fun z => ‹¬ 0 ≤ Op.cmpValue (FP.fcmp (cShare (μ.2 4) (i + 1)) (mMn (μ.2 4) i)) .g› ((cv_ge (hS9 _ (by omega)).1 (mMn_p fun p hp9 => (hS9 p (by omega)).1)).mpr z)), show mMx (μ.2 4) (i + 1) = mMx (μ.2 4) i from if_neg ((cv_le (hS9 _ (by omega)).1 (mMx_p fun p hp9 => (hS9 p (by omega)).1)).mp ‹Op.cmpValue (FP.fcmp (cShare (μ.2 4) (i + 1)) (mMx (μ.2 4) i)) .l ≤ 0›)] at q9
            exact ax_l4c q9
          · replace c56 : ¬ (Op.cmpValue (FP.fcmp (cShare (μ.2 4) (i + 1)) (mMx (μ.2 4) i)) .l) ≤ 0 := c56
            refine ax_fload (pc := 59) G dX10_spread_59 rfl ?_
            refine ax_goto (pc := 61) (tgt := 65) G dX10_spread_61 rfl ?_
            refine ax_fstore_n (pc := 65) G dX10_spread_65 rfl (Nat.le_of_ble_eq_true rfl) rfl ?_
            refine ax_iincN (pc := 66) (n := 1) G dX10_spread_66 rfl rfl ic_1 ?_
            refine ax_goto (pc := 69) (tgt := 20) G dX10_spread_69 rfl ?_
            have q9 := ih (i + 1) (by omega)
            rw [show mMn (μ.2 4) (i + 1) = cShare (μ.2 4) (i + 1) from if_pos (Decidable.not_not.mp fun z => ‹¬ 0 ≤ Op.cmpValue (FP.fcmp (cShare (μ.2 4) (i + 1)) (mMn (μ.2 4) i)) .g› ((cv_ge (hS9 _ (by omega)).1 (mMn_p fun p hp9 => (hS9 p (by omega)).1)).mpr z)), show mMx (μ.2 4) (i + 1) = cShare (μ.2 4) (i + 1) from if_pos (Decidable.not_not.mp fun z => ‹¬ Op.cmpValue (FP.fcmp (cShare (μ.2 4) (i + 1)) (mMx (μ.2 4) i)) .l ≤ 0› ((cv_le (hS9 _ (by omega)).1 (mMx_p fun p hp9 => (hS9 p (by omega)).1)).mpr z))] at q9
            exact ax_l4c q9
  exact L M 0 (by omega)

