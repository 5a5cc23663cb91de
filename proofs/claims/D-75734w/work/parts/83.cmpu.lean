/-! THE COMPONENT: shares -/
theorem fPos_n32 {r : UInt32} (h : fPos r) : vf_n32 r := by
  have hr : r.toNat < 0x7f800000 := h
  show r &&& 0x7fffffff ≤ 0x7f800000
  rw [UInt32.le_iff_toNat_le, UInt32.toNat_and]
  exact Nat.le_trans Nat.and_le_left (Nat.le_of_lt hr)
/-- the share of a proposal -/
def cShare (s : pR) (p : Nat) : UInt32 := if s (17 + p) = 0 then FP.fconst0 else FP.fdiv (FP.i2f (s (23 + p))) (FP.i2f (s (17 + p)))
theorem ct_share {Ω : ax_O} (hA : ax_Amb Ω) {h : ax_H} {a rl : Nat} {s : pR} {π : Nat → cP} {sc : Value} (p : Nat) (hp : p < 6) (hd9 : ¬ s (17 + p) = 0 → vf_n32 (FP.fdiv (FP.i2f (s (23 + p))) (FP.i2f (s (17 + p)))))  : ax_Met Ω yX2_share 0 0 0 [.ref a, .int (nI p)] (sH h a (s, π, sc, rl)) (.inl (some (.float (cShare s p)))) (sH h a (s, π, sc, rl)) := by
  refine ax_met q2035 q114 (by decide +kernel) (by decide) hA (Nat.le_of_ble_eq_true rfl) (fun Γ G E => ?_)
  show ax_W Ω Γ 0 0 (sH h a (s, π, sc, rl)) 0 [some (.ref a), some (.int (nI p))] []
  refine ax_aload_n (pc := 0) G dX2_share_0 rfl rfl ?_
  refine sr_get (pc := 1) (v := .ref (a + 4)) G flX2_30_1 dX2_share_1 rfl ?_
  refine ax_iload_n (pc := 4) G dX2_share_4 rfl rfl ?_
  refine sr_ld (pc := 5) (k := 4) (j := p) (r := 17 + p) G dX2_share_5 (by decide) (by decide) rfl rfl (show p < 6 by omega) ?_
  show ax_W Ω Γ _ _ _ _ _ (.int (s (17 + p)) :: _)
  refine ax_if_ne (pc := 6) (tgt := 13) G dX2_share_6 rfl (fun c6 => ?_) (fun c6 => ?_)
  · refine ax_aload_n (pc := 13) G dX2_share_13 rfl rfl ?_
    refine sr_get (pc := 14) (v := .ref (a + 5)) G flX2_34_1 dX2_share_14 rfl ?_
    refine ax_iload_n (pc := 17) G dX2_share_17 rfl rfl ?_
    refine sr_ld (pc := 18) (k := 5) (j := p) (r := 23 + p) G dX2_share_18 (by decide) (by decide) rfl rfl (show p < 6 by omega) ?_
    show ax_W Ω Γ _ _ _ _ _ (.int (s (23 + p)) :: _)
    refine ax_i2f (pc := 19) G dX2_share_19 ?_
    refine ax_aload_n (pc := 20) G dX2_share_20 rfl rfl ?_
    refine sr_get (pc := 21) (v := .ref (a + 4)) G flX2_30_1 dX2_share_21 rfl ?_
    refine ax_iload_n (pc := 24) G dX2_share_24 rfl rfl ?_
    refine sr_ld (pc := 25) (k := 4) (j := p) (r := 17 + p) G dX2_share_25 (by decide) (by decide) rfl rfl (show p < 6 by omega) ?_
    show ax_W Ω Γ _ _ _ _ _ (.int (s (17 + p)) :: _)
    refine ax_i2f (pc := 26) G dX2_share_26 ?_
    refine ax_fdiv (pc := 27) G dX2_share_27 (hd9 (by assumption)) ?_
    exact ax_fretE (pc := 28) G E rfl dX2_share_28 (by rw [cShare, if_neg ‹_›]) (rfl)
  · refine ax_fconst0 (pc := 9) G dX2_share_9 ?_
    refine ax_goto (pc := 10) (tgt := 28) G dX2_share_10 rfl ?_
    exact ax_fretE (pc := 28) G E rfl dX2_share_28 (by rw [cShare, if_pos ‹_›]) (rfl)

