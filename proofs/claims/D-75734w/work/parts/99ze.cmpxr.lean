/-! TelescopeQueue: spread -/
theorem fSub_n32 {a b : UInt32} (ha : fPos a) (hb : fPos b) : vf_n32 (FP.fsub a b) := by
  obtain ⟨c, q, e1, -⟩ := fPos_dec ha
  obtain ⟨d, r, e2, -⟩ := fPos_dec hb
  obtain ⟨s, n, z, e3⟩ : ∃ s n z, FP.Core.exactSum (.fin false c q) (FP.Core.negate (.fin false d r)) = .fin s n z := ⟨_, _, _, rfl⟩
  have e : FP.fsub a b = UInt32.ofNat (FP.Core.encode FP.Core.b32 (FP.Core.roundRatio FP.Core.b32 s n 1 z)) := by
    show UInt32.ofNat (FP.Core.encode FP.Core.b32 (FP.Core.round FP.Core.b32 (FP.Core.exactSum (FP.Core.decode FP.Core.b32 a.toNat) (FP.Core.negate (FP.Core.decode FP.Core.b32 b.toNat))))) = _
    rw [e1, e2, e3]; rfl
  rw [e]
  rcases fr_fin (s := s) (num := n) (den := 1) (e := z) with h | ⟨c', q', h, h1, h2, h3⟩
  · rw [h]
    cases s
    · exact (by decide : UInt32.ofNat (FP.Core.encode FP.Core.b32 (FP.Core.Datum.inf false)) &&& 0x7fffffff ≤ 0x7f800000)
    · exact (by decide : UInt32.ofNat (FP.Core.encode FP.Core.b32 (FP.Core.Datum.inf true)) &&& 0x7fffffff ≤ 0x7f800000)
  · rw [h]
    obtain ⟨M, m1, m2⟩ := fe_fin (s := s) h1 h2 h3
    rw [m2]
    show UInt32.ofNat _ &&& 0x7fffffff ≤ 0x7f800000
    rw [UInt32.le_iff_toNat_le, UInt32.toNat_and, UInt32.toNat_ofNat']
    show (s.toNat * 2 ^ 31 + M) % 2 ^ 32 &&& (2 ^ 31 - 1) ≤ 0x7f800000
    rw [Nat.and_two_pow_sub_one_eq_mod]
    have : s.toNat ≤ 1 := by cases s <;> decide
    omega
/-- the greatest, the least of the first shares -/
def fMx (s : pR) : Nat → UInt32
  | 0 => cShare s 0
  | n + 1 => fMax (fMx s n) (cShare s (n + 1))
def fMn (s : pR) : Nat → UInt32
  | 0 => cShare s 0
  | n + 1 => fMinC (fMn s n) (cShare s (n + 1))
theorem fMx_p {s : pR} : ∀ {n : Nat}, (∀ p, p ≤ n → fPos (cShare s p)) → fPos (fMx s n)
  | 0, h => h 0 (Nat.le_refl _)
  | n + 1, h => fMax_p (fMx_p fun p hp => h p (by omega)) (h _ (Nat.le_refl _))
theorem fMn_p {s : pR} : ∀ {n : Nat}, (∀ p, p ≤ n → fPos (cShare s p)) → fPos (fMn s n)
  | 0, h => h 0 (Nat.le_refl _)
  | n + 1, h => fMinC_p (fMn_p fun p hp => h p (by omega)) (h _ (Nat.le_refl _))
theorem cq_spread_Y {Ω : ax_O} (hA : ax_Amb Ω) {h : ax_H} {a : Nat} {pl s : pR} {π : Nat → cP} {N V O A : Nat} {D : cD} (ha : Ω.2.1.heap.size ≤ a) (hp : pWP pl N V O) (hs : pWS s A) (hE : cEn h a pl s N V O A D) {X bf tr hi sv lb : Nat} {x1 x2 x3 : Int32} (hX : ∀ σ, (sH h a σ).1 X = some (.inr (0, [.ref bf, .int x1, .int x2, .int x3, .ref a, .ref tr, .ref hi, .ref sv, .ref lb]))) (M : Nat) (hM : N = M + 1) (hS9 : ∀ p, p < 6 → fPos (cShare s p) ∧ (¬ s (17 + p) = 0 → vf_n32 (FP.fdiv (FP.i2f (s (23 + p))) (FP.i2f (s (17 + p))))))  : ax_Met Ω yX1_spread 20 4 24 [.ref X] (sH h a (s, π, (.ref (D.1 0)), (D.1 8))) (.inl (some (.float (FP.fsub (fMx s M) (fMn s M))))) (sH h a (s, π, (.ref (D.1 0)), (D.1 8))) := by
  refine ax_met q2042 q113 (by decide +kernel) (by decide) hA (Nat.le_of_ble_eq_true rfl) (fun Γ G E => ?_)
  have hV9 := hp.lV
  have hA9 := hs.lA
  have hO9 := hp.lO
  have hN9 := hp.2.1.1
  show ax_W Ω Γ 4 24 (sH h a (s, π, (.ref (D.1 0)), (D.1 8))) 0 [some (.ref X), none, none, none, none] []
  refine ax_aload_n (pc := 0) G dX1_spread_0 rfl rfl ?_
  refine ax_cV1 (pc := 1) (kb := 2) (nb := 12) G (cx_thereY hA (π := π) ha hp hs hE hX) lVX1_79_0 dX1_spread_1 (hX _) rfl (by decide) (Nat.le_of_ble_eq_true rfl) rfl ?_
  refine ax_astore_n (pc := 4) G dX1_spread_4 rfl (Nat.le_of_ble_eq_true rfl) rfl ?_
  refine ax_aload_n (pc := 5) G dX1_spread_5 rfl rfl ?_
  refine ax_iconst (pc := 6) (v := nI 0) G dX1_spread_6 ic_0 ?_
  refine ax_cV1 (pc := 7) (kb := 2) (nb := 12) G (ct_share hA (π := π) 0 (by omega) (hS9 0 (by omega)).2) lVX1_359_1 dX1_spread_7 sH_obj rfl (by decide) (Nat.le_of_ble_eq_true rfl) rfl ?_
  refine ax_fstore_n (pc := 10) G dX1_spread_10 rfl (Nat.le_of_ble_eq_true rfl) rfl ?_
  refine ax_fload_n (pc := 11) G dX1_spread_11 rfl rfl ?_
  refine ax_fstore_n (pc := 12) G dX1_spread_12 rfl (Nat.le_of_ble_eq_true rfl) rfl ?_
  refine ax_iconst (pc := 13) (v := nI 1) G dX1_spread_13 ic_1 ?_
  refine ax_istore (pc := 14) G dX1_spread_14 (Nat.le_of_ble_eq_true rfl) rfl ?_
  have L : ∀ (k i : Nat), i + k = M → ax_W Ω Γ 2 12 (sH h a (s, π, (.ref (D.1 0)), (D.1 8))) 16 [some (.ref X), some (.ref a), some (.float (fMx s i)), some (.float (fMn s i)), some (.int (nI (i + 1)))] [] := by
    intro k
    induction k with
    | zero =>
      intro i hi
      have hi9 : i = M := by omega
      subst hi9
      refine ax_iload (pc := 16) G dX1_spread_16 rfl ?_
      refine ax_aload_n (pc := 18) G dX1_spread_18 rfl rfl ?_
      refine sr_get (pc := 19) (v := .ref (D.1 0)) G flX1_83_1 dX1_spread_19 rfl ?_
      refine ax_getf (pc := 22) (v := .ref (D.1 1)) G flX1_87_10 dX1_spread_22 (((hE (s, π, (.ref (D.1 0)), (D.1 8))).1).1) rfl ?_
      refine ax_cJ1 (pc := 25) (kb := 2) (nb := 12) G (ct_lsize hA (((hE (s, π, (.ref (D.1 0)), (D.1 8))).1).2.1).1) lJX1_1_16 dX1_spread_25 ((((hE (s, π, (.ref (D.1 0)), (D.1 8))).1).2.1).1) rfl (by decide) (Nat.le_of_ble_eq_true rfl) rfl ?_
      refine ax_icmp_geN (pc := 30) (tgt := 61) G dX1_spread_30 rfl (by omega) (by omega) (fun c30 => ?_) (fun c30 => ?_)
      · refine ax_fload_n (pc := 61) G dX1_spread_61 rfl rfl ?_
        refine ax_fload_n (pc := 62) G dX1_spread_62 rfl rfl ?_
        refine ax_fsub (pc := 63) G dX1_spread_63 (fSub_n32 (fMx_p fun p hp9 => (hS9 p (by omega)).1) (fMn_p fun p hp9 => (hS9 p (by omega)).1)) ?_
        exact ax_fretE (pc := 64) G E rfl dX1_spread_64 (rfl) (rfl)
      · omega
    | succ k ih =>
      intro i hi
      refine ax_iload (pc := 16) G dX1_spread_16 rfl ?_
      refine ax_aload_n (pc := 18) G dX1_spread_18 rfl rfl ?_
      refine sr_get (pc := 19) (v := .ref (D.1 0)) G flX1_83_1 dX1_spread_19 rfl ?_
      refine ax_getf (pc := 22) (v := .ref (D.1 1)) G flX1_87_10 dX1_spread_22 (((hE (s, π, (.ref (D.1 0)), (D.1 8))).1).1) rfl ?_
      refine ax_cJ1 (pc := 25) (kb := 2) (nb := 12) G (ct_lsize hA (((hE (s, π, (.ref (D.1 0)), (D.1 8))).1).2.1).1) lJX1_1_16 dX1_spread_25 ((((hE (s, π, (.ref (D.1 0)), (D.1 8))).1).2.1).1) rfl (by decide) (Nat.le_of_ble_eq_true rfl) rfl ?_
      refine ax_icmp_geN (pc := 30) (tgt := 61) G dX1_spread_30 rfl (by omega) (by omega) (fun c30 => ?_) (fun c30 => ?_)
      · omega
      · refine ax_fload_n (pc := 33) G dX1_spread_33 rfl rfl ?_
        refine ax_aload_n (pc := 34) G dX1_spread_34 rfl rfl ?_
        refine ax_iload (pc := 35) G dX1_spread_35 rfl ?_
        refine ax_cV1 (pc := 37) (kb := 2) (nb := 12) G (ct_share hA (π := π) (i + 1) (by omega) (hS9 (i + 1) (by omega)).2) lVX1_359_1 dX1_spread_37 sH_obj rfl (by decide) (Nat.le_of_ble_eq_true rfl) rfl ?_
        refine ax_fmax (pc := 40) G q2043 q2044 q132 q2045 (by decide) (fMx_p fun p hp9 => (hS9 p (by omega)).1) (hS9 _ (by omega)).1 (Nat.le_of_ble_eq_true rfl) (by decide) dX1_spread_40 ?_
        refine ax_fstore_n (pc := 43) G dX1_spread_43 rfl (Nat.le_of_ble_eq_true rfl) rfl ?_
        refine ax_fload_n (pc := 44) G dX1_spread_44 rfl rfl ?_
        refine ax_aload_n (pc := 45) G dX1_spread_45 rfl rfl ?_
        refine ax_iload (pc := 46) G dX1_spread_46 rfl ?_
        refine ax_cV1 (pc := 48) (kb := 2) (nb := 12) G (ct_share hA (π := π) (i + 1) (by omega) (hS9 (i + 1) (by omega)).2) lVX1_359_1 dX1_spread_48 sH_obj rfl (by decide) (Nat.le_of_ble_eq_true rfl) rfl ?_
        refine ax_fmin (pc := 51) G q2051 q2052 q132 q2053 (by decide) (fMn_p fun p hp9 => (hS9 p (by omega)).1) (hS9 _ (by omega)).1 (Nat.le_of_ble_eq_true rfl) (by decide) dX1_spread_51 ?_
        refine ax_fstore_n (pc := 54) G dX1_spread_54 rfl (Nat.le_of_ble_eq_true rfl) rfl ?_
        refine ax_iincN (pc := 55) (n := 1) G dX1_spread_55 rfl rfl ic_1 ?_
        refine ax_goto (pc := 58) (tgt := 16) G dX1_spread_58 rfl ?_
        exact ih (i + 1) (by omega)
  exact L M 0 (by omega)

