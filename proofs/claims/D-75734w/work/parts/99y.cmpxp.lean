/-! FLOATS: the greater, the less; shares -/
theorem ax_zl {Ω : ax_O} (hA : ax_Amb Ω) {C n de : String} {z : Int64} (hl : Cond.laysStatic C n de ∈ lw_tbl) (hi : Cond.initialized C ∈ lw_tbl) (he : (Cond.eq (.static C n de) (.long z)) ∈ flatC (Jvm.Cond.and given_1 narrow_1)) : va_Z C n de (.long z) (ax_A Ω) Ω.2.1 Ω.2.1.heap := by
  obtain ⟨A, h⟩ := hA.2.2.1
  obtain ⟨B, h2⟩ := ax_nar hA he
  exact va_Zof (args := A) (h _ hl) (h _ hi) (va_eql h2) (fun a ha z => absurd (show Ω.2.1.heap.size ≤ a from z) (by omega))
theorem zNZ {Ω : ax_O} (hA : ax_Amb Ω) : va_Z "java/lang/Math" "negativeZeroFloatBits" "J" (.long (-2147483648)) (ax_A Ω) Ω.2.1 Ω.2.1.heap := ax_zl hA (by decide +kernel) (by decide +kernel) (by decide +kernel)
theorem cmp_sw {x y : Int} : compare y x = (compare x y).swap := by
  unfold compare instOrdInt
  show (if y < x then Ordering.lt else if y = x then .eq else .gt) = (if x < y then Ordering.lt else if x = y then .eq else .gt).swap
  by_cases h : x < y
  · rw [if_pos h, if_neg (by omega), if_neg (by omega)]; rfl
  · rw [if_neg h]
    by_cases e : x = y
    · rw [if_pos e, if_neg (by omega), if_pos e.symm]; rfl
    · rw [if_neg e, if_pos (by omega)]; rfl
theorem fCmp_e {a b : UInt32} (ha : fPos a) (hb : fPos b) : ∃ x y : Int, FP.fcmp a b = some (compare x y) ∧ FP.fcmp b a = some (compare y x) := by
  obtain ⟨c, q, e1, -⟩ := fPos_dec ha
  obtain ⟨d, r, e2, -⟩ := fPos_dec hb
  refine ⟨_, _, (by show FP.Core.order (FP.Core.decode FP.Core.b32 a.toNat) (FP.Core.decode FP.Core.b32 b.toNat) = _; rw [e1, e2]; rfl), (by show FP.Core.order (FP.Core.decode FP.Core.b32 b.toNat) (FP.Core.decode FP.Core.b32 a.toNat) = _; rw [e1, e2]; show some _ = _; rw [show min r q = min q r from by omega])⟩
theorem fCmp_s {a : UInt32} (ha : fPos a) : FP.fcmp a a = some .eq := by
  obtain ⟨x, y, e1, e2⟩ := fCmp_e ha ha
  rw [e1] at e2
  have e3 := Option.some.inj e2
  rw [cmp_sw (x := x) (y := y)] at e3
  rw [e1]
  cases h : compare x y with
  | eq => rfl
  | lt => rw [h] at e3; cases e3
  | gt => rw [h] at e3; cases e3
theorem fCmp_x {a b : UInt32} (ha : fPos a) (hb : fPos b) : ∃ o, FP.fcmp a b = some o ∧ FP.fcmp b a = some o.swap := by
  obtain ⟨x, y, e1, e2⟩ := fCmp_e ha hb
  exact ⟨_, e1, by rw [e2, cmp_sw]⟩
/-- the greater, the less -/
def fMax (a b : UInt32) : UInt32 := if FP.fcmp a b = some .lt then b else a
def fMin (a b : UInt32) : UInt32 := if FP.fcmp a b = some .gt then b else a
theorem fMax_p {a b : UInt32} (ha : fPos a) (hb : fPos b) : fPos (fMax a b) := by unfold fMax; split <;> assumption
theorem fMin_p {a b : UInt32} (ha : fPos a) (hb : fPos b) : fPos (fMin a b) := by unfold fMin; split <;> assumption
theorem cv_lt {a b : UInt32} (ha : fPos a) (hb : fPos b) : Op.cmpValue (FP.fcmp a b) .l < 0 ↔ FP.fcmp a b = some .lt := by
  obtain ⟨o, e, -⟩ := fCmp_x ha hb
  rw [e]; cases o <;> decide
theorem cv_gt {a b : UInt32} (ha : fPos a) (hb : fPos b) : 0 < Op.cmpValue (FP.fcmp a b) .g ↔ FP.fcmp a b = some .gt := by
  obtain ⟨o, e, -⟩ := fCmp_x ha hb
  rw [e]; cases o <;> decide
theorem fPos_i {a : UInt32} (ha : fPos a) : ¬ a.toInt32.toInt64 = -2147483648 := by
  intro z
  have h1 : a.toInt32.toInt = a.toNat := by
    have hr : a.toNat < 0x7f800000 := ha
    have e : a.toInt32 = nI a.toNat := by
      show _ = Int32.ofNat _
      exact (Int32.toBitVec_inj.mp (by simp [UInt32.toInt32, Int32.ofNat]))
    rw [e]; exact nI_toInt (by omega)
  have h2 := congrArg Int64.toInt z
  rw [Int32.toInt_toInt64, h1] at h2
  have : ((-2147483648 : Int64)).toInt = -2147483648 := by decide
  omega
theorem fPos_nn {a : UInt32} (ha : fPos a) : FP.fIsNaN a = false := by
  obtain ⟨c, q, e, -⟩ := fPos_dec ha
  show decide (FP.Core.decode FP.Core.b32 a.toNat = .nan) = false
  rw [e]; rfl
theorem fPos_sg {a : UInt32} (ha : fPos a) : (a >>> 31 == 1) = false := by
  have hr : a.toNat < 0x7f800000 := ha
  have e : a >>> 31 = 0 := by
    refine UInt32.toNat_inj.mp ?_
    rw [UInt32.toNat_shiftRight]
    show a.toNat >>> 31 = 0
    rw [Nat.shiftRight_eq_div_pow]; omega
  rw [e]; rfl
/-- the less as Math.min picks it -/
def fMinC (a b : UInt32) : UInt32 := if FP.fcmp a b = some .lt then a else b
theorem fMinC_p {a b : UInt32} (ha : fPos a) (hb : fPos b) : fPos (fMinC a b) := by unfold fMinC; split <;> assumption
theorem pick_t {a b : UInt32} (ha : fPos a) (hb : fPos b) : Native.java_lang_Math.nans.pick32 true a b = fMax a b := by
  obtain ⟨o, e, -⟩ := fCmp_x ha hb
  unfold Native.java_lang_Math.nans.pick32 fMax
  rw [e, fPos_sg ha]
  cases o <;> rfl
theorem pick_f {a b : UInt32} (ha : fPos a) (hb : fPos b) : Native.java_lang_Math.nans.pick32 false a b = fMinC a b := by
  obtain ⟨o, e, -⟩ := fCmp_x ha hb
  unfold Native.java_lang_Math.nans.pick32 fMinC
  rw [e, fPos_sg ha]
  cases o <;> rfl
theorem cShare_p {s : pR} {p u g : Nat} (hu : s (23 + p) = nI u) (hg : s (17 + p) = nI g) (h1 : u < 10000) (h2 : g < 10000) : fPos (cShare s p) := by
  unfold cShare
  rw [hu, hg]
  by_cases c : g = 0
  · rw [if_pos (by rw [c]; rfl)]; exact fPos_0
  · rw [if_neg (show ¬ nI g = 0 from fun z => c ((nI_eq (b := 0) (by omega) (by omega)).mp z))]; exact fPos_div h1 h2 (by omega)
theorem vB_nat {x : Int32} {b : Nat} (h : vB x 0 b) : ∃ u, u ≤ b ∧ x = nI u := by
  refine ⟨x.toInt.toNat, ?_, ?_⟩
  · have := h.1; have := h.2; omega
  · refine Int32.toInt_inj.mp ?_
    have h0 := h.1
    have h1 := x.toInt_lt
    rw [nI_toInt (by omega)]; omega
theorem cShare_b {pl s : pR} {A p : Nat} (h : pBS pl s A) (hp : p < 6) : fPos (cShare s p) ∧ (¬ s (17 + p) = 0 → vf_n32 (FP.fdiv (FP.i2f (s (23 + p))) (FP.i2f (s (17 + p))))) := by
  obtain ⟨-, -, -, ha, -, -⟩ := h
  obtain ⟨a1, a2, a3, a4⟩ := ha p hp
  obtain ⟨g, hg, e1⟩ := vB_nat (b := 9999) a1
  obtain ⟨u, hu, e2⟩ := vB_nat (b := 9999) (x := s (23 + p)) ⟨a2, by have := a1.2; omega⟩
  have hf : fPos (cShare s p) := cShare_p e2 e1 (by omega) (by omega)
  refine ⟨hf, fun z => fPos_n32 ?_⟩
  unfold cShare at hf
  rwa [if_neg z] at hf
theorem cq_share_Y {Ω : ax_O} (hA : ax_Amb Ω) {h : ax_H} {a : Nat} {pl s : pR} {π : Nat → cP} {N V O A : Nat} {D : cD} (ha : Ω.2.1.heap.size ≤ a) (hp : pWP pl N V O) (hs : pWS s A) (hE : cEn h a pl s N V O A D) {X bf tr hi sv lb : Nat} {x1 x2 x3 : Int32} (hX : ∀ σ, (sH h a σ).1 X = some (.inr (0, [.ref bf, .int x1, .int x2, .int x3, .ref a, .ref tr, .ref hi, .ref sv, .ref lb]))) (k : Nat) (hk : k < N) (hS9 : fPos (cShare s k) ∧ (¬ s (17 + k) = 0 → vf_n32 (FP.fdiv (FP.i2f (s (23 + k))) (FP.i2f (s (17 + k))))))  : ax_Met Ω yX1_share 20 4 24 [.ref X, .int (nI k)] (sH h a (s, π, (.ref (D.1 0)), (D.1 8))) (.inl (some (.float (cShare s k)))) (sH h a (s, π, (.ref (D.1 0)), (D.1 8))) := by
  refine ax_met q2031 q113 (by decide +kernel) (by decide) hA (Nat.le_of_ble_eq_true rfl) (fun Γ G E => ?_)
  have hV9 := hp.lV
  have hA9 := hs.lA
  have hO9 := hp.lO
  have hN9 := hp.2.1.1
  show ax_W Ω Γ 4 24 (sH h a (s, π, (.ref (D.1 0)), (D.1 8))) 0 [some (.ref X), some (.int (nI k))] []
  refine ax_aload_n (pc := 0) G dX1_share_0 rfl rfl ?_
  refine ax_iload_n (pc := 1) G dX1_share_1 rfl rfl ?_
  refine ax_cV1 (pc := 2) (kb := 1) (nb := 6) G (cx_withProposalY hA (π := π) ha hp hs hE hX k (by omega)) lVX1_138_0 dX1_share_2 (hX _) rfl (by decide) (Nat.le_of_ble_eq_true rfl) rfl ?_
  refine ax_iload_n (pc := 5) G dX1_share_5 rfl rfl ?_
  refine ax_cV1 (pc := 6) (kb := 1) (nb := 6) G (ct_share hA (π := π) k (by omega) (hS9.2)) lVX1_359_1 dX1_share_6 sH_obj rfl (by decide) (Nat.le_of_ble_eq_true rfl) rfl ?_
  exact ax_fretE (pc := 9) G E rfl dX1_share_9 (rfl) (rfl)

theorem cq_share_N {Ω : ax_O} (hA : ax_Amb Ω) {h : ax_H} {X bf tr hi sv lb : Nat} {x1 x2 x3 : Int32} (hX : h.1 X = some (.inr (0, [.ref bf, .int x1, .int x2, .int x3, .null, .ref tr, .ref hi, .ref sv, .ref lb]))) (k : Int32)  : ax_Met Ω yX1_share 20 4 24 [.ref X, .int k] h (.inr h.2) (ax_add h (.inr (21, []))) := by
  refine ax_met q2031 q113 (by decide +kernel) (by decide) hA (Nat.le_of_ble_eq_true rfl) (fun Γ G E => ?_)
  show ax_W Ω Γ 4 24 h 0 [some (.ref X), some (.int k)] []
  refine ax_aload_n (pc := 0) G dX1_share_0 rfl rfl ?_
  refine ax_iload_n (pc := 1) G dX1_share_1 rfl rfl ?_
  refine ax_callV (pc := 2) (kb := 1) (nb := 6) G (cx_withProposalN hA hX k) lVX1_138_0 dX1_share_2 (hX) rfl (by decide) (Nat.le_of_ble_eq_true rfl) rfl (fun _ e9 => by cases e9) (fun q9 e9 => ?_)
  cases e9
  exact ax_out G E (fun x hx => by cases hx)

theorem cq_share_B {Ω : ax_O} (hA : ax_Amb Ω) {h : ax_H} {a : Nat} {pl s : pR} {π : Nat → cP} {N V O A : Nat} {D : cD} (ha : Ω.2.1.heap.size ≤ a) (hp : pWP pl N V O) (hs : pWS s A) (hE : cEn h a pl s N V O A D) {X bf tr hi sv lb : Nat} {x1 x2 x3 : Int32} (hX : ∀ σ, (sH h a σ).1 X = some (.inr (0, [.ref bf, .int x1, .int x2, .int x3, .ref a, .ref tr, .ref hi, .ref sv, .ref lb]))) (k : Int32) (hb : pIn k (nI 0) (nI N - nI 1) = false)  : ax_Met Ω yX1_share 20 4 24 [.ref X, .int k] (sH h a (s, π, (.ref (D.1 0)), (D.1 8))) (.inr (sH h a (s, π, (.ref (D.1 0)), (D.1 8))).2) (ax_add (sH h a (s, π, (.ref (D.1 0)), (D.1 8))) (.inr (22, []))) := by
  refine ax_met q2031 q113 (by decide +kernel) (by decide) hA (Nat.le_of_ble_eq_true rfl) (fun Γ G E => ?_)
  have hV9 := hp.lV
  have hA9 := hs.lA
  have hO9 := hp.lO
  have hN9 := hp.2.1.1
  show ax_W Ω Γ 4 24 (sH h a (s, π, (.ref (D.1 0)), (D.1 8))) 0 [some (.ref X), some (.int k)] []
  refine ax_aload_n (pc := 0) G dX1_share_0 rfl rfl ?_
  refine ax_iload_n (pc := 1) G dX1_share_1 rfl rfl ?_
  refine ax_callV (pc := 2) (kb := 1) (nb := 6) G (cx_withProposalB hA (π := π) ha hp hs hE hX k hb) lVX1_138_0 dX1_share_2 (hX _) rfl (by decide) (Nat.le_of_ble_eq_true rfl) rfl (fun _ e9 => by cases e9) (fun q9 e9 => ?_)
  cases e9
  exact ax_out G E (fun x hx => by cases hx)

theorem cq_spread_N {Ω : ax_O} (hA : ax_Amb Ω) {h : ax_H} {X bf tr hi sv lb : Nat} {x1 x2 x3 : Int32} (hX : h.1 X = some (.inr (0, [.ref bf, .int x1, .int x2, .int x3, .null, .ref tr, .ref hi, .ref sv, .ref lb])))  : ax_Met Ω yX1_spread 20 4 24 [.ref X] h (.inr h.2) (ax_add h (.inr (21, []))) := by
  refine ax_met q2042 q113 (by decide +kernel) (by decide) hA (Nat.le_of_ble_eq_true rfl) (fun Γ G E => ?_)
  show ax_W Ω Γ 4 24 h 0 [some (.ref X), none, none, none, none] []
  refine ax_aload_n (pc := 0) G dX1_spread_0 rfl rfl ?_
  refine ax_callV (pc := 1) (kb := 2) (nb := 12) G (cx_thereN hA hX) lVX1_79_0 dX1_spread_1 (hX) rfl (by decide) (Nat.le_of_ble_eq_true rfl) rfl (fun _ e9 => by cases e9) (fun q9 e9 => ?_)
  cases e9
  exact ax_out G E (fun x hx => by cases hx)

