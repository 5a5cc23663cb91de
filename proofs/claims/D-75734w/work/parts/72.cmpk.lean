/-! THE LIBRARY: numbers as text -/
theorem nI_m1 {p : Nat} (h : 0 < p) : nI p + Int32.ofInt (-1) = nI (p - 1) := sb_m1 h
theorem sb_nb2 : ∀ c, c < 256 → vp_nar .byte (sb_b c) = sb_b c := by decide +kernel
theorem g100 {w : Nat} (hw : w < 2 ^ 31) (c : ¬ (-100 : Int32) < -(nI w)) : 100 ≤ w := Nat.not_lt.mp fun z => c (show -nI 100 < -nI w from (sb_nlt (by decide) hw).mpr z)
theorem l100 {w : Nat} (hw : w < 2 ^ 31) (c : (-100 : Int32) < -(nI w)) : w < 100 := (sb_nlt (by decide) hw).mp (show -nI 100 < -nI w from c)
theorem g9 {w : Nat} (hw : w < 2 ^ 31) (c : ¬ (-9 : Int32) ≤ -(nI w)) : 10 ≤ w := Nat.not_lt.mp fun z => c (show -nI 9 ≤ -nI w from (sb_nle (by decide) hw).mpr (by omega))
theorem l9 {w : Nat} (hw : w < 2 ^ 31) (c : (-9 : Int32) ≤ -(nI w)) : w < 10 := by
  have := (sb_nle (by decide) hw).mp (show -nI 9 ≤ -nI w from c)
  omega
theorem ct_strSize {Ω : ax_O} (hA : ax_Amb Ω) {h : ax_H} (v : Nat) (hv : v < 100000) : ax_Met Ω yJ16_stringSize 0 0 0 [.int (nI v)] h (.inl (some (.int (nI (sb_dg v))))) h := by
  refine ax_met q428 q138 (by decide +kernel) (by decide) hA (Nat.le_of_ble_eq_true rfl) (fun Γ G E => ?_)
  show ax_W Ω Γ 0 0 h 0 [some (.int (nI v)), none, none, none] []
  refine ax_iconst (pc := 0) (v := nI 1) G dJ16_stringSize_0 ic_1 ?_
  refine ax_istore_n (pc := 1) G dJ16_stringSize_1 rfl (Nat.le_of_ble_eq_true rfl) rfl ?_
  refine ax_iload_n (pc := 2) G dJ16_stringSize_2 rfl rfl ?_
  refine ax_if_lt (pc := 3) (tgt := 11) G dJ16_stringSize_3 rfl (fun c9 => absurd c9 (nI_pos (by omega))) (fun _ => ?_)
  refine ax_iconst (pc := 6) (v := nI 0) G dJ16_stringSize_6 ic_0 ?_
  refine ax_istore_n (pc := 7) G dJ16_stringSize_7 rfl (Nat.le_of_ble_eq_true rfl) rfl ?_
  refine ax_iload_n (pc := 8) G dJ16_stringSize_8 rfl rfl ?_
  refine ax_ineg (pc := 9) G dJ16_stringSize_9 ?_
  refine ax_istore_n (pc := 10) G dJ16_stringSize_10 rfl (Nat.le_of_ble_eq_true rfl) rfl ?_
  refine ax_bipush (pc := 11) (v := (-10)) G dJ16_stringSize_11 (by decide) ?_
  refine ax_top (show (.int (-10) : Value) = .int (-(nI 10)) from congrArg Value.int (by decide)) ?_
  refine ax_istore_n (pc := 13) G dJ16_stringSize_13 rfl (Nat.le_of_ble_eq_true rfl) rfl ?_
  refine ax_iconst (pc := 14) (v := nI 1) G dJ16_stringSize_14 ic_1 ?_
  refine ax_istore_n (pc := 15) G dJ16_stringSize_15 rfl (Nat.le_of_ble_eq_true rfl) rfl ?_
  refine ax_iload_n (pc := 16) G dJ16_stringSize_16 rfl rfl ?_
  refine ax_bipush (pc := 17) (v := nI 10) G dJ16_stringSize_17 ib_10 ?_
  refine ax_icmp_ge (pc := 19) (tgt := 42) G dJ16_stringSize_19 rfl (fun c9 => absurd c9 (by decide)) (fun _ => ?_)
  refine ax_iload_n (pc := 22) G dJ16_stringSize_22 rfl rfl ?_
  refine ax_iload_n (pc := 23) G dJ16_stringSize_23 rfl rfl ?_
  refine ax_icmp_le (pc := 24) (tgt := 31) G dJ16_stringSize_24 rfl (fun c24 => ?_) (fun c24 => ?_)
  · have b10 : 10 ≤ v := (sb_nle (by omega) (by omega)).mp c24
    refine ax_bipush (pc := 31) (v := nI 10) G dJ16_stringSize_31 ib_10 ?_
    refine ax_iload_n (pc := 33) G dJ16_stringSize_33 rfl rfl ?_
    refine ax_imul (pc := 34) G dJ16_stringSize_34 ?_
    refine ax_top (show (.int ((nI 10) * (-(nI 10))) : Value) = .int (-(nI 100)) from congrArg Value.int (by decide)) ?_
    refine ax_istore_n (pc := 35) G dJ16_stringSize_35 rfl (Nat.le_of_ble_eq_true rfl) rfl ?_
    refine ax_iincN (pc := 36) (n := 1) G dJ16_stringSize_36 rfl rfl ic_1 ?_
    refine ax_goto (pc := 39) (tgt := 16) G dJ16_stringSize_39 rfl ?_
    refine ax_iload_n (pc := 16) G dJ16_stringSize_16 rfl rfl ?_
    refine ax_bipush (pc := 17) (v := nI 10) G dJ16_stringSize_17 ib_10 ?_
    refine ax_icmp_ge (pc := 19) (tgt := 42) G dJ16_stringSize_19 rfl (fun c9 => absurd c9 (by decide)) (fun _ => ?_)
    refine ax_iload_n (pc := 22) G dJ16_stringSize_22 rfl rfl ?_
    refine ax_iload_n (pc := 23) G dJ16_stringSize_23 rfl rfl ?_
    refine ax_icmp_le (pc := 24) (tgt := 31) G dJ16_stringSize_24 rfl (fun c24x => ?_) (fun c24x => ?_)
    · have b100 : 100 ≤ v := (sb_nle (by omega) (by omega)).mp c24x
      refine ax_bipush (pc := 31) (v := nI 10) G dJ16_stringSize_31 ib_10 ?_
      refine ax_iload_n (pc := 33) G dJ16_stringSize_33 rfl rfl ?_
      refine ax_imul (pc := 34) G dJ16_stringSize_34 ?_
      refine ax_top (show (.int ((nI 10) * (-(nI 100))) : Value) = .int (-(nI 1000)) from congrArg Value.int (by decide)) ?_
      refine ax_istore_n (pc := 35) G dJ16_stringSize_35 rfl (Nat.le_of_ble_eq_true rfl) rfl ?_
      refine ax_iincN (pc := 36) (n := 1) G dJ16_stringSize_36 rfl rfl ic_1 ?_
      refine ax_goto (pc := 39) (tgt := 16) G dJ16_stringSize_39 rfl ?_
      refine ax_iload_n (pc := 16) G dJ16_stringSize_16 rfl rfl ?_
      refine ax_bipush (pc := 17) (v := nI 10) G dJ16_stringSize_17 ib_10 ?_
      refine ax_icmp_ge (pc := 19) (tgt := 42) G dJ16_stringSize_19 rfl (fun c9 => absurd c9 (by decide)) (fun _ => ?_)
      refine ax_iload_n (pc := 22) G dJ16_stringSize_22 rfl rfl ?_
      refine ax_iload_n (pc := 23) G dJ16_stringSize_23 rfl rfl ?_
      refine ax_icmp_le (pc := 24) (tgt := 31) G dJ16_stringSize_24 rfl (fun c24xx => ?_) (fun c24xx => ?_)
      · have b1000 : 1000 ≤ v := (sb_nle (by omega) (by omega)).mp c24xx
        refine ax_bipush (pc := 31) (v := nI 10) G dJ16_stringSize_31 ib_10 ?_
        refine ax_iload_n (pc := 33) G dJ16_stringSize_33 rfl rfl ?_
        refine ax_imul (pc := 34) G dJ16_stringSize_34 ?_
        refine ax_top (show (.int ((nI 10) * (-(nI 1000))) : Value) = .int (-(nI 10000)) from congrArg Value.int (by decide)) ?_
        refine ax_istore_n (pc := 35) G dJ16_stringSize_35 rfl (Nat.le_of_ble_eq_true rfl) rfl ?_
        refine ax_iincN (pc := 36) (n := 1) G dJ16_stringSize_36 rfl rfl ic_1 ?_
        refine ax_goto (pc := 39) (tgt := 16) G dJ16_stringSize_39 rfl ?_
        refine ax_iload_n (pc := 16) G dJ16_stringSize_16 rfl rfl ?_
        refine ax_bipush (pc := 17) (v := nI 10) G dJ16_stringSize_17 ib_10 ?_
        refine ax_icmp_ge (pc := 19) (tgt := 42) G dJ16_stringSize_19 rfl (fun c9 => absurd c9 (by decide)) (fun _ => ?_)
        refine ax_iload_n (pc := 22) G dJ16_stringSize_22 rfl rfl ?_
        refine ax_iload_n (pc := 23) G dJ16_stringSize_23 rfl rfl ?_
        refine ax_icmp_le (pc := 24) (tgt := 31) G dJ16_stringSize_24 rfl (fun c24xxx => ?_) (fun c24xxx => ?_)
        · have b10000 : 10000 ≤ v := (sb_nle (by omega) (by omega)).mp c24xxx
          refine ax_bipush (pc := 31) (v := nI 10) G dJ16_stringSize_31 ib_10 ?_
          refine ax_iload_n (pc := 33) G dJ16_stringSize_33 rfl rfl ?_
          refine ax_imul (pc := 34) G dJ16_stringSize_34 ?_
          refine ax_top (show (.int ((nI 10) * (-(nI 10000))) : Value) = .int (-(nI 100000)) from congrArg Value.int (by decide)) ?_
          refine ax_istore_n (pc := 35) G dJ16_stringSize_35 rfl (Nat.le_of_ble_eq_true rfl) rfl ?_
          refine ax_iincN (pc := 36) (n := 1) G dJ16_stringSize_36 rfl rfl ic_1 ?_
          refine ax_goto (pc := 39) (tgt := 16) G dJ16_stringSize_39 rfl ?_
          refine ax_iload_n (pc := 16) G dJ16_stringSize_16 rfl rfl ?_
          refine ax_bipush (pc := 17) (v := nI 10) G dJ16_stringSize_17 ib_10 ?_
          refine ax_icmp_ge (pc := 19) (tgt := 42) G dJ16_stringSize_19 rfl (fun c9 => absurd c9 (by decide)) (fun _ => ?_)
          refine ax_iload_n (pc := 22) G dJ16_stringSize_22 rfl rfl ?_
          refine ax_iload_n (pc := 23) G dJ16_stringSize_23 rfl rfl ?_
          refine ax_icmp_le (pc := 24) (tgt := 31) G dJ16_stringSize_24 rfl (fun c24xxxx => ?_) (fun c24xxxx => ?_)
          · exact absurd ((sb_nle (by omega) (by omega)).mp (show -nI v ≤ -nI 100000 from c24xxxx)) (by omega)
          · have b100000 : v < 100000 := Nat.not_le.mp fun z => c24xxxx ((sb_nle (by omega) (by omega)).mpr z)
            refine ax_iload_n (pc := 27) G dJ16_stringSize_27 rfl rfl ?_
            refine ax_iload_n (pc := 28) G dJ16_stringSize_28 rfl rfl ?_
            refine ax_iaddN (pc := 29) G dJ16_stringSize_29 ?_
            exact ax_iretE (pc := 30) G E rfl (rfl) dJ16_stringSize_30 (congrArg nI (by unfold sb_dg; (repeat' split) <;> omega)) (rfl)
        · have b10000 : v < 10000 := Nat.not_le.mp fun z => c24xxx ((sb_nle (by omega) (by omega)).mpr z)
          refine ax_iload_n (pc := 27) G dJ16_stringSize_27 rfl rfl ?_
          refine ax_iload_n (pc := 28) G dJ16_stringSize_28 rfl rfl ?_
          refine ax_iaddN (pc := 29) G dJ16_stringSize_29 ?_
          exact ax_iretE (pc := 30) G E rfl (rfl) dJ16_stringSize_30 (congrArg nI (by unfold sb_dg; (repeat' split) <;> omega)) (rfl)
      · have b1000 : v < 1000 := Nat.not_le.mp fun z => c24xx ((sb_nle (by omega) (by omega)).mpr z)
        refine ax_iload_n (pc := 27) G dJ16_stringSize_27 rfl rfl ?_
        refine ax_iload_n (pc := 28) G dJ16_stringSize_28 rfl rfl ?_
        refine ax_iaddN (pc := 29) G dJ16_stringSize_29 ?_
        exact ax_iretE (pc := 30) G E rfl (rfl) dJ16_stringSize_30 (congrArg nI (by unfold sb_dg; (repeat' split) <;> omega)) (rfl)
    · have b100 : v < 100 := Nat.not_le.mp fun z => c24x ((sb_nle (by omega) (by omega)).mpr z)
      refine ax_iload_n (pc := 27) G dJ16_stringSize_27 rfl rfl ?_
      refine ax_iload_n (pc := 28) G dJ16_stringSize_28 rfl rfl ?_
      refine ax_iaddN (pc := 29) G dJ16_stringSize_29 ?_
      exact ax_iretE (pc := 30) G E rfl (rfl) dJ16_stringSize_30 (congrArg nI (by unfold sb_dg; (repeat' split) <;> omega)) (rfl)
  · have b10 : v < 10 := Nat.not_le.mp fun z => c24 ((sb_nle (by omega) (by omega)).mpr z)
    refine ax_iload_n (pc := 27) G dJ16_stringSize_27 rfl rfl ?_
    refine ax_iload_n (pc := 28) G dJ16_stringSize_28 rfl rfl ?_
    refine ax_iaddN (pc := 29) G dJ16_stringSize_29 ?_
    exact ax_iretE (pc := 30) G E rfl (rfl) dJ16_stringSize_30 (congrArg nI (by unfold sb_dg; (repeat' split) <;> omega)) (rfl)

theorem sb_dg5 {v : Nat} (hv : v < 100000) : (v < 10 ∧ sb_dg v = 1) ∨ (10 ≤ v ∧ v < 100 ∧ sb_dg v = 2) ∨ (100 ≤ v ∧ v < 1000 ∧ sb_dg v = 3) ∨ (1000 ≤ v ∧ v < 10000 ∧ sb_dg v = 4) ∨ (10000 ≤ v ∧ sb_dg v = 5) := by
  unfold sb_dg
  (repeat' split) <;> omega
/-- the digits of w are written ahead of p -/
def gC (n w p : Nat) (a a' : Nat → Int32) : Prop := sb_Fit a' ∧ (∀ j, j < n ∨ p ≤ j → a' j = a j) ∧ ∀ i, i < sb_dg w → a' (n + i) = sb_b (sb_dec w i)
theorem gU {a : Nat → Int32} {k c j : Nat} : upd a k (sb_b c) j = if j = k then sb_b c else a j := rfl
theorem gF {a : Nat → Int32} {k c : Nat} (h : sb_Fit a) : sb_Fit (upd a k (sb_b c)) := sb_fitU h (sb_fitB c)
theorem gc1 {n w p : Nat} {a tO : Nat → Int32} (eO : ∀ k, k < 100 → tO k = sb_b (48 + k % 10)) (hw : w < 10) (hp : p = n + 1) (hf : sb_Fit a) : gC n w p a (upd a (p - 1) (vp_nar .byte (tO w))) := by
  have hd : sb_dg w = 1 := by unfold sb_dg; rw [if_pos hw]
  rw [eO w (by omega), sb_nb2 _ (by omega)]
  refine ⟨gF hf, fun j hj => ?_, fun i hi => ?_⟩
  · rw [gU, if_neg (by omega)]
  · rw [gU, if_pos (by omega)]
    have : i = 0 := by omega
    subst this
    unfold sb_dec; rw [hd]
    congr 1; simp
theorem gc2 {n w p : Nat} {a tO tT : Nat → Int32} (eO : ∀ k, k < 100 → tO k = sb_b (48 + k % 10)) (eT : ∀ k, k < 100 → tT k = sb_b (48 + k / 10)) (hw0 : 10 ≤ w) (hw : w < 100) (hp : p = n + 2) (hf : sb_Fit a) : gC n w p a (upd (upd a (p - 1) (vp_nar .byte (tO w))) (p - 2) (vp_nar .byte (tT w))) := by
  have hd : sb_dg w = 2 := by unfold sb_dg; rw [if_neg (by omega), if_pos hw]
  rw [eO w hw, eT w hw, sb_nb2 _ (by omega), sb_nb2 _ (by omega)]
  refine ⟨gF (gF hf), fun j hj => ?_, fun i hi => ?_⟩
  · rw [gU, if_neg (by omega), gU, if_neg (by omega)]
  · unfold sb_dec; rw [hd]
    have : i = 0 ∨ i = 1 := by omega
    rcases this with e | e
    · subst e; rw [gU, if_pos (by omega)]; congr 1
      show 48 + w / 10 = 48 + w / 10 ^ 1 % 10
      rw [Nat.pow_one, Nat.mod_eq_of_lt (by omega)]
    · subst e; rw [gU, if_neg (by omega), gU, if_pos (by omega)]; congr 1
      show 48 + w % 10 = 48 + w / 10 ^ 0 % 10
      rw [Nat.pow_zero, Nat.div_one]
theorem gw {p w q r : Nat} {a tO tT : Nat → Int32} (eO : ∀ k, k < 100 → tO k = sb_b (48 + k % 10)) (eT : ∀ k, k < 100 → tT k = sb_b (48 + k / 10)) (hf : sb_Fit a) : sb_Fit (upd (upd a p (vp_nar .byte (tO (w % 100)))) q (vp_nar .byte (tT (r % 100)))) := by
  rw [eO _ (Nat.mod_lt _ (by decide)), eT _ (Nat.mod_lt _ (by decide)), sb_nb2 _ (by omega), sb_nb2 _ (by omega)]
  exact gF (gF hf)
theorem gcs {n w p : Nat} {a a' tO tT : Nat → Int32} (eO : ∀ k, k < 100 → tO k = sb_b (48 + k % 10)) (eT : ∀ k, k < 100 → tT k = sb_b (48 + k / 10)) (hw0 : 100 ≤ w) (hw : w < 2 ^ 31) (hp : p = n + sb_dg w)
    (h : gC n (w / 100) (p - 2) (upd (upd a (p - 1) (vp_nar .byte (tO (w % 100)))) (p - 2) (vp_nar .byte (tT (w % 100)))) a') : gC n w p a a' := by
  have hd := sb_dg100 hw0 hw
  obtain ⟨h1, h2, h3⟩ := h
  rw [eO _ (Nat.mod_lt _ (by decide)), eT _ (Nat.mod_lt _ (by decide)), sb_nb2 _ (by omega), sb_nb2 _ (by omega)] at h2
  refine ⟨h1, fun j hj => ?_, fun i hi => ?_⟩
  · rw [h2 j (by omega), gU, if_neg (by omega), gU, if_neg (by omega)]
  · by_cases c : i < sb_dg (w / 100)
    · rw [h3 i c]
      unfold sb_dec
      rw [hd, show sb_dg (w / 100) + 2 - 1 - i = (sb_dg (w / 100) - 1 - i) + 2 from by omega, Nat.pow_add, Nat.mul_comm, ← Nat.div_div_eq_div_mul]
    · have e : i = sb_dg (w / 100) ∨ i = sb_dg (w / 100) + 1 := by omega
      rw [h2 (n + i) (by omega)]
      unfold sb_dec
      rw [hd]
      rcases e with e | e
      · rw [gU, if_pos (by omega), e, show sb_dg (w / 100) + 2 - 1 - sb_dg (w / 100) = 1 from by omega]
        congr 1; rw [Nat.pow_one]; omega
      · rw [gU, if_neg (by omega), gU, if_pos (by omega), e, show sb_dg (w / 100) + 2 - 1 - (sb_dg (w / 100) + 1) = 0 from by omega, Nat.pow_zero, Nat.div_one]
        congr 1; omega
theorem ct_getChars {Ω : ax_O} (hA : ax_Amb Ω) {h : ax_H} (wf : ax_wf h) (hz : Ω.2.1.heap.size ≤ h.2) {e m : Nat} {a : Nat → Int32} (hE : h.1 e = some (.inl (.byte, m, .inl a))) (hbe : Ω.2.1.heap.size ≤ e) (hm : m ≤ 70) (hf : sb_Fit a) {dO dT : Nat} {tO tT : Nat → Int32} (zO : va_Z "java/lang/Integer" "DigitOnes" "[B" (.ref dO) (ax_A Ω) Ω.2.1 Ω.2.1.heap) (zT : va_Z "java/lang/Integer" "DigitTens" "[B" (.ref dT) (ax_A Ω) Ω.2.1 Ω.2.1.heap) (hO : h.1 dO = some (.inl (.byte, 100, .inl tO))) (hT : h.1 dT = some (.inl (.byte, 100, .inl tT))) (eO : ∀ k, k < 100 → tO k = sb_b (48 + k % 10)) (eT : ∀ k, k < 100 → tT k = sb_b (48 + k / 10)) (lO : dO < Ω.2.1.heap.size) (lT : dT < Ω.2.1.heap.size) (u n p : Nat) (hv : u < 100000) (hp : p = n + sb_dg u) (hpm : p ≤ m) : ax_MetP Ω yJ16_getChars 0 0 0 [.int (nI u), .int (nI p), .ref e] h (ax_Nm (fun v h' => v = some (.int (nI n)) ∧ ∃ a', h'.1 e = some (.inl (.byte, m, .inl a')) ∧ gC n u p a a' ∧ (∀ q, q ≠ e → h'.1 q = h.1 q) ∧ h'.2 = h.2 ∧ ax_wf h')) := by
  refine ax_metP q431 q138 (by decide +kernel) (by decide) hA (Nat.le_of_ble_eq_true rfl) (fun Γ G E => ?_)
  have hle := wf.lt hE
  have hd := sb_dg5 hv
  show ax_W Ω Γ 0 0 h 0 [some (.int (nI u)), some (.int (nI p)), some (.ref e), none, none, none, none] []
  refine ax_iload_n (pc := 0) G dJ16_getChars_0 rfl rfl ?_
  refine ax_istore (pc := 1) G dJ16_getChars_1 (Nat.le_of_ble_eq_true rfl) rfl ?_
  refine ax_iload_n (pc := 3) G dJ16_getChars_3 rfl rfl ?_
  refine ax_if_ge (pc := 4) (tgt := 11) G dJ16_getChars_4 rfl (fun _ => ?_) (fun c9 => absurd (nI_le (a := 0) (Nat.zero_le _) (by omega)) c9)
  refine ax_iconst (pc := 11) (v := nI 0) G dJ16_getChars_11 ic_0 ?_
  refine ax_istore (pc := 12) G dJ16_getChars_12 (Nat.le_of_ble_eq_true rfl) rfl ?_
  refine ax_iload (pc := 14) G dJ16_getChars_14 rfl ?_
  refine ax_if_ne (pc := 16) (tgt := 22) G dJ16_getChars_16 rfl (fun c9 => absurd rfl c9) (fun _ => ?_)
  refine ax_iload_n (pc := 19) G dJ16_getChars_19 rfl rfl ?_
  refine ax_ineg (pc := 20) G dJ16_getChars_20 ?_
  refine ax_istore_n (pc := 21) G dJ16_getChars_21 rfl (Nat.le_of_ble_eq_true rfl) rfl ?_
  refine ax_iload_n (pc := 22) G dJ16_getChars_22 rfl rfl ?_
  refine ax_bipush (pc := 23) (v := (-100)) G dJ16_getChars_23 (by decide) ?_
  refine ax_icmp_gt (pc := 25) (tgt := 72) G dJ16_getChars_25 rfl (fun c25 => ?_) (fun c25 => ?_)
  · have b2 := l100 (by omega) c25
    refine ax_aload_n (pc := 72) G dJ16_getChars_72 rfl rfl ?_
    refine ax_iinc (pc := 73) (v := nI (p - 1)) G dJ16_getChars_73 rfl ((nI_m1 (show 0 < p from by omega)).trans (congrArg nI (by omega))) rfl ?_
    refine ax_iload (pc := 76) G dJ16_getChars_76 rfl ?_
    refine ax_getsZ (pc := 78) G zO q432 dJ16_getChars_78 ?_
    refine ax_iload_n (pc := 81) G dJ16_getChars_81 rfl rfl ?_
    refine ax_ineg (pc := 82) G dJ16_getChars_82 ?_
    refine ax_top (show (.int (-(-(nI u))) : Value) = .int (nI u) from congrArg Value.int (Int32.neg_neg)) ?_
    refine ax_baload (pc := 83) G u dJ16_getChars_83 (hO) rfl (by omega) (by omega) ?_
    refine ax_bastore (pc := 84) G (p - 1) dJ16_getChars_84 (hE) (by omega) rfl (by omega) (by omega) ?_
    refine ax_hvS wf (by omega) (fun h49 g49 f49 z49 w49 => ?_)
    refine ax_iload_n (pc := 85) G dJ16_getChars_85 rfl rfl ?_
    refine ax_bipush (pc := 86) (v := (-9)) G dJ16_getChars_86 (by decide) ?_
    refine ax_icmp_ge (pc := 88) (tgt := 104) G dJ16_getChars_88 rfl (fun c88 => ?_) (fun c88 => ?_)
    · have b4 := l9 (by omega) c88
      refine ax_iload (pc := 104) G dJ16_getChars_104 rfl ?_
      refine ax_if_eq (pc := 106) (tgt := 118) G dJ16_getChars_106 rfl (fun _ => ?_) (fun c9 => absurd rfl c9)
      refine ax_iload (pc := 118) G dJ16_getChars_118 rfl ?_
      exact ax_iretP (pc := 120) G E rfl (rfl) dJ16_getChars_120 (⟨_, rfl, congrArg (fun z => some (Value.int (nI z))) (by omega), _, g49, gc1 eO (by omega) (by omega) hf, fun q a1 => (f49 _ (by omega)), by omega, w49⟩)
    · have b4 := g9 (by omega) c88
      refine ax_aload_n (pc := 91) G dJ16_getChars_91 rfl rfl ?_
      refine ax_iinc (pc := 92) (v := nI (p - 2)) G dJ16_getChars_92 rfl ((nI_m1 (show 0 < p - 1 from by omega)).trans (congrArg nI (by omega))) rfl ?_
      refine ax_iload (pc := 95) G dJ16_getChars_95 rfl ?_
      refine ax_getsZ (pc := 97) G zT q434 dJ16_getChars_97 ?_
      refine ax_iload_n (pc := 100) G dJ16_getChars_100 rfl rfl ?_
      refine ax_ineg (pc := 101) G dJ16_getChars_101 ?_
      refine ax_top (show (.int (-(-(nI u))) : Value) = .int (nI u) from congrArg Value.int (Int32.neg_neg)) ?_
      refine ax_baload (pc := 102) G u dJ16_getChars_102 ((f49 _ (by omega)).trans (hT)) rfl (by omega) (by omega) ?_
      refine ax_bastore (pc := 103) G (p - 2) dJ16_getChars_103 (g49) (by omega) rfl (by omega) (by omega) ?_
      refine ax_hvS w49 (by omega) (fun h50 g50 f50 z50 w50 => ?_)
      refine ax_iload (pc := 104) G dJ16_getChars_104 rfl ?_
      refine ax_if_eq (pc := 106) (tgt := 118) G dJ16_getChars_106 rfl (fun _ => ?_) (fun c9 => absurd rfl c9)
      refine ax_iload (pc := 118) G dJ16_getChars_118 rfl ?_
      exact ax_iretP (pc := 120) G E rfl (rfl) dJ16_getChars_120 (⟨_, rfl, congrArg (fun z => some (Value.int (nI z))) (by omega), _, g50, gc2 eO eT (by omega) (by omega) (by omega) hf, fun q a1 => (f50 _ (by omega)).trans ((f49 _ (by omega))), by omega, w50⟩)
  · have b2 := g100 (by omega) c25
    refine ax_iload_n (pc := 28) G dJ16_getChars_28 rfl rfl ?_
    refine ax_bipush (pc := 29) (v := nI 100) G dJ16_getChars_29 ib_100 ?_
    refine ax_idiv (pc := 31) G dJ16_getChars_31 (by decide) ?_
    refine ax_top (show (.int ((-(nI u)) / (nI 100)) : Value) = .int (-(nI (u / 100))) from congrArg Value.int (sb_ndiv (by omega))) ?_
    refine ax_istore_n (pc := 32) G dJ16_getChars_32 rfl (Nat.le_of_ble_eq_true rfl) rfl ?_
    refine ax_iload_n (pc := 33) G dJ16_getChars_33 rfl rfl ?_
    refine ax_bipush (pc := 34) (v := nI 100) G dJ16_getChars_34 ib_100 ?_
    refine ax_imul (pc := 36) G dJ16_getChars_36 ?_
    refine ax_iload_n (pc := 37) G dJ16_getChars_37 rfl rfl ?_
    refine ax_isub (pc := 38) G dJ16_getChars_38 ?_
    refine ax_top (show (.int (((-(nI (u / 100))) * (nI 100)) - (-(nI u))) : Value) = .int (nI (u % 100)) from congrArg Value.int (sb_nrem (by omega))) ?_
    refine ax_istore (pc := 39) G dJ16_getChars_39 (Nat.le_of_ble_eq_true rfl) rfl ?_
    refine ax_iload_n (pc := 41) G dJ16_getChars_41 rfl rfl ?_
    refine ax_istore_n (pc := 42) G dJ16_getChars_42 rfl (Nat.le_of_ble_eq_true rfl) rfl ?_
    refine ax_aload_n (pc := 43) G dJ16_getChars_43 rfl rfl ?_
    refine ax_iinc (pc := 44) (v := nI (p - 1)) G dJ16_getChars_44 rfl ((nI_m1 (show 0 < p from by omega)).trans (congrArg nI (by omega))) rfl ?_
    refine ax_iload (pc := 47) G dJ16_getChars_47 rfl ?_
    refine ax_getsZ (pc := 49) G zO q432 dJ16_getChars_49 ?_
    refine ax_iload (pc := 52) G dJ16_getChars_52 rfl ?_
    refine ax_baload (pc := 54) G (u % 100) dJ16_getChars_54 (hO) rfl (by omega) (by omega) ?_
    refine ax_bastore (pc := 55) G (p - 1) dJ16_getChars_55 (hE) (by omega) rfl (by omega) (by omega) ?_
    refine ax_hvS wf (by omega) (fun h51 g51 f51 z51 w51 => ?_)
    refine ax_aload_n (pc := 56) G dJ16_getChars_56 rfl rfl ?_
    refine ax_iinc (pc := 57) (v := nI (p - 2)) G dJ16_getChars_57 rfl ((nI_m1 (show 0 < p - 1 from by omega)).trans (congrArg nI (by omega))) rfl ?_
    refine ax_iload (pc := 60) G dJ16_getChars_60 rfl ?_
    refine ax_getsZ (pc := 62) G zT q434 dJ16_getChars_62 ?_
    refine ax_iload (pc := 65) G dJ16_getChars_65 rfl ?_
    refine ax_baload (pc := 67) G (u % 100) dJ16_getChars_67 ((f51 _ (by omega)).trans (hT)) rfl (by omega) (by omega) ?_
    refine ax_bastore (pc := 68) G (p - 2) dJ16_getChars_68 (g51) (by omega) rfl (by omega) (by omega) ?_
    refine ax_hvS w51 (by omega) (fun h52 g52 f52 z52 w52 => ?_)
    refine ax_goto (pc := 69) (tgt := 22) G dJ16_getChars_69 rfl ?_
    refine ax_iload_n (pc := 22) G dJ16_getChars_22 rfl rfl ?_
    refine ax_bipush (pc := 23) (v := (-100)) G dJ16_getChars_23 (by decide) ?_
    refine ax_icmp_gt (pc := 25) (tgt := 72) G dJ16_getChars_25 rfl (fun c25x => ?_) (fun c25x => ?_)
    · have b4 := l100 (by omega) c25x
      refine ax_aload_n (pc := 72) G dJ16_getChars_72 rfl rfl ?_
      refine ax_iinc (pc := 73) (v := nI (p - 3)) G dJ16_getChars_73 rfl ((nI_m1 (show 0 < p - 2 from by omega)).trans (congrArg nI (by omega))) rfl ?_
      refine ax_iload (pc := 76) G dJ16_getChars_76 rfl ?_
      refine ax_getsZ (pc := 78) G zO q432 dJ16_getChars_78 ?_
      refine ax_iload_n (pc := 81) G dJ16_getChars_81 rfl rfl ?_
      refine ax_ineg (pc := 82) G dJ16_getChars_82 ?_
      refine ax_top (show (.int (-(-(nI (u / 100)))) : Value) = .int (nI (u / 100)) from congrArg Value.int (Int32.neg_neg)) ?_
      refine ax_baload (pc := 83) G (u / 100) dJ16_getChars_83 ((f52 _ (by omega)).trans ((f51 _ (by omega)).trans (hO))) rfl (by omega) (by omega) ?_
      refine ax_bastore (pc := 84) G (p - 3) dJ16_getChars_84 (g52) (by omega) rfl (by omega) (by omega) ?_
      refine ax_hvS w52 (by omega) (fun h53 g53 f53 z53 w53 => ?_)
      refine ax_iload_n (pc := 85) G dJ16_getChars_85 rfl rfl ?_
      refine ax_bipush (pc := 86) (v := (-9)) G dJ16_getChars_86 (by decide) ?_
      refine ax_icmp_ge (pc := 88) (tgt := 104) G dJ16_getChars_88 rfl (fun c88 => ?_) (fun c88 => ?_)
      · have b6 := l9 (by omega) c88
        refine ax_iload (pc := 104) G dJ16_getChars_104 rfl ?_
        refine ax_if_eq (pc := 106) (tgt := 118) G dJ16_getChars_106 rfl (fun _ => ?_) (fun c9 => absurd rfl c9)
        refine ax_iload (pc := 118) G dJ16_getChars_118 rfl ?_
        exact ax_iretP (pc := 120) G E rfl (rfl) dJ16_getChars_120 (⟨_, rfl, congrArg (fun z => some (Value.int (nI z))) (by omega), _, g53, gcs eO eT (by omega) (by omega) (by omega) (gc1 eO (by omega) (by omega) (by first | exact gw eO eT hf | exact gw eO eT (gw eO eT hf))), fun q a1 => (f53 _ (by omega)).trans ((f52 _ (by omega)).trans ((f51 _ (by omega)))), by omega, w53⟩)
      · have b6 := g9 (by omega) c88
        refine ax_aload_n (pc := 91) G dJ16_getChars_91 rfl rfl ?_
        refine ax_iinc (pc := 92) (v := nI (p - 4)) G dJ16_getChars_92 rfl ((nI_m1 (show 0 < p - 3 from by omega)).trans (congrArg nI (by omega))) rfl ?_
        refine ax_iload (pc := 95) G dJ16_getChars_95 rfl ?_
        refine ax_getsZ (pc := 97) G zT q434 dJ16_getChars_97 ?_
        refine ax_iload_n (pc := 100) G dJ16_getChars_100 rfl rfl ?_
        refine ax_ineg (pc := 101) G dJ16_getChars_101 ?_
        refine ax_top (show (.int (-(-(nI (u / 100)))) : Value) = .int (nI (u / 100)) from congrArg Value.int (Int32.neg_neg)) ?_
        refine ax_baload (pc := 102) G (u / 100) dJ16_getChars_102 ((f53 _ (by omega)).trans ((f52 _ (by omega)).trans ((f51 _ (by omega)).trans (hT)))) rfl (by omega) (by omega) ?_
        refine ax_bastore (pc := 103) G (p - 4) dJ16_getChars_103 (g53) (by omega) rfl (by omega) (by omega) ?_
        refine ax_hvS w53 (by omega) (fun h54 g54 f54 z54 w54 => ?_)
        refine ax_iload (pc := 104) G dJ16_getChars_104 rfl ?_
        refine ax_if_eq (pc := 106) (tgt := 118) G dJ16_getChars_106 rfl (fun _ => ?_) (fun c9 => absurd rfl c9)
        refine ax_iload (pc := 118) G dJ16_getChars_118 rfl ?_
        exact ax_iretP (pc := 120) G E rfl (rfl) dJ16_getChars_120 (⟨_, rfl, congrArg (fun z => some (Value.int (nI z))) (by omega), _, g54, gcs eO eT (by omega) (by omega) (by omega) (gc2 eO eT (by omega) (by omega) (by omega) (by first | exact gw eO eT hf | exact gw eO eT (gw eO eT hf))), fun q a1 => (f54 _ (by omega)).trans ((f53 _ (by omega)).trans ((f52 _ (by omega)).trans ((f51 _ (by omega))))), by omega, w54⟩)
    · have b4 := g100 (by omega) c25x
      refine ax_iload_n (pc := 28) G dJ16_getChars_28 rfl rfl ?_
      refine ax_bipush (pc := 29) (v := nI 100) G dJ16_getChars_29 ib_100 ?_
      refine ax_idiv (pc := 31) G dJ16_getChars_31 (by decide) ?_
      refine ax_top (show (.int ((-(nI (u / 100))) / (nI 100)) : Value) = .int (-(nI ((u / 100) / 100))) from congrArg Value.int (sb_ndiv (by omega))) ?_
      refine ax_istore_n (pc := 32) G dJ16_getChars_32 rfl (Nat.le_of_ble_eq_true rfl) rfl ?_
      refine ax_iload_n (pc := 33) G dJ16_getChars_33 rfl rfl ?_
      refine ax_bipush (pc := 34) (v := nI 100) G dJ16_getChars_34 ib_100 ?_
      refine ax_imul (pc := 36) G dJ16_getChars_36 ?_
      refine ax_iload_n (pc := 37) G dJ16_getChars_37 rfl rfl ?_
      refine ax_isub (pc := 38) G dJ16_getChars_38 ?_
      refine ax_top (show (.int (((-(nI ((u / 100) / 100))) * (nI 100)) - (-(nI (u / 100)))) : Value) = .int (nI ((u / 100) % 100)) from congrArg Value.int (sb_nrem (by omega))) ?_
      refine ax_istore (pc := 39) G dJ16_getChars_39 (Nat.le_of_ble_eq_true rfl) rfl ?_
      refine ax_iload_n (pc := 41) G dJ16_getChars_41 rfl rfl ?_
      refine ax_istore_n (pc := 42) G dJ16_getChars_42 rfl (Nat.le_of_ble_eq_true rfl) rfl ?_
      refine ax_aload_n (pc := 43) G dJ16_getChars_43 rfl rfl ?_
      refine ax_iinc (pc := 44) (v := nI (p - 3)) G dJ16_getChars_44 rfl ((nI_m1 (show 0 < p - 2 from by omega)).trans (congrArg nI (by omega))) rfl ?_
      refine ax_iload (pc := 47) G dJ16_getChars_47 rfl ?_
      refine ax_getsZ (pc := 49) G zO q432 dJ16_getChars_49 ?_
      refine ax_iload (pc := 52) G dJ16_getChars_52 rfl ?_
      refine ax_baload (pc := 54) G ((u / 100) % 100) dJ16_getChars_54 ((f52 _ (by omega)).trans ((f51 _ (by omega)).trans (hO))) rfl (by omega) (by omega) ?_
      refine ax_bastore (pc := 55) G (p - 3) dJ16_getChars_55 (g52) (by omega) rfl (by omega) (by omega) ?_
      refine ax_hvS w52 (by omega) (fun h55 g55 f55 z55 w55 => ?_)
      refine ax_aload_n (pc := 56) G dJ16_getChars_56 rfl rfl ?_
      refine ax_iinc (pc := 57) (v := nI (p - 4)) G dJ16_getChars_57 rfl ((nI_m1 (show 0 < p - 3 from by omega)).trans (congrArg nI (by omega))) rfl ?_
      refine ax_iload (pc := 60) G dJ16_getChars_60 rfl ?_
      refine ax_getsZ (pc := 62) G zT q434 dJ16_getChars_62 ?_
      refine ax_iload (pc := 65) G dJ16_getChars_65 rfl ?_
      refine ax_baload (pc := 67) G ((u / 100) % 100) dJ16_getChars_67 ((f55 _ (by omega)).trans ((f52 _ (by omega)).trans ((f51 _ (by omega)).trans (hT)))) rfl (by omega) (by omega) ?_
      refine ax_bastore (pc := 68) G (p - 4) dJ16_getChars_68 (g55) (by omega) rfl (by omega) (by omega) ?_
      refine ax_hvS w55 (by omega) (fun h56 g56 f56 z56 w56 => ?_)
      refine ax_goto (pc := 69) (tgt := 22) G dJ16_getChars_69 rfl ?_
      refine ax_iload_n (pc := 22) G dJ16_getChars_22 rfl rfl ?_
      refine ax_bipush (pc := 23) (v := (-100)) G dJ16_getChars_23 (by decide) ?_
      refine ax_icmp_gt (pc := 25) (tgt := 72) G dJ16_getChars_25 rfl (fun c25xx => ?_) (fun c25xx => ?_)
      · have b6 := l100 (by omega) c25xx
        refine ax_aload_n (pc := 72) G dJ16_getChars_72 rfl rfl ?_
        refine ax_iinc (pc := 73) (v := nI (p - 5)) G dJ16_getChars_73 rfl ((nI_m1 (show 0 < p - 4 from by omega)).trans (congrArg nI (by omega))) rfl ?_
        refine ax_iload (pc := 76) G dJ16_getChars_76 rfl ?_
        refine ax_getsZ (pc := 78) G zO q432 dJ16_getChars_78 ?_
        refine ax_iload_n (pc := 81) G dJ16_getChars_81 rfl rfl ?_
        refine ax_ineg (pc := 82) G dJ16_getChars_82 ?_
        refine ax_top (show (.int (-(-(nI ((u / 100) / 100)))) : Value) = .int (nI ((u / 100) / 100)) from congrArg Value.int (Int32.neg_neg)) ?_
        refine ax_baload (pc := 83) G ((u / 100) / 100) dJ16_getChars_83 ((f56 _ (by omega)).trans ((f55 _ (by omega)).trans ((f52 _ (by omega)).trans ((f51 _ (by omega)).trans (hO))))) rfl (by omega) (by omega) ?_
        refine ax_bastore (pc := 84) G (p - 5) dJ16_getChars_84 (g56) (by omega) rfl (by omega) (by omega) ?_
        refine ax_hvS w56 (by omega) (fun h57 g57 f57 z57 w57 => ?_)
        refine ax_iload_n (pc := 85) G dJ16_getChars_85 rfl rfl ?_
        refine ax_bipush (pc := 86) (v := (-9)) G dJ16_getChars_86 (by decide) ?_
        refine ax_icmp_ge (pc := 88) (tgt := 104) G dJ16_getChars_88 rfl (fun c88 => ?_) (fun c88 => ?_)
        · have b8 := l9 (by omega) c88
          refine ax_iload (pc := 104) G dJ16_getChars_104 rfl ?_
          refine ax_if_eq (pc := 106) (tgt := 118) G dJ16_getChars_106 rfl (fun _ => ?_) (fun c9 => absurd rfl c9)
          refine ax_iload (pc := 118) G dJ16_getChars_118 rfl ?_
          exact ax_iretP (pc := 120) G E rfl (rfl) dJ16_getChars_120 (⟨_, rfl, congrArg (fun z => some (Value.int (nI z))) (by omega), _, g57, gcs eO eT (by omega) (by omega) (by omega) (gcs eO eT (by omega) (by omega) (by have q9 := sb_dg100 (w := u) (by omega) (by omega); omega) (gc1 eO (by omega) (by omega) (by first | exact gw eO eT hf | exact gw eO eT (gw eO eT hf)))), fun q a1 => (f57 _ (by omega)).trans ((f56 _ (by omega)).trans ((f55 _ (by omega)).trans ((f52 _ (by omega)).trans ((f51 _ (by omega)))))), by omega, w57⟩)
        · have b8 := g9 (by omega) c88
          refine ax_aload_n (pc := 91) G dJ16_getChars_91 rfl rfl ?_
          refine ax_iinc (pc := 92) (v := nI (p - 6)) G dJ16_getChars_92 rfl ((nI_m1 (show 0 < p - 5 from by omega)).trans (congrArg nI (by omega))) rfl ?_
          refine ax_iload (pc := 95) G dJ16_getChars_95 rfl ?_
          refine ax_getsZ (pc := 97) G zT q434 dJ16_getChars_97 ?_
          refine ax_iload_n (pc := 100) G dJ16_getChars_100 rfl rfl ?_
          refine ax_ineg (pc := 101) G dJ16_getChars_101 ?_
          refine ax_top (show (.int (-(-(nI ((u / 100) / 100)))) : Value) = .int (nI ((u / 100) / 100)) from congrArg Value.int (Int32.neg_neg)) ?_
          refine ax_baload (pc := 102) G ((u / 100) / 100) dJ16_getChars_102 ((f57 _ (by omega)).trans ((f56 _ (by omega)).trans ((f55 _ (by omega)).trans ((f52 _ (by omega)).trans ((f51 _ (by omega)).trans (hT)))))) rfl (by omega) (by omega) ?_
          refine ax_bastore (pc := 103) G (p - 6) dJ16_getChars_103 (g57) (by omega) rfl (by omega) (by omega) ?_
          refine ax_hvS w57 (by omega) (fun h58 g58 f58 z58 w58 => ?_)
          refine ax_iload (pc := 104) G dJ16_getChars_104 rfl ?_
          refine ax_if_eq (pc := 106) (tgt := 118) G dJ16_getChars_106 rfl (fun _ => ?_) (fun c9 => absurd rfl c9)
          refine ax_iload (pc := 118) G dJ16_getChars_118 rfl ?_
          exact ax_iretP (pc := 120) G E rfl (rfl) dJ16_getChars_120 (⟨_, rfl, congrArg (fun z => some (Value.int (nI z))) (by omega), _, g58, gcs eO eT (by omega) (by omega) (by omega) (gcs eO eT (by omega) (by omega) (by have q9 := sb_dg100 (w := u) (by omega) (by omega); omega) (gc2 eO eT (by omega) (by omega) (by omega) (by first | exact gw eO eT hf | exact gw eO eT (gw eO eT hf)))), fun q a1 => (f58 _ (by omega)).trans ((f57 _ (by omega)).trans ((f56 _ (by omega)).trans ((f55 _ (by omega)).trans ((f52 _ (by omega)).trans ((f51 _ (by omega))))))), by omega, w58⟩)
      · exact absurd (g100 (by omega) c25xx) (by omega)

