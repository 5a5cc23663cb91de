/-! THE LIBRARY: makers of text -/
theorem ct_blatin {Ω : ax_O} (hA : ax_Amb Ω) {h : ax_H} {B e m n : Nat} {ml : Int32} {a : Nat → Int32} (hB : h.1 B = some (.inr (18, [.ref e, .int (nI 0), .int ml, .int (nI n)]))) (hE : h.1 e = some (.inl (.byte, m, .inl a)))  : ax_Met Ω yJ7_isLatin1 0 0 0 [.ref B] h (.inl (some (.int (nI 1)))) h := by
  refine ax_met q349 q127 (by decide +kernel) (by decide) hA (Nat.le_of_ble_eq_true rfl) (fun Γ G E => ?_)
  show ax_W Ω Γ 0 0 h 0 [some (.ref B)] []
  refine ax_getsZ (pc := 0) G (zCS hA) q275 dJ7_isLatin1_0 ?_
  show ax_W Ω Γ _ _ _ _ _ (.int (nI 1) :: _)
  refine ax_if_eq (pc := 3) (tgt := 17) G dJ7_isLatin1_3 rfl (fun c9 => absurd c9 (by decide)) (fun _ => ?_)
  refine ax_aload_n (pc := 6) G dJ7_isLatin1_6 rfl rfl ?_
  refine ax_getf (pc := 7) (v := .int (nI 0)) G flJ7_22_18 dJ7_isLatin1_7 (hB) rfl ?_
  refine ax_if_ne (pc := 10) (tgt := 17) G dJ7_isLatin1_10 rfl (fun c9 => absurd rfl c9) (fun _ => ?_)
  refine ax_iconst (pc := 13) (v := nI 1) G dJ7_isLatin1_13 ic_1 ?_
  refine ax_goto (pc := 14) (tgt := 18) G dJ7_isLatin1_14 rfl ?_
  exact ax_iretE (pc := 18) G E rfl (rfl) dJ7_isLatin1_18 (rfl) (rfl)

theorem ct_bcoder {Ω : ax_O} (hA : ax_Amb Ω) {h : ax_H} {B e m n : Nat} {ml : Int32} {a : Nat → Int32} (hB : h.1 B = some (.inr (18, [.ref e, .int (nI 0), .int ml, .int (nI n)]))) (hE : h.1 e = some (.inl (.byte, m, .inl a)))  : ax_Met Ω yJ7_getCoder 0 0 0 [.ref B] h (.inl (some (.int (nI 0)))) h := by
  refine ax_met q2289 q127 (by decide +kernel) (by decide) hA (Nat.le_of_ble_eq_true rfl) (fun Γ G E => ?_)
  show ax_W Ω Γ 0 0 h 0 [some (.ref B)] []
  refine ax_getsZ (pc := 0) G (zCS hA) q275 dJ7_getCoder_0 ?_
  show ax_W Ω Γ _ _ _ _ _ (.int (nI 1) :: _)
  refine ax_if_eq (pc := 3) (tgt := 13) G dJ7_getCoder_3 rfl (fun c9 => absurd c9 (by decide)) (fun _ => ?_)
  refine ax_aload_n (pc := 6) G dJ7_getCoder_6 rfl rfl ?_
  refine ax_getf (pc := 7) (v := .int (nI 0)) G flJ7_22_18 dJ7_getCoder_7 (hB) rfl ?_
  refine ax_goto (pc := 10) (tgt := 14) G dJ7_getCoder_10 rfl ?_
  exact ax_iretE (pc := 14) G E rfl (rfl) dJ7_getCoder_14 (rfl) (rfl)

theorem ct_blen {Ω : ax_O} (hA : ax_Amb Ω) {h : ax_H} {B e m n : Nat} {ml : Int32} {a : Nat → Int32} (hB : h.1 B = some (.inr (18, [.ref e, .int (nI 0), .int ml, .int (nI n)]))) (hE : h.1 e = some (.inl (.byte, m, .inl a)))  : ax_Met Ω yJ7_length 0 0 0 [.ref B] h (.inl (some (.int (nI n)))) h := by
  refine ax_met q469 q127 (by decide +kernel) (by decide) hA (Nat.le_of_ble_eq_true rfl) (fun Γ G E => ?_)
  show ax_W Ω Γ 0 0 h 0 [some (.ref B)] []
  refine ax_aload_n (pc := 0) G dJ7_length_0 rfl rfl ?_
  refine ax_getf (pc := 1) (v := .int (nI n)) G flJ7_79_18 dJ7_length_1 (hB) rfl ?_
  exact ax_iretE (pc := 4) G E rfl (rfl) dJ7_length_4 (rfl) (rfl)

theorem ct_bvalue {Ω : ax_O} (hA : ax_Amb Ω) {h : ax_H} {B e m n : Nat} {ml : Int32} {a : Nat → Int32} (hB : h.1 B = some (.inr (18, [.ref e, .int (nI 0), .int ml, .int (nI n)]))) (hE : h.1 e = some (.inl (.byte, m, .inl a)))  : ax_Met Ω yJ7_getValue 0 0 0 [.ref B] h (.inl (some (.ref e))) h := by
  refine ax_met q461 q127 (by decide +kernel) (by decide) hA (Nat.le_of_ble_eq_true rfl) (fun Γ G E => ?_)
  show ax_W Ω Γ 0 0 h 0 [some (.ref B)] []
  refine ax_aload_n (pc := 0) G dJ7_getValue_0 rfl rfl ?_
  refine ax_getf (pc := 1) (v := .ref e) G flJ7_15_18 dJ7_getValue_1 (hB) rfl ?_
  exact ax_aretE (pc := 4) G E rfl (Or.inr ⟨_, rfl⟩) (Or.inr ⟨_, rfl⟩) dJ7_getValue_4 (rfl) (rfl)

theorem ct_blen8 {Ω : ax_O} (hA : ax_Amb Ω) {h : ax_H} {B e m n : Nat} {ml : Int32} {a : Nat → Int32} (hB : h.1 B = some (.inr (18, [.ref e, .int (nI 0), .int ml, .int (nI n)]))) (hE : h.1 e = some (.inl (.byte, m, .inl a)))  : ax_Met Ω yJ8_length 1 0 0 [.ref B] h (.inl (some (.int (nI n)))) h := by
  refine ax_met q467 q128 (by decide +kernel) (by decide) hA (Nat.le_of_ble_eq_true rfl) (fun Γ G E => ?_)
  show ax_W Ω Γ 0 0 h 0 [some (.ref B)] []
  refine ax_aload_n (pc := 0) G dJ8_length_0 rfl rfl ?_
  refine ax_cSU1 (pc := 1) (kb := 0) (nb := 0) G (ct_blen hA (hB) (hE)) lSUJ8_343 dJ8_length_1 (hB) rfl rfl (by decide) (Nat.le_of_ble_eq_true rfl) rfl ?_
  exact ax_iretE (pc := 4) G E rfl (rfl) dJ8_length_4 (rfl) (rfl)

theorem ct_bnewcap {Ω : ax_O} (hA : ax_Amb Ω) {h : ax_H} {B e m n : Nat} {ml : Int32} {a : Nat → Int32} (hB : h.1 B = some (.inr (18, [.ref e, .int (nI 0), .int ml, .int (nI n)]))) (hE : h.1 e = some (.inl (.byte, m, .inl a))) (hm : m = 16 ∨ m = 34 ∨ m = 70) (q : Nat) (hq : m < q) (hq2 : q ≤ 70) (hq3 : q ≤ m + 11) : ax_Met Ω yJ7_newCapacity 3 0 0 [.ref B, .int (nI q)] h (.inl (some (.int (nI (m + m + 2))))) h := by
  refine ax_met q317 q127 (by decide +kernel) (by decide) hA (Nat.le_of_ble_eq_true rfl) (fun Γ G E => ?_)
  have e9 : (m + if q - m < m + 2 then m + 2 else q - m) = m + m + 2 := by rw [if_pos (by omega)]; omega
  show ax_W Ω Γ 0 0 h 0 [some (.ref B), some (.int (nI q)), none, none, none, none] []
  refine ax_aload_n (pc := 0) G dJ7_newCapacity_0 rfl rfl ?_
  refine ax_getf (pc := 1) (v := .ref e) G flJ7_15_18 dJ7_newCapacity_1 (hB) rfl ?_
  refine ax_alen (pc := 4) (v := nI m) G dJ7_newCapacity_4 (hE) rfl ?_
  refine ax_istore_n (pc := 5) G dJ7_newCapacity_5 rfl (Nat.le_of_ble_eq_true rfl) rfl ?_
  refine ax_iload_n (pc := 6) G dJ7_newCapacity_6 rfl rfl ?_
  refine ax_aload_n (pc := 7) G dJ7_newCapacity_7 rfl rfl ?_
  refine ax_getf (pc := 8) (v := .int (nI 0)) G flJ7_22_18 dJ7_newCapacity_8 (hB) rfl ?_
  refine ax_ishl (pc := 11) G dJ7_newCapacity_11 ?_
  refine ax_top (show Value.int ((nI q) <<< ((nI 0) &&& 31)) = .int (nI q) from congrArg Value.int (sb_shl0 _)) ?_
  refine ax_istore_n (pc := 12) G dJ7_newCapacity_12 rfl (Nat.le_of_ble_eq_true rfl) rfl ?_
  refine ax_iload_n (pc := 13) G dJ7_newCapacity_13 rfl rfl ?_
  refine ax_iload_n (pc := 14) G dJ7_newCapacity_14 rfl rfl ?_
  refine ax_isubN (pc := 15) G dJ7_newCapacity_15 (by omega) ?_
  refine ax_istore (pc := 16) G dJ7_newCapacity_16 (Nat.le_of_ble_eq_true rfl) rfl ?_
  refine ax_iload_n (pc := 18) G dJ7_newCapacity_18 rfl rfl ?_
  refine ax_iload (pc := 19) G dJ7_newCapacity_19 rfl ?_
  refine ax_iload_n (pc := 21) G dJ7_newCapacity_21 rfl rfl ?_
  refine ax_iconst (pc := 22) (v := nI 2) G dJ7_newCapacity_22 ic_2 ?_
  refine ax_aload_n (pc := 23) G dJ7_newCapacity_23 rfl rfl ?_
  refine ax_getf (pc := 24) (v := .int (nI 0)) G flJ7_22_18 dJ7_newCapacity_24 (hB) rfl ?_
  refine ax_ishl (pc := 27) G dJ7_newCapacity_27 ?_
  refine ax_top (show Value.int ((nI 2) <<< ((nI 0) &&& 31)) = .int (nI 2) from congrArg Value.int (sb_shl0 _)) ?_
  refine ax_iaddN (pc := 28) G dJ7_newCapacity_28 ?_
  refine ax_cS1 (pc := 29) (kb := 0) (nb := 0) G (ct_newLength hA m (q - m) (m + 2) (by omega) (by omega) (by omega) (by omega)) lSJ7_114 dJ7_newCapacity_29 rfl (by decide) (Nat.le_of_ble_eq_true rfl) rfl ?_
  rw [show (m + if (q - m) < (m + 2) then (m + 2) else (q - m)) = m + m + 2 from e9]
  refine ax_istore (pc := 32) G dJ7_newCapacity_32 (Nat.le_of_ble_eq_true rfl) rfl ?_
  refine ax_iload (pc := 34) G dJ7_newCapacity_34 rfl ?_
  refine ax_ldc (pc := 36) G q328 dJ7_newCapacity_36 ?_
  refine ax_icmp_ne (pc := 38) (tgt := 51) G dJ7_newCapacity_38 rfl (fun _ => ?_) (fun c9 => absurd c9 (fun z => absurd ((nI_eq (by omega) (by decide)).mp (show nI (m + m + 2) = nI 2147483647 from z)) (by omega)))
  refine ax_iload (pc := 51) G dJ7_newCapacity_51 rfl ?_
  refine ax_aload_n (pc := 53) G dJ7_newCapacity_53 rfl rfl ?_
  refine ax_getf (pc := 54) (v := .int (nI 0)) G flJ7_22_18 dJ7_newCapacity_54 (hB) rfl ?_
  refine ax_ishr (pc := 57) G dJ7_newCapacity_57 ?_
  refine ax_top (show Value.int ((nI (m + m + 2)) >>> ((nI 0) &&& 31)) = .int (nI (m + m + 2)) from congrArg Value.int (sb_shr0 _)) ?_
  exact ax_iretE (pc := 58) G E rfl (rfl) dJ7_newCapacity_58 (rfl) (rfl)

theorem ct_bcopyOf {Ω : ax_O} (hA : ax_Amb Ω) {h : ax_H} (wf : ax_wf h) (hz : Ω.2.1.heap.size ≤ h.2) {e m : Nat} {a : Nat → Int32} (hE : h.1 e = some (.inl (.byte, m, .inl a))) (hf : sb_Fit a) (K : Nat) (hK : m < K) (hK2 : K < 200) : ax_MetP Ω yJ13_copyOf 2 1 200 [.ref e, .int (nI K)] h (ax_Nm (fun v h' => v = some (.ref h.2) ∧ h'.1 h.2 = some (.inl (.byte, K, .inl (va_cpy a (fun _ => 0) 0 0 m))) ∧ (∀ q, q < h.2 → h'.1 q = h.1 q) ∧ h'.2 = h.2 + 1 ∧ ax_wf h')) := by
  refine ax_metP q331 q133 (by decide +kernel) (by decide) hA (Nat.le_of_ble_eq_true rfl) (fun Γ G E => ?_)
  have hle := wf.lt hE
  show ax_W Ω Γ 1 200 h 0 [some (.ref e), some (.int (nI K)), none] []
  refine ax_iload_n (pc := 0) G dJ13_copyOf_0 rfl rfl ?_
  refine ax_aload_n (pc := 1) G dJ13_copyOf_1 rfl rfl ?_
  refine ax_alen (pc := 2) (v := nI m) G dJ13_copyOf_2 (hE) rfl ?_
  refine ax_icmp_neN (pc := 3) (tgt := 14) G dJ13_copyOf_3 rfl (by omega) (by omega) (fun c3 => ?_) (fun c3 => ?_)
  · refine ax_iload_n (pc := 14) G dJ13_copyOf_14 rfl rfl ?_
    refine ax_more (kb := 0 + 1) (nb := 0 + K) (by omega) (by omega) ?_
    refine ax_newarray (pc := 15) (kb := 0) (nb := 0) G K (K, .inl fun _ => 0) dJ13_copyOf_15 rfl q184 rfl (by omega) rfl (fun j => rfl) ?_
    refine ax_hvA wf (fun h32 g32 f32 z32 w32 => ?_)
    refine ax_astore_n (pc := 17) G dJ13_copyOf_17 rfl (Nat.le_of_ble_eq_true rfl) rfl ?_
    refine ax_aload_n (pc := 18) G dJ13_copyOf_18 rfl rfl ?_
    refine ax_iconst (pc := 19) (v := nI 0) G dJ13_copyOf_19 ic_0 ?_
    refine ax_aload_n (pc := 20) G dJ13_copyOf_20 rfl rfl ?_
    refine ax_iconst (pc := 21) (v := nI 0) G dJ13_copyOf_21 ic_0 ?_
    refine ax_aload_n (pc := 22) G dJ13_copyOf_22 rfl rfl ?_
    refine ax_alen (pc := 23) (v := nI m) G dJ13_copyOf_23 ((f32 _ (by omega)).trans (hE)) rfl ?_
    refine ax_iload_n (pc := 24) G dJ13_copyOf_24 rfl rfl ?_
    refine ax_min (pc := 25) G q339 q340 q132 q341 (by decide) (Nat.le_of_ble_eq_true rfl) dJ13_copyOf_25 ?_
    refine ax_top (show Value.int (iMin (nI m) (nI K)) = .int (nI m) from congrArg Value.int ((iMin_N (by omega) (by omega)).trans (congrArg nI (if_neg (by omega))))) ?_
    refine ax_copyi (pc := 28) G q342 q344 q343 q134 ((f32 _ (by omega)).trans (hE)) (g32) (by omega) rfl (by omega) (by omega) (by omega) (fun i hi => hf _) (by decide) (Nat.le_of_ble_eq_true rfl) dJ13_copyOf_28 ?_
    refine ax_hvS w32 (by omega) (fun h33 g33 f33 z33 w33 => ?_)
    refine ax_aload_n (pc := 31) G dJ13_copyOf_31 rfl rfl ?_
    exact ax_aretP (pc := 32) G E rfl (Or.inr ⟨_, rfl⟩) (Or.inr ⟨_, rfl⟩) dJ13_copyOf_32 (⟨_, rfl, rfl, g33, fun q a1 => (f33 _ (by omega)).trans ((f32 _ (by omega))), by omega, w33⟩)
  · omega

theorem nI_sub_le {a b : Nat} (h : a ≤ b) (hb : b < 1000) : nI a - nI b ≤ 0 := by
  have e : (nI a - nI b).toInt = (a : Int) - b := pk_sub_toInt (by omega) (by omega)
  rw [Int32.le_iff_toInt_le, e, Int32.toInt_zero]; omega
/-- room is made -/
def cEns (h h' : ax_H) (B e m n q : Nat) (ml : Int32) (a : Nat → Int32) : Prop := ∃ (e' m' : Nat) (a' : Nat → Int32), h'.1 B = some (.inr (18, [.ref e', .int (nI 0), .int ml, .int (nI n)])) ∧ h'.1 e' = some (.inl (.byte, m', .inl a')) ∧ (m' = 16 ∨ m' = 34 ∨ m' = 70) ∧ q ≤ m' ∧ m ≤ m' ∧ sb_Fit a' ∧ (∀ j, j < n → a' j = a j) ∧ ((e' = e ∧ h'.2 = h.2) ∨ (e' = h.2 ∧ h'.2 = h.2 + 1)) ∧ (∀ q, q < h.2 → q ≠ B → h'.1 q = h.1 q) ∧ ax_wf h'
theorem ct_bens0 {Ω : ax_O} (hA : ax_Amb Ω) {h : ax_H} (wf : ax_wf h) (hz : Ω.2.1.heap.size ≤ h.2) {B e m n : Nat} {ml : Int32} {a : Nat → Int32} (hB : h.1 B = some (.inr (18, [.ref e, .int (nI 0), .int ml, .int (nI n)]))) (hE : h.1 e = some (.inl (.byte, m, .inl a))) (hbB : Ω.2.1.heap.size ≤ B) (hbe : Ω.2.1.heap.size ≤ e) (hm : m = 16 ∨ m = 34 ∨ m = 70) (hnm : n ≤ m) (hf : sb_Fit a) (q : Nat) (hq : q ≤ m) : ax_MetP Ω yJ7_ensureCapacityInternal 4 1 200 [.ref B, .int (nI q)] h (ax_Nm (fun v h' => v = none ∧ cEns h h' B e m n q ml a)) := by
  refine ax_metP q313 q127 (by decide +kernel) (by decide) hA (Nat.le_of_ble_eq_true rfl) (fun Γ G E => ?_)
  have hlB := wf.lt hB
  have hle := wf.lt hE
  have hBe : B ≠ e := fun z => by rw [z, hE] at hB; cases hB
  show ax_W Ω Γ 1 200 h 0 [some (.ref B), some (.int (nI q)), none] []
  refine ax_aload_n (pc := 0) G dJ7_ensureCapacityInternal_0 rfl rfl ?_
  refine ax_getf (pc := 1) (v := .ref e) G flJ7_15_18 dJ7_ensureCapacityInternal_1 (hB) rfl ?_
  refine ax_alen (pc := 4) (v := nI m) G dJ7_ensureCapacityInternal_4 (hE) rfl ?_
  refine ax_aload_n (pc := 5) G dJ7_ensureCapacityInternal_5 rfl rfl ?_
  refine ax_getf (pc := 6) (v := .int (nI 0)) G flJ7_22_18 dJ7_ensureCapacityInternal_6 (hB) rfl ?_
  refine ax_ishr (pc := 9) G dJ7_ensureCapacityInternal_9 ?_
  refine ax_top (show Value.int ((nI m) >>> ((nI 0) &&& 31)) = .int (nI m) from congrArg Value.int (sb_shr0 _)) ?_
  refine ax_istore_n (pc := 10) G dJ7_ensureCapacityInternal_10 rfl (Nat.le_of_ble_eq_true rfl) rfl ?_
  refine ax_iload_n (pc := 11) G dJ7_ensureCapacityInternal_11 rfl rfl ?_
  refine ax_iload_n (pc := 12) G dJ7_ensureCapacityInternal_12 rfl rfl ?_
  refine ax_isub (pc := 13) G dJ7_ensureCapacityInternal_13 ?_
  refine ax_if_le (pc := 14) (tgt := 38) G dJ7_ensureCapacityInternal_14 rfl (fun _ => ?_) (fun c9 => absurd (nI_sub_le hq (by omega)) c9)
  exact ax_vretP (pc := 38) G E rfl dJ7_ensureCapacityInternal_38 (⟨_, rfl, rfl, e, m, a, hB, hE, hm, hq, Nat.le_refl _, hf, fun _ _ => rfl, Or.inl ⟨rfl, rfl⟩, fun _ _ _ => rfl, wf⟩)

theorem ct_bens1 {Ω : ax_O} (hA : ax_Amb Ω) {h : ax_H} (wf : ax_wf h) (hz : Ω.2.1.heap.size ≤ h.2) {B e m n : Nat} {ml : Int32} {a : Nat → Int32} (hB : h.1 B = some (.inr (18, [.ref e, .int (nI 0), .int ml, .int (nI n)]))) (hE : h.1 e = some (.inl (.byte, m, .inl a))) (hbB : Ω.2.1.heap.size ≤ B) (hbe : Ω.2.1.heap.size ≤ e) (hm : m = 16 ∨ m = 34 ∨ m = 70) (hnm : n ≤ m) (hf : sb_Fit a) (q : Nat) (hq : m < q) (hq2 : q ≤ 70) (hq3 : q ≤ m + 11) : ax_MetP Ω yJ7_ensureCapacityInternal 4 1 200 [.ref B, .int (nI q)] h (ax_Nm (fun v h' => v = none ∧ cEns h h' B e m n q ml a)) := by
  refine ax_metP q313 q127 (by decide +kernel) (by decide) hA (Nat.le_of_ble_eq_true rfl) (fun Γ G E => ?_)
  have hlB := wf.lt hB
  have hle := wf.lt hE
  have hBe : B ≠ e := fun z => by rw [z, hE] at hB; cases hB
  show ax_W Ω Γ 1 200 h 0 [some (.ref B), some (.int (nI q)), none] []
  refine ax_aload_n (pc := 0) G dJ7_ensureCapacityInternal_0 rfl rfl ?_
  refine ax_getf (pc := 1) (v := .ref e) G flJ7_15_18 dJ7_ensureCapacityInternal_1 (hB) rfl ?_
  refine ax_alen (pc := 4) (v := nI m) G dJ7_ensureCapacityInternal_4 (hE) rfl ?_
  refine ax_aload_n (pc := 5) G dJ7_ensureCapacityInternal_5 rfl rfl ?_
  refine ax_getf (pc := 6) (v := .int (nI 0)) G flJ7_22_18 dJ7_ensureCapacityInternal_6 (hB) rfl ?_
  refine ax_ishr (pc := 9) G dJ7_ensureCapacityInternal_9 ?_
  refine ax_top (show Value.int ((nI m) >>> ((nI 0) &&& 31)) = .int (nI m) from congrArg Value.int (sb_shr0 _)) ?_
  refine ax_istore_n (pc := 10) G dJ7_ensureCapacityInternal_10 rfl (Nat.le_of_ble_eq_true rfl) rfl ?_
  refine ax_iload_n (pc := 11) G dJ7_ensureCapacityInternal_11 rfl rfl ?_
  refine ax_iload_n (pc := 12) G dJ7_ensureCapacityInternal_12 rfl rfl ?_
  refine ax_isubN (pc := 13) G dJ7_ensureCapacityInternal_13 (by omega) ?_
  refine ax_if_le (pc := 14) (tgt := 38) G dJ7_ensureCapacityInternal_14 rfl (fun c9 => absurd c9 (fun z => absurd ((nz_le z (by omega))) (by omega))) (fun _ => ?_)
  refine ax_aload_n (pc := 17) G dJ7_ensureCapacityInternal_17 rfl rfl ?_
  refine ax_aload_n (pc := 18) G dJ7_ensureCapacityInternal_18 rfl rfl ?_
  refine ax_getf (pc := 19) (v := .ref e) G flJ7_15_18 dJ7_ensureCapacityInternal_19 (hB) rfl ?_
  refine ax_aload_n (pc := 22) G dJ7_ensureCapacityInternal_22 rfl rfl ?_
  refine ax_iload_n (pc := 23) G dJ7_ensureCapacityInternal_23 rfl rfl ?_
  refine ax_cVP1 (pc := 24) (kb := 1) (nb := 200) G (ct_bnewcap hA (hB) (hE) hm q (by omega) (by omega) (by omega)) lVPJ7_104_18 dJ7_ensureCapacityInternal_24 (hB) rfl (by decide) (Nat.le_of_ble_eq_true rfl) rfl ?_
  refine ax_aload_n (pc := 27) G dJ7_ensureCapacityInternal_27 rfl rfl ?_
  refine ax_getf (pc := 28) (v := .int (nI 0)) G flJ7_22_18 dJ7_ensureCapacityInternal_28 (hB) rfl ?_
  refine ax_ishl (pc := 31) G dJ7_ensureCapacityInternal_31 ?_
  refine ax_top (show Value.int ((nI (m + m + 2)) <<< ((nI 0) &&& 31)) = .int (nI (m + m + 2)) from congrArg Value.int (sb_shl0 _)) ?_
  refine ax_nS (pc := 32) (kb := 0) (nb := 0) G (ct_bcopyOf hA wf (by omega) (hE) hf (m + m + 2) (by omega) (by omega)) lSJ7_108 dJ7_ensureCapacityInternal_32 rfl (by decide) (Nat.le_of_ble_eq_true rfl) rfl (fun v34 h34 q9 => ?_)
  obtain ⟨rfl, g34, f34, z34, w34⟩ := q9
  show ax_W Ω Γ _ _ (h34) _ _ (.ref h.2 :: _)
  refine ax_putf (pc := 35) G flJ7_15_18 dJ7_ensureCapacityInternal_35 ((f34 _ (by omega) ).trans (hB)) (by omega) (Nat.le_of_ble_eq_true rfl) rfl rfl ?_
  refine ax_hvS w34 (by omega) (fun h35 g35 f35 z35 w35 => ?_)
  replace g35 : h35.1 B = some (.inr (18, [.ref h.2, .int (nI 0), .int ml, .int (nI n)])) := g35
  exact ax_vretP (pc := 38) G E rfl dJ7_ensureCapacityInternal_38 (⟨_, rfl, rfl, h.2, m + m + 2, _, g35, (f35 _ (by omega)).trans (g34), by omega, by omega, by omega, sb_fitC hf sb_fit0, fun j hj => sb_cpy0 (by omega), Or.inr ⟨rfl, by omega⟩, fun q a1 a2 => (f35 _ (by omega)).trans ((f34 _ (by omega) )), w35⟩)

theorem ct_bens {Ω : ax_O} (hA : ax_Amb Ω) {h : ax_H} (wf : ax_wf h) (hz : Ω.2.1.heap.size ≤ h.2) {B e m n : Nat} {ml : Int32} {a : Nat → Int32} (hB : h.1 B = some (.inr (18, [.ref e, .int (nI 0), .int ml, .int (nI n)]))) (hE : h.1 e = some (.inl (.byte, m, .inl a))) (hbB : Ω.2.1.heap.size ≤ B) (hbe : Ω.2.1.heap.size ≤ e) (hm : m = 16 ∨ m = 34 ∨ m = 70) (hnm : n ≤ m) (hf : sb_Fit a) (q : Nat) (hq2 : q ≤ 70) (hq3 : q ≤ m + 11) : ax_MetP Ω yJ7_ensureCapacityInternal 4 1 200 [.ref B, .int (nI q)] h (ax_Nm (fun v h' => v = none ∧ cEns h h' B e m n q ml a)) := by
  by_cases c : q ≤ m
  · exact ct_bens0 hA wf hz hB hE hbB hbe hm hnm hf q c
  · exact ct_bens1 hA wf hz hB hE hbB hbe hm hnm hf q (by omega) hq2 hq3
/-- n letters t at B, whose places are at e -/
def sB (h : ax_H) (B e n : Nat) (t : Nat → Nat) : Prop := ∃ (m : Nat) (ml : Int32) (a : Nat → Int32), h.1 B = some (.inr (18, [.ref e, .int (nI 0), .int ml, .int (nI n)])) ∧ h.1 e = some (.inl (.byte, m, .inl a)) ∧ (m = 16 ∨ m = 34 ∨ m = 70) ∧ n ≤ m ∧ sb_Fit a ∧ sb_Lat t n a
/-- what an append leaves -/
def cApp (h h' : ax_H) (B e n' : Nat) (t' : Nat → Nat) : Prop := ∃ (e' : Nat), sB h' B e' n' t' ∧ ((e' = e ∧ h'.2 = h.2) ∨ (e' = h.2 ∧ h'.2 = h.2 + 1)) ∧ (∀ q, q < h.2 → q ≠ B → q ≠ e → h'.1 q = h.1 q) ∧ ax_wf h'
theorem ct_canenc {Ω : ax_O} (hA : ax_Amb Ω) {h : ax_H} (c : Nat) (hc : c < 256) : ax_Met Ω yJ15_canEncode 0 0 0 [.int (nI c)] h (.inl (some (.int (nI 1)))) h := by
  refine ax_met q1011 q136 (by decide +kernel) (by decide) hA (Nat.le_of_ble_eq_true rfl) (fun Γ G E => ?_)
  show ax_W Ω Γ 0 0 h 0 [some (.int (nI c))] []
  refine ax_iload_n (pc := 0) G dJ15_canEncode_0 rfl rfl ?_
  refine ax_sipush (pc := 1) (v := nI 255) G dJ15_canEncode_1 is_255 ?_
  refine ax_icmp_gtN (pc := 4) (tgt := 11) G dJ15_canEncode_4 rfl (by omega) (by omega) (fun c4 => ?_) (fun c4 => ?_)
  · omega
  · refine ax_iconst (pc := 7) (v := nI 1) G dJ15_canEncode_7 ic_1 ?_
    refine ax_goto (pc := 8) (tgt := 12) G dJ15_canEncode_8 rfl ?_
    exact ax_iretE (pc := 12) G E rfl (rfl) dJ15_canEncode_12 (rfl) (rfl)

theorem sb_nb : ∀ c, c < 256 → vp_nar .byte ((nI c).toInt8.toInt32) = sb_b c := by decide +kernel
theorem sB_put1 {t : Nat → Nat} {n c : Nat} {a a1 : Nat → Int32} (hL : sb_Lat t n a) (h1 : ∀ j, j < n → a1 j = a j) (hc : c < 256) : sb_Lat (sb_cat t n (fun _ => c)) (n + 1) (upd a1 n (vp_nar .byte ((nI c).toInt8.toInt32))) := by
  refine sb_latPut hL (fun j hj => ?_) (fun i hi => ⟨hc, ?_⟩)
  · unfold upd; rw [if_neg (by omega)]; exact h1 j hj
  · have : i = 0 := by omega
    subst this
    show upd a1 n _ n = _
    unfold upd; rw [if_pos rfl]; exact sb_nb c hc
theorem sB_put2 {n c : Nat} {a1 : Nat → Int32} (h : sb_Fit a1) (hc : c < 256) : sb_Fit (upd a1 n (vp_nar .byte ((nI c).toInt8.toInt32))) := sb_fitU h (by rw [sb_nb c hc]; exact sb_fitB c)
theorem ct_bappC {Ω : ax_O} (hA : ax_Amb Ω) {h : ax_H} (wf : ax_wf h) (hz : Ω.2.1.heap.size ≤ h.2) {B e n : Nat} {t : Nat → Nat} (hS : sB h B e n t) (hbB : Ω.2.1.heap.size ≤ B) (hbe : Ω.2.1.heap.size ≤ e) (c : Nat) (hc : c < 256) (hn : n < 60) : ax_MetP Ω yJ7_append_3 5 1 200 [.ref B, .int (nI c)] h (ax_Nm (fun v h' => v = some (.ref B) ∧ cApp h h' B e (n + 1) (sb_cat t n (fun _ => c)))) := by
  refine ax_metP q1008 q127 (by decide +kernel) (by decide) hA (Nat.le_of_ble_eq_true rfl) (fun Γ G E => ?_)
  obtain ⟨m, ml, a, hB, hE, hm, hnm, hf, hLat⟩ := hS
  have hlB := wf.lt hB
  have hle := wf.lt hE
  have hBe : B ≠ e := fun z => by rw [z, hE] at hB; cases hB
  show ax_W Ω Γ 1 200 h 0 [some (.ref B), some (.int (nI c))] []
  refine ax_aload_n (pc := 0) G dJ7_append_3_0 rfl rfl ?_
  refine ax_aload_n (pc := 1) G dJ7_append_3_1 rfl rfl ?_
  refine ax_getf (pc := 2) (v := .int (nI n)) G flJ7_79_18 dJ7_append_3_2 (hB) rfl ?_
  refine ax_iconst (pc := 5) (v := nI 1) G dJ7_append_3_5 ic_1 ?_
  refine ax_iaddN (pc := 6) G dJ7_append_3_6 ?_
  refine ax_nVP (pc := 7) (kb := 0) (nb := 0) G (ct_bens hA wf (by omega) (hB) (hE) hbB hbe hm hnm hf (n + 1) (by omega) (by omega)) lVPJ7_100_18 dJ7_append_3_7 (hB) rfl (by decide) (Nat.le_of_ble_eq_true rfl) rfl (fun v36 h36 q9 => ?_)
  obtain ⟨rfl, e1, m1, a1, g36, k36, M1, M2, M3, F1, A1, O1, f36, w36⟩ := q9
  have hb1 : Ω.2.1.heap.size ≤ e1 := by omega
  have hB1 : B ≠ e1 := fun z => by rw [z, k36] at g36; cases g36
  have hl1 := w36.lt k36
  have hlB1 := w36.lt g36
  have hz1 : h.2 ≤ h36.2 := by omega
  show ax_W Ω Γ _ _ (h36) _ _ (_)
  refine ax_aload_n (pc := 10) G dJ7_append_3_10 rfl rfl ?_
  refine ax_cV1 (pc := 11) (kb := 0) (nb := 0) G (ct_blatin hA (g36) (k36)) lVJ7_83_18 dJ7_append_3_11 (g36) rfl (by decide) (Nat.le_of_ble_eq_true rfl) rfl ?_
  refine ax_if_eq (pc := 14) (tgt := 45) G dJ7_append_3_14 rfl (fun c9 => absurd c9 (by decide)) (fun _ => ?_)
  refine ax_iload_n (pc := 17) G dJ7_append_3_17 rfl rfl ?_
  refine ax_cS1 (pc := 18) (kb := 0) (nb := 0) G (ct_canenc hA c hc) lSJ7_191 dJ7_append_3_18 rfl (by decide) (Nat.le_of_ble_eq_true rfl) rfl ?_
  refine ax_if_eq (pc := 21) (tgt := 45) G dJ7_append_3_21 rfl (fun c9 => absurd c9 (by decide)) (fun _ => ?_)
  refine ax_aload_n (pc := 24) G dJ7_append_3_24 rfl rfl ?_
  refine ax_getf (pc := 25) (v := .ref e1) G flJ7_15_18 dJ7_append_3_25 (g36) rfl ?_
  refine ax_aload_n (pc := 28) G dJ7_append_3_28 rfl rfl ?_
  refine ax_dup (pc := 29) G dJ7_append_3_29 rfl ?_
  refine ax_getf (pc := 30) (v := .int (nI n)) G flJ7_79_18 dJ7_append_3_30 (g36) rfl ?_
  refine ax_dup_x1 (pc := 33) G dJ7_append_3_33 rfl rfl ?_
  refine ax_iconst (pc := 34) (v := nI 1) G dJ7_append_3_34 ic_1 ?_
  refine ax_iaddN (pc := 35) G dJ7_append_3_35 ?_
  refine ax_putf (pc := 36) G flJ7_79_18 dJ7_append_3_36 (g36) (by omega) (Nat.le_of_ble_eq_true rfl) rfl rfl ?_
  refine ax_hvS w36 (by omega) (fun h37 g37 f37 z37 w37 => ?_)
  replace g37 : h37.1 B = some (.inr (18, [.ref e1, .int (nI 0), .int ml, .int (nI (n + 1))])) := g37
  refine ax_iload_n (pc := 39) G dJ7_append_3_39 rfl rfl ?_
  refine ax_i2b (pc := 40) G dJ7_append_3_40 rfl ?_
  refine ax_bastore (pc := 41) G n dJ7_append_3_41 ((f37 _ (by omega)).trans (k36)) (hb1) rfl (by omega) (by omega) ?_
  refine ax_hvS w37 (by omega) (fun h38 g38 f38 z38 w38 => ?_)
  refine ax_goto (pc := 42) (tgt := 75) G dJ7_append_3_42 rfl ?_
  refine ax_aload_n (pc := 75) G dJ7_append_3_75 rfl rfl ?_
  exact ax_aretP (pc := 76) G E rfl (Or.inl ⟨_, rfl⟩) (Or.inr ⟨_, rfl⟩) dJ7_append_3_76 (⟨_, rfl, rfl, e1, ⟨m1, ml, _, (f38 _ (by omega)).trans (g37), g38, M1, by omega, sB_put2 F1 hc, sB_put1 hLat A1 hc⟩, by omega, fun q a1 a2 a3 => (f38 _ (by omega)).trans ((f37 _ (by omega)).trans ((f36 _ (by omega) (by omega)))), w38⟩)

theorem ct_sgetBytes {Ω : ax_O} (hA : ax_Amb Ω) {h : ax_H} (wf : ax_wf h) (hz : Ω.2.1.heap.size ≤ h.2) {w e2 n2 : Nat} {hs hz2 : Int32} {b : Nat → Int32} (hW : h.1 w = some (.inr (19, [.ref e2, .int (nI 0), .int hs, .int hz2]))) (hE2 : h.1 e2 = some (.inl (.byte, n2, .inl b))) (hf2 : sb_Fit b) (hn2 : n2 ≤ 10) {e m n : Nat} {a : Nat → Int32} (hE : h.1 e = some (.inl (.byte, m, .inl a))) (hbe : Ω.2.1.heap.size ≤ e) (hm : m ≤ 70) (hnm : n + n2 ≤ m) (hne : e2 ≠ e)  : ax_MetP Ω yJ9_getBytes 2 0 0 [.ref w, .ref e, .int (nI n), .int (nI 0)] h (ax_Nm (fun v h' => v = none ∧ h'.1 e = some (.inl (.byte, m, .inl (va_cpy b a 0 n n2))) ∧ (∀ q, q ≠ e → h'.1 q = h.1 q) ∧ h'.2 = h.2 ∧ ax_wf h')) := by
  refine ax_metP q416 q129 (by decide +kernel) (by decide) hA (Nat.le_of_ble_eq_true rfl) (fun Γ G E => ?_)
  have hlw := wf.lt hW
  have hle2 := wf.lt hE2
  have hwe2 : w ≠ e2 := fun z => by rw [z, hE2] at hW; cases hW
  have hle := wf.lt hE
  have hwe : w ≠ e := fun z => by rw [z, hE] at hW; cases hW
  show ax_W Ω Γ 0 0 h 0 [some (.ref w), some (.ref e), some (.int (nI n)), some (.int (nI 0))] []
  refine ax_aload_n (pc := 0) G dJ9_getBytes_0 rfl rfl ?_
  refine ax_cV1 (pc := 1) (kb := 0) (nb := 0) G (ct_scoder hA (hW)) lVJ9_335_19 dJ9_getBytes_1 (hW) rfl (by decide) (Nat.le_of_ble_eq_true rfl) rfl ?_
  refine ax_iload_n (pc := 4) G dJ9_getBytes_4 rfl rfl ?_
  refine ax_icmp_ne (pc := 5) (tgt := 28) G dJ9_getBytes_5 rfl (fun c9 => absurd c9 (by decide)) (fun _ => ?_)
  refine ax_aload_n (pc := 8) G dJ9_getBytes_8 rfl rfl ?_
  refine ax_getf (pc := 9) (v := .ref e2) G flJ9_9_19 dJ9_getBytes_9 (hW) rfl ?_
  refine ax_iconst (pc := 12) (v := nI 0) G dJ9_getBytes_12 ic_0 ?_
  refine ax_aload_n (pc := 13) G dJ9_getBytes_13 rfl rfl ?_
  refine ax_iload_n (pc := 14) G dJ9_getBytes_14 rfl rfl ?_
  refine ax_iload_n (pc := 15) G dJ9_getBytes_15 rfl rfl ?_
  refine ax_ishl (pc := 16) G dJ9_getBytes_16 ?_
  refine ax_top (show Value.int ((nI n) <<< ((nI 0) &&& 31)) = .int (nI n) from congrArg Value.int (sb_shl0 _)) ?_
  refine ax_aload_n (pc := 17) G dJ9_getBytes_17 rfl rfl ?_
  refine ax_getf (pc := 18) (v := .ref e2) G flJ9_9_19 dJ9_getBytes_18 (hW) rfl ?_
  refine ax_alen (pc := 21) (v := nI n2) G dJ9_getBytes_21 (hE2) rfl ?_
  refine ax_copyi (pc := 22) G q417 q344 q343 q134 (hE2) (hE) (by omega) rfl (by omega) (by omega) (by omega) (fun i hi => hf2 _) (by decide) (Nat.le_of_ble_eq_true rfl) dJ9_getBytes_22 ?_
  refine ax_hvS wf (by omega) (fun h39 g39 f39 z39 w39 => ?_)
  refine ax_goto (pc := 25) (tgt := 43) G dJ9_getBytes_25 rfl ?_
  exact ax_vretP (pc := 43) G E rfl dJ9_getBytes_43 (⟨_, rfl, rfl, g39, fun q a1 => (f39 _ (by omega)), by omega, w39⟩)

theorem ct_binfl {Ω : ax_O} (hA : ax_Amb Ω) {h : ax_H} {B e m n : Nat} {ml : Int32} {a : Nat → Int32} (hB : h.1 B = some (.inr (18, [.ref e, .int (nI 0), .int ml, .int (nI n)]))) (hE : h.1 e = some (.inl (.byte, m, .inl a))) {w e2 n2 : Nat} {hs hz2 : Int32} {b : Nat → Int32} (hW : h.1 w = some (.inr (19, [.ref e2, .int (nI 0), .int hs, .int hz2])))  : ax_Met Ω yJ7_inflateIfNeededFor 1 0 0 [.ref B, .ref w] h (.inl none) h := by
  refine ax_met q392 q127 (by decide +kernel) (by decide) hA (Nat.le_of_ble_eq_true rfl) (fun Γ G E => ?_)
  show ax_W Ω Γ 0 0 h 0 [some (.ref B), some (.ref w)] []
  refine ax_getsZ (pc := 0) G (zCS hA) q275 dJ7_inflateIfNeededFor_0 ?_
  show ax_W Ω Γ _ _ _ _ _ (.int (nI 1) :: _)
  refine ax_if_eq (pc := 3) (tgt := 21) G dJ7_inflateIfNeededFor_3 rfl (fun c9 => absurd c9 (by decide)) (fun _ => ?_)
  refine ax_aload_n (pc := 6) G dJ7_inflateIfNeededFor_6 rfl rfl ?_
  refine ax_getf (pc := 7) (v := .int (nI 0)) G flJ7_22_18 dJ7_inflateIfNeededFor_7 (hB) rfl ?_
  refine ax_aload_n (pc := 10) G dJ7_inflateIfNeededFor_10 rfl rfl ?_
  refine ax_cV1 (pc := 11) (kb := 0) (nb := 0) G (ct_scoder hA (hW)) lVJ7_40_19 dJ7_inflateIfNeededFor_11 (hW) rfl (by decide) (Nat.le_of_ble_eq_true rfl) rfl ?_
  refine ax_icmp_eq (pc := 14) (tgt := 21) G dJ7_inflateIfNeededFor_14 rfl (fun _ => ?_) (fun c9 => absurd (by decide) c9)
  exact ax_vretE (pc := 21) G E rfl dJ7_inflateIfNeededFor_21 (rfl)

theorem ct_bputStr {Ω : ax_O} (hA : ax_Amb Ω) {h : ax_H} (wf : ax_wf h) (hz : Ω.2.1.heap.size ≤ h.2) {B e m n : Nat} {ml : Int32} {a : Nat → Int32} (hB : h.1 B = some (.inr (18, [.ref e, .int (nI 0), .int ml, .int (nI n)]))) (hE : h.1 e = some (.inl (.byte, m, .inl a))) (hbB : Ω.2.1.heap.size ≤ B) (hbe : Ω.2.1.heap.size ≤ e) {w e2 n2 : Nat} {hs hz2 : Int32} {b : Nat → Int32} (hW : h.1 w = some (.inr (19, [.ref e2, .int (nI 0), .int hs, .int hz2]))) (hE2 : h.1 e2 = some (.inl (.byte, n2, .inl b))) (hf2 : sb_Fit b) (hn2 : n2 ≤ 10) (hm : m ≤ 70) (hnm : n + n2 ≤ m) (hne : e2 ≠ e)  : ax_MetP Ω yJ7_putStringAt 3 0 0 [.ref B, .int (nI n), .ref w] h (ax_Nm (fun v h' => v = none ∧ h'.1 e = some (.inl (.byte, m, .inl (va_cpy b a 0 n n2))) ∧ (∀ q, q ≠ e → h'.1 q = h.1 q) ∧ h'.2 = h.2 ∧ ax_wf h')) := by
  refine ax_metP q388 q127 (by decide +kernel) (by decide) hA (Nat.le_of_ble_eq_true rfl) (fun Γ G E => ?_)
  have hlB := wf.lt hB
  have hle := wf.lt hE
  have hBe : B ≠ e := fun z => by rw [z, hE] at hB; cases hB
  have hlw := wf.lt hW
  have hle2 := wf.lt hE2
  have hwe2 : w ≠ e2 := fun z => by rw [z, hE2] at hW; cases hW
  have hwB : w ≠ B := fun z => by rw [z, hB] at hW; cases hW
  have hwe : w ≠ e := fun z => by rw [z, hE] at hW; cases hW
  have hBe2 : B ≠ e2 := fun z => by rw [z, hE2] at hB; cases hB
  show ax_W Ω Γ 0 0 h 0 [some (.ref B), some (.int (nI n)), some (.ref w)] []
  refine ax_aload_n (pc := 0) G dJ7_putStringAt_0 rfl rfl ?_
  refine ax_aload_n (pc := 1) G dJ7_putStringAt_1 rfl rfl ?_
  refine ax_cVP0 (pc := 2) (kb := 0) (nb := 0) G (ct_binfl hA (n2 := n2) (b := b) (hB) (hE) (hW)) lVPJ7_397_18 dJ7_putStringAt_2 (hB) rfl (by decide) (Nat.le_of_ble_eq_true rfl) rfl ?_
  refine ax_aload_n (pc := 5) G dJ7_putStringAt_5 rfl rfl ?_
  refine ax_aload_n (pc := 6) G dJ7_putStringAt_6 rfl rfl ?_
  refine ax_getf (pc := 7) (v := .ref e) G flJ7_15_18 dJ7_putStringAt_7 (hB) rfl ?_
  refine ax_iload_n (pc := 10) G dJ7_putStringAt_10 rfl rfl ?_
  refine ax_aload_n (pc := 11) G dJ7_putStringAt_11 rfl rfl ?_
  refine ax_getf (pc := 12) (v := .int (nI 0)) G flJ7_22_18 dJ7_putStringAt_12 (hB) rfl ?_
  refine ax_nV (pc := 15) (kb := 0) (nb := 0) G (ct_sgetBytes hA wf (by omega) (hW) (hE2) hf2 hn2 (hE) (by omega) (by omega) (by omega) (hne)) lVJ7_399_19 dJ7_putStringAt_15 (hW) rfl (by decide) (Nat.le_of_ble_eq_true rfl) rfl (fun v40 h40 q9 => ?_)
  obtain ⟨rfl, g40, f40, z40, w40⟩ := q9
  show ax_W Ω Γ _ _ (h40) _ _ (_)
  exact ax_vretP (pc := 18) G E rfl dJ7_putStringAt_18 (⟨_, rfl, rfl, g40, fun q a1 => (f40 _ (by omega)), by omega, w40⟩)

theorem sB_putS {t s : Nat → Nat} {n n2 : Nat} {a a1 b : Nat → Int32} (hL : sb_Lat t n a) (h1 : ∀ j, j < n → a1 j = a j) (hs : sb_Lat s n2 b) : sb_Lat (sb_cat t n s) (n + n2) (va_cpy b a1 0 n n2) := by
  refine sb_latPut hL (fun j hj => ?_) (fun i hi => ⟨(hs i hi).1, ?_⟩)
  · unfold va_cpy; rw [if_neg (by omega)]; exact h1 j hj
  · unfold va_cpy; rw [if_pos ⟨by omega, by omega⟩, show 0 + (n + i - n) = i from by omega]; exact (hs i hi).2
theorem ct_bappS {Ω : ax_O} (hA : ax_Amb Ω) {h : ax_H} (wf : ax_wf h) (hz : Ω.2.1.heap.size ≤ h.2) {B e n : Nat} {t : Nat → Nat} (hS : sB h B e n t) (hbB : Ω.2.1.heap.size ≤ B) (hbe : Ω.2.1.heap.size ≤ e) {w e2 n2 : Nat} {hs hz2 : Int32} {b : Nat → Int32} {s : Nat → Nat} (hW : h.1 w = some (.inr (19, [.ref e2, .int (nI 0), .int hs, .int hz2]))) (hE2 : h.1 e2 = some (.inl (.byte, n2, .inl b))) (hL2 : sb_Lat s n2 b) (hf2 : sb_Fit b) (hn2 : n2 ≤ 10) (hne : e2 ≠ e) (hn : n ≤ 50) : ax_MetP Ω yJ7_append 5 1 200 [.ref B, .ref w] h (ax_Nm (fun v h' => v = some (.ref B) ∧ cApp h h' B e (n + n2) (sb_cat t n s))) := by
  refine ax_metP q305 q127 (by decide +kernel) (by decide) hA (Nat.le_of_ble_eq_true rfl) (fun Γ G E => ?_)
  obtain ⟨m, ml, a, hB, hE, hm, hnm, hf, hLat⟩ := hS
  have hlB := wf.lt hB
  have hle := wf.lt hE
  have hBe : B ≠ e := fun z => by rw [z, hE] at hB; cases hB
  have hlw := wf.lt hW
  have hle2 := wf.lt hE2
  have hwe2 : w ≠ e2 := fun z => by rw [z, hE2] at hW; cases hW
  have hwB : w ≠ B := fun z => by rw [z, hB] at hW; cases hW
  have hwe : w ≠ e := fun z => by rw [z, hE] at hW; cases hW
  have hBe2 : B ≠ e2 := fun z => by rw [z, hE2] at hB; cases hB
  show ax_W Ω Γ 1 200 h 0 [some (.ref B), some (.ref w), none] []
  refine ax_aload_n (pc := 0) G dJ7_append_0 rfl rfl ?_
  refine ax_ifnonnull (pc := 1) (tgt := 9) G dJ7_append_1 rfl ?_
  refine ax_aload_n (pc := 9) G dJ7_append_9 rfl rfl ?_
  refine ax_cV1 (pc := 10) (kb := 1) (nb := 200) G (ct_slen hA (hW) (hE2) (by omega)) lVJ7_32_19 dJ7_append_10 (hW) rfl (by decide) (Nat.le_of_ble_eq_true rfl) rfl ?_
  refine ax_istore_n (pc := 13) G dJ7_append_13 rfl (Nat.le_of_ble_eq_true rfl) rfl ?_
  refine ax_aload_n (pc := 14) G dJ7_append_14 rfl rfl ?_
  refine ax_aload_n (pc := 15) G dJ7_append_15 rfl rfl ?_
  refine ax_getf (pc := 16) (v := .int (nI n)) G flJ7_79_18 dJ7_append_16 (hB) rfl ?_
  refine ax_iload_n (pc := 19) G dJ7_append_19 rfl rfl ?_
  refine ax_iaddN (pc := 20) G dJ7_append_20 ?_
  refine ax_nVP (pc := 21) (kb := 0) (nb := 0) G (ct_bens hA wf (by omega) (hB) (hE) hbB hbe hm hnm hf (n + n2) (by omega) (by omega)) lVPJ7_100_18 dJ7_append_21 (hB) rfl (by decide) (Nat.le_of_ble_eq_true rfl) rfl (fun v41 h41 q9 => ?_)
  obtain ⟨rfl, e1, m1, a1, g41, k41, M1, M2, M3, F1, A1, O1, f41, w41⟩ := q9
  have hb1 : Ω.2.1.heap.size ≤ e1 := by omega
  have hB1 : B ≠ e1 := fun z => by rw [z, k41] at g41; cases g41
  have hl1 := w41.lt k41
  have hlB1 := w41.lt g41
  have hz1 : h.2 ≤ h41.2 := by omega
  have hne1 : e2 ≠ e1 := by omega
  have hw1 : w ≠ e1 := fun z => by have q := hlw; rcases O1 with ⟨y, _⟩ | ⟨y, _⟩ <;> omega
  show ax_W Ω Γ _ _ (h41) _ _ (_)
  refine ax_aload_n (pc := 24) G dJ7_append_24 rfl rfl ?_
  refine ax_aload_n (pc := 25) G dJ7_append_25 rfl rfl ?_
  refine ax_getf (pc := 26) (v := .int (nI n)) G flJ7_79_18 dJ7_append_26 (g41) rfl ?_
  refine ax_aload_n (pc := 29) G dJ7_append_29 rfl rfl ?_
  refine ax_nVP (pc := 30) (kb := 0) (nb := 0) G (ct_bputStr hA w41 (by omega) (g41) (k41) hbB (hb1) ((f41 _ (by omega) (by omega)).trans (hW)) ((f41 _ (by omega) (by omega)).trans (hE2)) hf2 hn2 (by omega) (by omega) (hne1)) lVPJ7_208_18 dJ7_append_30 (g41) rfl (by decide) (Nat.le_of_ble_eq_true rfl) rfl (fun v42 h42 q9 => ?_)
  obtain ⟨rfl, g42, f42, z42, w42⟩ := q9
  show ax_W Ω Γ _ _ (h42) _ _ (_)
  refine ax_aload_n (pc := 33) G dJ7_append_33 rfl rfl ?_
  refine ax_dup (pc := 34) G dJ7_append_34 rfl ?_
  refine ax_getf (pc := 35) (v := .int (nI n)) G flJ7_79_18 dJ7_append_35 ((f42 _ (by omega)).trans (g41)) rfl ?_
  refine ax_iload_n (pc := 38) G dJ7_append_38 rfl rfl ?_
  refine ax_iaddN (pc := 39) G dJ7_append_39 ?_
  refine ax_putf (pc := 40) G flJ7_79_18 dJ7_append_40 ((f42 _ (by omega)).trans (g41)) (by omega) (Nat.le_of_ble_eq_true rfl) rfl rfl ?_
  refine ax_hvS w42 (by omega) (fun h43 g43 f43 z43 w43 => ?_)
  replace g43 : h43.1 B = some (.inr (18, [.ref e1, .int (nI 0), .int ml, .int (nI (n + n2))])) := g43
  refine ax_aload_n (pc := 43) G dJ7_append_43 rfl rfl ?_
  exact ax_aretP (pc := 44) G E rfl (Or.inl ⟨_, rfl⟩) (Or.inr ⟨_, rfl⟩) dJ7_append_44 (⟨_, rfl, rfl, e1, ⟨m1, ml, _, g43, (f43 _ (by omega)).trans (g42), M1, by omega, sb_fitC hf2 F1, sB_putS hLat A1 hL2⟩, by omega, fun q a1 a2 a3 => (f43 _ (by omega)).trans ((f42 _ (by omega)).trans ((f41 _ (by omega) (by omega)))), w43⟩)

theorem ct_bapp8C {Ω : ax_O} (hA : ax_Amb Ω) {h : ax_H} (wf : ax_wf h) (hz : Ω.2.1.heap.size ≤ h.2) {B e n : Nat} {t : Nat → Nat} (hS : sB h B e n t) (hbB : Ω.2.1.heap.size ≤ B) (hbe : Ω.2.1.heap.size ≤ e) (c : Nat) (hc : c < 256) (hn : n < 60) : ax_MetP Ω yJ8_append_3 6 1 200 [.ref B, .int (nI c)] h (ax_Nm (fun v h' => v = some (.ref B) ∧ cApp h h' B e (n + 1) (sb_cat t n (fun _ => c)))) := by
  refine ax_metP q1005 q128 (by decide +kernel) (by decide) hA (Nat.le_of_ble_eq_true rfl) (fun Γ G E => ?_)
  have hS0 := hS
  obtain ⟨m, ml, a, hB, hE, hm, hnm, hf, hLat⟩ := hS
  have hlB := wf.lt hB
  have hle := wf.lt hE
  have hBe : B ≠ e := fun z => by rw [z, hE] at hB; cases hB
  show ax_W Ω Γ 1 200 h 0 [some (.ref B), some (.int (nI c))] []
  refine ax_aload_n (pc := 0) G dJ8_append_3_0 rfl rfl ?_
  refine ax_iload_n (pc := 1) G dJ8_append_3_1 rfl rfl ?_
  refine ax_nSU (pc := 2) (kb := 0) (nb := 0) G (ct_bappC hA wf (by omega) hS0 hbB hbe c (by omega) hn) lSUJ8_50 dJ8_append_3_2 (hB) rfl rfl (by decide) (Nat.le_of_ble_eq_true rfl) rfl (fun v44 h44 q9 => ?_)
  obtain ⟨rfl, p44⟩ := q9
  show ax_W Ω Γ _ _ (h44) _ _ (.ref B :: _)
  refine ax_pop (pc := 5) G dJ8_append_3_5 rfl ?_
  refine ax_aload_n (pc := 6) G dJ8_append_3_6 rfl rfl ?_
  exact ax_aretP (pc := 7) G E rfl (Or.inl ⟨_, rfl⟩) (Or.inr ⟨_, rfl⟩) dJ8_append_3_7 (⟨_, rfl, rfl, p44⟩)

theorem ct_bapp8S {Ω : ax_O} (hA : ax_Amb Ω) {h : ax_H} (wf : ax_wf h) (hz : Ω.2.1.heap.size ≤ h.2) {B e n : Nat} {t : Nat → Nat} (hS : sB h B e n t) (hbB : Ω.2.1.heap.size ≤ B) (hbe : Ω.2.1.heap.size ≤ e) {w e2 n2 : Nat} {hs hz2 : Int32} {b : Nat → Int32} {s : Nat → Nat} (hW : h.1 w = some (.inr (19, [.ref e2, .int (nI 0), .int hs, .int hz2]))) (hE2 : h.1 e2 = some (.inl (.byte, n2, .inl b))) (hL2 : sb_Lat s n2 b) (hf2 : sb_Fit b) (hn2 : n2 ≤ 10) (hne : e2 ≠ e) (hn : n ≤ 50) : ax_MetP Ω yJ8_append 6 1 200 [.ref B, .ref w] h (ax_Nm (fun v h' => v = some (.ref B) ∧ cApp h h' B e (n + n2) (sb_cat t n s))) := by
  refine ax_metP q302 q128 (by decide +kernel) (by decide) hA (Nat.le_of_ble_eq_true rfl) (fun Γ G E => ?_)
  have hS0 := hS
  obtain ⟨m, ml, a, hB, hE, hm, hnm, hf, hLat⟩ := hS
  have hlB := wf.lt hB
  have hle := wf.lt hE
  have hBe : B ≠ e := fun z => by rw [z, hE] at hB; cases hB
  have hlw := wf.lt hW
  have hle2 := wf.lt hE2
  have hwe2 : w ≠ e2 := fun z => by rw [z, hE2] at hW; cases hW
  have hwB : w ≠ B := fun z => by rw [z, hB] at hW; cases hW
  have hwe : w ≠ e := fun z => by rw [z, hE] at hW; cases hW
  have hBe2 : B ≠ e2 := fun z => by rw [z, hE2] at hB; cases hB
  show ax_W Ω Γ 1 200 h 0 [some (.ref B), some (.ref w)] []
  refine ax_aload_n (pc := 0) G dJ8_append_0 rfl rfl ?_
  refine ax_aload_n (pc := 1) G dJ8_append_1 rfl rfl ?_
  refine ax_nSU (pc := 2) (kb := 0) (nb := 0) G (ct_bappS hA wf (by omega) hS0 hbB hbe (hW) (hE2) hL2 hf2 hn2 hne hn) lSUJ8_29 dJ8_append_2 (hB) rfl rfl (by decide) (Nat.le_of_ble_eq_true rfl) rfl (fun v45 h45 q9 => ?_)
  obtain ⟨rfl, p45⟩ := q9
  show ax_W Ω Γ _ _ (h45) _ _ (.ref B :: _)
  refine ax_pop (pc := 5) G dJ8_append_5 rfl ?_
  refine ax_aload_n (pc := 6) G dJ8_append_6 rfl rfl ?_
  exact ax_aretP (pc := 7) G E rfl (Or.inl ⟨_, rfl⟩) (Or.inr ⟨_, rfl⟩) dJ8_append_7 (⟨_, rfl, rfl, p45⟩)

theorem ct_bapp8S5 {Ω : ax_O} (hA : ax_Amb Ω) {h : ax_H} (wf : ax_wf h) (hz : Ω.2.1.heap.size ≤ h.2) {B e n : Nat} {t : Nat → Nat} (hS : sB h B e n t) (hbB : Ω.2.1.heap.size ≤ B) (hbe : Ω.2.1.heap.size ≤ e) {w e2 n2 : Nat} {hs hz2 : Int32} {b : Nat → Int32} {s : Nat → Nat} (hW : h.1 w = some (.inr (19, [.ref e2, .int (nI 0), .int hs, .int hz2]))) (hE2 : h.1 e2 = some (.inl (.byte, n2, .inl b))) (hL2 : sb_Lat s n2 b) (hf2 : sb_Fit b) (hn2 : n2 ≤ 10) (hne : e2 ≠ e) (hn : n ≤ 50) : ax_MetP Ω yJ8_append_5 7 1 200 [.ref B, .ref w] h (ax_Nm (fun v h' => v = some (.ref B) ∧ cApp h h' B e (n + n2) (sb_cat t n s))) := by
  refine ax_metP q2272 q128 (by decide +kernel) (by decide) hA (Nat.le_of_ble_eq_true rfl) (fun Γ G E => ?_)
  have hS0 := hS
  obtain ⟨m, ml, a, hB, hE, hm, hnm, hf, hLat⟩ := hS
  have hlB := wf.lt hB
  have hle := wf.lt hE
  have hBe : B ≠ e := fun z => by rw [z, hE] at hB; cases hB
  have hlw := wf.lt hW
  have hle2 := wf.lt hE2
  have hwe2 : w ≠ e2 := fun z => by rw [z, hE2] at hW; cases hW
  have hwB : w ≠ B := fun z => by rw [z, hB] at hW; cases hW
  have hwe : w ≠ e := fun z => by rw [z, hE] at hW; cases hW
  have hBe2 : B ≠ e2 := fun z => by rw [z, hE2] at hB; cases hB
  show ax_W Ω Γ 1 200 h 0 [some (.ref B), some (.ref w)] []
  refine ax_aload_n (pc := 0) G dJ8_append_5_0 rfl rfl ?_
  refine ax_aload_n (pc := 1) G dJ8_append_5_1 rfl rfl ?_
  refine ax_nV (pc := 2) (kb := 0) (nb := 0) G (ct_bapp8S hA wf (by omega) hS0 hbB hbe (hW) (hE2) hL2 hf2 hn2 hne hn) lVJ8_23_18 dJ8_append_5_2 (hB) rfl (by decide) (Nat.le_of_ble_eq_true rfl) rfl (fun v46 h46 q9 => ?_)
  obtain ⟨rfl, p46⟩ := q9
  show ax_W Ω Γ _ _ (h46) _ _ (.ref B :: _)
  exact ax_aretP (pc := 5) G E rfl (Or.inl ⟨_, rfl⟩) (Or.inr ⟨_, rfl⟩) dJ8_append_5_5 (⟨_, rfl, rfl, p46⟩)

theorem ct_bappQ {Ω : ax_O} (hA : ax_Amb Ω) {h : ax_H} (wf : ax_wf h) (hz : Ω.2.1.heap.size ≤ h.2) {B e n : Nat} {t : Nat → Nat} (hS : sB h B e n t) (hbB : Ω.2.1.heap.size ≤ B) (hbe : Ω.2.1.heap.size ≤ e) {w e2 n2 : Nat} {hs hz2 : Int32} {b : Nat → Int32} {s : Nat → Nat} (hW : h.1 w = some (.inr (19, [.ref e2, .int (nI 0), .int hs, .int hz2]))) (hE2 : h.1 e2 = some (.inl (.byte, n2, .inl b))) (hL2 : sb_Lat s n2 b) (hf2 : sb_Fit b) (hn2 : n2 ≤ 10) (hne : e2 ≠ e) (hn : n ≤ 50) : ax_MetP Ω yJ7_append_4 8 1 200 [.ref B, .ref w] h (ax_Nm (fun v h' => v = some (.ref B) ∧ cApp h h' B e (n + n2) (sb_cat t n s))) := by
  refine ax_metP q2268 q127 (by decide +kernel) (by decide) hA (Nat.le_of_ble_eq_true rfl) (fun Γ G E => ?_)
  have hS0 := hS
  obtain ⟨m, ml, a, hB, hE, hm, hnm, hf, hLat⟩ := hS
  have hlB := wf.lt hB
  have hle := wf.lt hE
  have hBe : B ≠ e := fun z => by rw [z, hE] at hB; cases hB
  have hlw := wf.lt hW
  have hle2 := wf.lt hE2
  have hwe2 : w ≠ e2 := fun z => by rw [z, hE2] at hW; cases hW
  have hwB : w ≠ B := fun z => by rw [z, hB] at hW; cases hW
  have hwe : w ≠ e := fun z => by rw [z, hE] at hW; cases hW
  have hBe2 : B ≠ e2 := fun z => by rw [z, hE2] at hB; cases hB
  show ax_W Ω Γ 1 200 h 0 [some (.ref B), some (.ref w)] []
  refine ax_aload_n (pc := 0) G dJ7_append_4_0 rfl rfl ?_
  refine ax_ifnonnull (pc := 1) (tgt := 9) G dJ7_append_4_1 rfl ?_
  refine ax_aload_n (pc := 9) G dJ7_append_4_9 rfl rfl ?_
  refine ax_instY (pc := 10) G q2269 ⟨_, rfl, Or.inl rfl⟩ dJ7_append_4_10 (hW) ?_
  show ax_W Ω Γ _ _ _ _ _ (.int (nI 1) :: _)
  refine ax_if_eq (pc := 13) (tgt := 25) G dJ7_append_4_13 rfl (fun c9 => absurd c9 (by decide)) (fun _ => ?_)
  refine ax_aload_n (pc := 16) G dJ7_append_4_16 rfl rfl ?_
  refine ax_aload_n (pc := 17) G dJ7_append_4_17 rfl rfl ?_
  refine ax_checkcast (pc := 18) G q2269 ⟨_, rfl, Or.inl rfl⟩ dJ7_append_4_18 (hW) ?_
  refine ax_nVU (pc := 21) (kb := 0) (nb := 0) G (ct_bapp8S5 hA wf (by omega) hS0 hbB hbe (hW) (hE2) hL2 hf2 hn2 hne hn) lVUJ7_43_18 dJ7_append_4_21 (hB) rfl (by decide) (Nat.le_of_ble_eq_true rfl) rfl (fun v47 h47 q9 => ?_)
  obtain ⟨rfl, p47⟩ := q9
  show ax_W Ω Γ _ _ (h47) _ _ (.ref B :: _)
  exact ax_aretP (pc := 24) G E rfl (Or.inl ⟨_, rfl⟩) (Or.inr ⟨_, rfl⟩) dJ7_append_4_24 (⟨_, rfl, rfl, p47⟩)

theorem ct_bapp8Q {Ω : ax_O} (hA : ax_Amb Ω) {h : ax_H} (wf : ax_wf h) (hz : Ω.2.1.heap.size ≤ h.2) {B e n : Nat} {t : Nat → Nat} (hS : sB h B e n t) (hbB : Ω.2.1.heap.size ≤ B) (hbe : Ω.2.1.heap.size ≤ e) {w e2 n2 : Nat} {hs hz2 : Int32} {b : Nat → Int32} {s : Nat → Nat} (hW : h.1 w = some (.inr (19, [.ref e2, .int (nI 0), .int hs, .int hz2]))) (hE2 : h.1 e2 = some (.inl (.byte, n2, .inl b))) (hL2 : sb_Lat s n2 b) (hf2 : sb_Fit b) (hn2 : n2 ≤ 10) (hne : e2 ≠ e) (hn : n ≤ 50) : ax_MetP Ω yJ8_append_4 9 1 200 [.ref B, .ref w] h (ax_Nm (fun v h' => v = some (.ref B) ∧ cApp h h' B e (n + n2) (sb_cat t n s))) := by
  refine ax_metP q2265 q128 (by decide +kernel) (by decide) hA (Nat.le_of_ble_eq_true rfl) (fun Γ G E => ?_)
  have hS0 := hS
  obtain ⟨m, ml, a, hB, hE, hm, hnm, hf, hLat⟩ := hS
  have hlB := wf.lt hB
  have hle := wf.lt hE
  have hBe : B ≠ e := fun z => by rw [z, hE] at hB; cases hB
  have hlw := wf.lt hW
  have hle2 := wf.lt hE2
  have hwe2 : w ≠ e2 := fun z => by rw [z, hE2] at hW; cases hW
  have hwB : w ≠ B := fun z => by rw [z, hB] at hW; cases hW
  have hwe : w ≠ e := fun z => by rw [z, hE] at hW; cases hW
  have hBe2 : B ≠ e2 := fun z => by rw [z, hE2] at hB; cases hB
  show ax_W Ω Γ 1 200 h 0 [some (.ref B), some (.ref w)] []
  refine ax_aload_n (pc := 0) G dJ8_append_4_0 rfl rfl ?_
  refine ax_aload_n (pc := 1) G dJ8_append_4_1 rfl rfl ?_
  refine ax_nSU (pc := 2) (kb := 0) (nb := 0) G (ct_bappQ hA wf (by omega) hS0 hbB hbe (hW) (hE2) hL2 hf2 hn2 hne hn) lSUJ8_35 dJ8_append_4_2 (hB) rfl rfl (by decide) (Nat.le_of_ble_eq_true rfl) rfl (fun v48 h48 q9 => ?_)
  obtain ⟨rfl, p48⟩ := q9
  show ax_W Ω Γ _ _ (h48) _ _ (.ref B :: _)
  refine ax_pop (pc := 5) G dJ8_append_4_5 rfl ?_
  refine ax_aload_n (pc := 6) G dJ8_append_4_6 rfl rfl ?_
  exact ax_aretP (pc := 7) G E rfl (Or.inl ⟨_, rfl⟩) (Or.inr ⟨_, rfl⟩) dJ8_append_4_7 (⟨_, rfl, rfl, p48⟩)

