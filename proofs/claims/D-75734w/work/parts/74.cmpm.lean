/-! THE LIBRARY: toString, hashes -/
/-- a string of n letters t -/
def sStr (h : ax_H) (w n : Nat) (t : Nat → Nat) : Prop := ∃ (e : Nat) (hs hz : Int32) (b : Nat → Int32), h.1 w = some (.inr (19, [.ref e, .int (nI 0), .int hs, .int hz])) ∧ h.1 e = some (.inl (.byte, n, .inl b)) ∧ sb_Fit b ∧ sb_Lat t n b
theorem ct_btoStr {Ω : ax_O} (hA : ax_Amb Ω) {h : ax_H} (wf : ax_wf h) (hz : Ω.2.1.heap.size ≤ h.2) {B e n : Nat} {t : Nat → Nat} (hS : sB h B e n t) (hn : n < 16)  : ax_MetP Ω yJ8_toString 6 2 74 [.ref B] h (ax_Nm (fun v h' => v = some (.ref h.2) ∧ h'.1 h.2 = some (.inr (19, [.ref (h.2 + 1), .int (nI 0), .int (nI 0), .int (nI 0)])) ∧ (∃ a', h'.1 (h.2 + 1) = some (.inl (.byte, n, .inl a')) ∧ sb_Fit a' ∧ sb_Lat t n a') ∧ (∀ q, q < h.2 → h'.1 q = h.1 q) ∧ h'.2 = h.2 + 2 ∧ ax_wf h')) := by
  refine ax_metP q447 q128 (by decide +kernel) (by decide) hA (Nat.le_of_ble_eq_true rfl) (fun Γ G E => ?_)
  obtain ⟨m, ml, a, hB, hE, hm, hnm, hf, hLat⟩ := hS
  have hlB := wf.lt hB
  have hle := wf.lt hE
  show ax_W Ω Γ 2 74 h 0 [some (.ref B)] []
  refine ax_new (pc := 0) (ci := 19) (kb := 1) (nb := 70) G [.null, .int (nI 0), .int (nI 0), .int (nI 0)] dJ8_toString_0 rfl cok_J9 rfl q448 q449 q129 (fun j hj => by match j, hj with | 0, _ => rfl | 1, _ => rfl | 2, _ => rfl | 3, _ => rfl) ?_
  refine ax_hvA wf (fun h79 g79 f79 z79 w79 => ?_)
  refine ax_dup (pc := 3) G dJ8_toString_3 rfl ?_
  refine ax_aload_n (pc := 4) G dJ8_toString_4 rfl rfl ?_
  have hS1 : sB h79 B e n t := ⟨m, ml, a, (f79 _ (by omega)).trans (hB), (f79 _ (by omega)).trans (hE), hm, hnm, hf, hLat⟩
  refine ax_nI (pc := 5) (kb := 0) (nb := 0) G (ct_sinit hA w79 (by omega) hS1 (g79) (by omega) hn) lIJ8_137 dJ8_toString_5 rfl (by decide) (Nat.le_of_ble_eq_true rfl) rfl (fun v80 h80 q9 => ?_)
  obtain ⟨rfl, g80, p80, f80, z80, w80⟩ := q9
  show ax_W Ω Γ _ _ (h80) _ _ (_)
  exact ax_aretP (pc := 8) G E rfl (Or.inl ⟨_, rfl⟩) (Or.inr ⟨_, rfl⟩) dJ8_toString_8 (⟨_, rfl, rfl, by rw [show h.2 + 1 = h79.2 from by omega]; exact g80, by rw [show h.2 + 1 = h79.2 from by omega]; exact p80, fun q a1 => (f80 _ (by omega) (by omega)).trans ((f79 _ (by omega))), by omega, w80⟩)

def sHash (t : Nat → Nat) : Nat → Int32
  | 0 => 0
  | k + 1 => nI 31 * sHash t k + nI (t k)
theorem sHash1 {t : Nat → Nat} : nI (t 0) = sHash t 1 := by
  show nI (t 0) = nI 31 * 0 + nI (t 0)
  rw [Int32.mul_zero, Int32.zero_add]
theorem ct_shash3 {Ω : ax_O} (hA : ax_Amb Ω) {h : ax_H} {e n : Nat} {a : Nat → Int32} {t : Nat → Nat} (hE : h.1 e = some (.inl (.byte, n, .inl a))) (hLat : sb_Lat t n a) (hn : n < 1000)  : ax_Met Ω yJ11_signedHashCode 0 0 0 [.int (nI 0), .ref e, .int (nI 0), .int (nI n)] h (.inl (some (.int (sHash t n)))) h := by
  refine ax_met q1121 q131 (by decide +kernel) (by decide) hA (Nat.le_of_ble_eq_true rfl) (fun Γ G E => ?_)
  show ax_W Ω Γ 0 0 h 0 [some (.int (nI 0)), some (.ref e), some (.int (nI 0)), some (.int (nI n)), none, none] []
  refine ax_iload_n (pc := 0) G dJ11_signedHashCode_0 rfl rfl ?_
  refine ax_iload_n (pc := 1) G dJ11_signedHashCode_1 rfl rfl ?_
  refine ax_iaddN (pc := 2) G dJ11_signedHashCode_2 ?_
  refine ax_istore (pc := 3) G dJ11_signedHashCode_3 (Nat.le_of_ble_eq_true rfl) rfl ?_
  refine ax_iload_n (pc := 5) G dJ11_signedHashCode_5 rfl rfl ?_
  refine ax_istore (pc := 6) G dJ11_signedHashCode_6 (Nat.le_of_ble_eq_true rfl) rfl ?_
  have L0 : ∀ (k9 i : Nat), i + k9 = n → ax_W Ω Γ 0 0 h 8 [some (.int (sHash t i)), some (.ref e), some (.int (nI 0)), some (.int (nI n)), some (.int (nI (0 + n))), some (.int (nI i))] [] := by
    intro k9
    induction k9 with
    | zero =>
      intro i hi
      have hi9 : n = i := by omega
      subst hi9
      refine ax_iload (pc := 8) G dJ11_signedHashCode_8 rfl ?_
      refine ax_iload (pc := 10) G dJ11_signedHashCode_10 rfl ?_
      refine ax_icmp_geN (pc := 12) (tgt := 35) G dJ11_signedHashCode_12 rfl (by omega) (by omega) (fun c12 => ?_) (fun c12 => ?_)
      · refine ax_iload_n (pc := 35) G dJ11_signedHashCode_35 rfl rfl ?_
        exact ax_iretE (pc := 36) G E rfl (rfl) dJ11_signedHashCode_36 (rfl) (rfl)
      · omega
    | succ k9 ih =>
      intro i hi
      refine ax_iload (pc := 8) G dJ11_signedHashCode_8 rfl ?_
      refine ax_iload (pc := 10) G dJ11_signedHashCode_10 rfl ?_
      refine ax_icmp_geN (pc := 12) (tgt := 35) G dJ11_signedHashCode_12 rfl (by omega) (by omega) (fun c12 => ?_) (fun c12 => ?_)
      · omega
      · refine ax_bipush (pc := 15) (v := nI 31) G dJ11_signedHashCode_15 ib_31 ?_
        refine ax_iload_n (pc := 17) G dJ11_signedHashCode_17 rfl rfl ?_
        refine ax_imul (pc := 18) G dJ11_signedHashCode_18 ?_
        refine ax_aload_n (pc := 19) G dJ11_signedHashCode_19 rfl rfl ?_
        refine ax_iload (pc := 20) G dJ11_signedHashCode_20 rfl ?_
        refine ax_baload (pc := 22) G i dJ11_signedHashCode_22 (hE) rfl (by omega) (by omega) ?_
        refine ax_sipush (pc := 23) (v := nI 255) G dJ11_signedHashCode_23 is_255 ?_
        refine ax_iand (pc := 26) G dJ11_signedHashCode_26 ?_
        refine ax_top (show Value.int ((a i) &&& (nI 255)) = .int (nI (t i)) from congrArg Value.int (by rw [(hLat _ (show i < n by omega)).2]; exact (sb_byte _ (hLat _ (show i < n by omega)).1).1)) ?_
        refine ax_iadd (pc := 27) G dJ11_signedHashCode_27 ?_
        refine ax_istore_n (pc := 28) G dJ11_signedHashCode_28 rfl (Nat.le_of_ble_eq_true rfl) rfl ?_
        refine ax_iincN (pc := 29) (n := 1) G dJ11_signedHashCode_29 rfl rfl ic_1 ?_
        refine ax_goto (pc := 32) (tgt := 8) G dJ11_signedHashCode_32 rfl ?_
        exact ih (i + 1) (by omega)
  exact L0 n 0 (by omega)

theorem ct_shash2 {Ω : ax_O} (hA : ax_Amb Ω) {h : ax_H} {e n : Nat} {a : Nat → Int32} {t : Nat → Nat} (hE : h.1 e = some (.inl (.byte, n, .inl a))) (hLat : sb_Lat t n a) (hn : n < 1000) (hbe : Ω.2.1.heap.size ≤ e)  : ax_Met Ω yJ11_vectorizedHashCode 2 0 0 [.ref e, .int (nI 0), .int (nI n), .int (nI 0), .int (nI 4)] h (.inl (some (.int (sHash t n)))) h := by
  refine ax_met q1117 q131 (by decide +kernel) (by decide) hA (Nat.le_of_ble_eq_true rfl) (fun Γ G E => ?_)
  show ax_W Ω Γ 0 0 h 0 [some (.ref e), some (.int (nI 0)), some (.int (nI n)), some (.int (nI 0)), some (.int (nI 4))] []
  refine ax_iload (pc := 0) G dJ11_vectorizedHashCode_0 rfl ?_
  refine ax_tabIn (pc := 2) (tgt := 44) G dJ11_vectorizedHashCode_2 (by decide) (by decide) (by decide) rfl rfl ?_
  refine ax_iload_n (pc := 44) G dJ11_vectorizedHashCode_44 rfl rfl ?_
  refine ax_aload_n (pc := 45) G dJ11_vectorizedHashCode_45 rfl rfl ?_
  refine ax_castNum (pc := 46) G q1118 (Or.inl rfl) rfl hbe dJ11_vectorizedHashCode_46 (hE) ?_
  refine ax_iload_n (pc := 49) G dJ11_vectorizedHashCode_49 rfl rfl ?_
  refine ax_iload_n (pc := 50) G dJ11_vectorizedHashCode_50 rfl rfl ?_
  refine ax_cS1 (pc := 51) (kb := 0) (nb := 0) G (ct_shash3 hA hE hLat hn) lSJ11_62 dJ11_vectorizedHashCode_51 rfl (by decide) (Nat.le_of_ble_eq_true rfl) rfl ?_
  refine ax_goto (pc := 54) (tgt := 157) G dJ11_vectorizedHashCode_54 rfl ?_
  exact ax_iretE (pc := 157) G E rfl (rfl) dJ11_vectorizedHashCode_157 (rfl) (rfl)

theorem ct_shash1 {Ω : ax_O} (hA : ax_Amb Ω) {h : ax_H} {e n : Nat} {a : Nat → Int32} {t : Nat → Nat} (hE : h.1 e = some (.inl (.byte, n, .inl a))) (hLat : sb_Lat t n a) (hn : n < 1000) (hbe : Ω.2.1.heap.size ≤ e)  : ax_Met Ω yJ15_hashCode 3 0 0 [.ref e] h (.inl (some (.int (sHash t n)))) h := by
  refine ax_met q1114 q136 (by decide +kernel) (by decide) hA (Nat.le_of_ble_eq_true rfl) (fun Γ G E => ?_)
  show ax_W Ω Γ 0 0 h 0 [some (.ref e)] []
  refine ax_aload_n (pc := 0) G dJ15_hashCode_0 rfl rfl ?_
  refine ax_alen (pc := 1) (v := nI n) G dJ15_hashCode_1 (hE) rfl ?_
  by_cases k2_0 : nI n = nI 0
  · have k2_0n : n = 0 := (nI_eq (by omega) (by decide)).mp k2_0
    refine ax_lookup (pc := 2) (off := 26) (tgt := 28) G dJ15_hashCode_2 (by decide) (by first | (rw [k2_0]; done) | (rw [k2_0]; decide)) rfl ?_
    refine ax_iconst (pc := 28) (v := nI 0) G dJ15_hashCode_28 ic_0 ?_
    refine ax_goto (pc := 29) (tgt := 51) G dJ15_hashCode_29 rfl ?_
    exact ax_iretE (pc := 51) G E rfl (rfl) dJ15_hashCode_51 (by rw [k2_0n]; rfl) (rfl)
  by_cases k2_1 : nI n = nI 1
  · have k2_1n : n = 1 := (nI_eq (by omega) (by decide)).mp k2_1
    refine ax_lookup (pc := 2) (off := 30) (tgt := 32) G dJ15_hashCode_2 (by decide) (by first | (rw [k2_1]; done) | (rw [k2_1]; decide)) rfl ?_
    refine ax_aload_n (pc := 32) G dJ15_hashCode_32 rfl rfl ?_
    refine ax_iconst (pc := 33) (v := nI 0) G dJ15_hashCode_33 ic_0 ?_
    refine ax_baload (pc := 34) G 0 dJ15_hashCode_34 (hE) rfl (by omega) (by omega) ?_
    refine ax_sipush (pc := 35) (v := nI 255) G dJ15_hashCode_35 is_255 ?_
    refine ax_iand (pc := 38) G dJ15_hashCode_38 ?_
    refine ax_top (show Value.int ((a 0) &&& (nI 255)) = .int (nI (t 0)) from congrArg Value.int (by rw [(hLat _ (show 0 < n by omega)).2]; exact (sb_byte _ (hLat _ (show 0 < n by omega)).1).1)) ?_
    refine ax_goto (pc := 39) (tgt := 51) G dJ15_hashCode_39 rfl ?_
    exact ax_iretE (pc := 51) G E rfl (rfl) dJ15_hashCode_51 (by rw [k2_1n]; exact sHash1) (rfl)
  refine ax_lookup (pc := 2) (off := 40) (tgt := 42) G dJ15_hashCode_2 (by decide) (by show Op.lookupswitch.offset [(0, 26), (1, 30)] 40 _ = _; rw [lv_osw k2_0 (by decide), lv_osw k2_1 (by decide)]; rfl) rfl ?_
  refine ax_aload_n (pc := 42) G dJ15_hashCode_42 rfl rfl ?_
  refine ax_iconst (pc := 43) (v := nI 0) G dJ15_hashCode_43 ic_0 ?_
  refine ax_aload_n (pc := 44) G dJ15_hashCode_44 rfl rfl ?_
  refine ax_alen (pc := 45) (v := nI n) G dJ15_hashCode_45 (hE) rfl ?_
  refine ax_iconst (pc := 46) (v := nI 0) G dJ15_hashCode_46 ic_0 ?_
  refine ax_iconst (pc := 47) (v := nI 4) G dJ15_hashCode_47 ic_4 ?_
  refine ax_cS1 (pc := 48) (kb := 0) (nb := 0) G (ct_shash2 hA hE hLat hn hbe) lSJ15_84 dJ15_hashCode_48 rfl (by decide) (Nat.le_of_ble_eq_true rfl) rfl ?_
  exact ax_iretE (pc := 51) G E rfl (rfl) dJ15_hashCode_51 (rfl) (rfl)

theorem ct_shashA {Ω : ax_O} (hA : ax_Amb Ω) {h : ax_H} (wf : ax_wf h) (hz : Ω.2.1.heap.size ≤ h.2) {w e n : Nat} {a : Nat → Int32} {t : Nat → Nat} (hW : h.1 w = some (.inr (19, [.ref e, .int (nI 0), .int (nI 0), .int (nI 0)]))) (hE : h.1 e = some (.inl (.byte, n, .inl a))) (hLat : sb_Lat t n a) (hn : n < 1000) (hbw : Ω.2.1.heap.size ≤ w) (hbe : Ω.2.1.heap.size ≤ e)  : ax_MetP Ω yJ9_hashCode 4 0 0 [.ref w] h (ax_Nm (fun v h' => v = some (.int (sHash t n)) ∧ (∃ hs' hz', h'.1 w = some (.inr (19, [.ref e, .int (nI 0), .int hs', .int hz'])) ∧ (hs' = sHash t n ∧ (¬ hs' = 0 ∨ ¬ hz' = 0))) ∧ (∀ q, q ≠ w → h'.1 q = h.1 q) ∧ h'.2 = h.2 ∧ ax_wf h')) := by
  refine ax_metP q1107 q129 (by decide +kernel) (by decide) hA (Nat.le_of_ble_eq_true rfl) (fun Γ G E => ?_)
  have hlw := wf.lt hW
  have hle := wf.lt hE
  have hwe : w ≠ e := fun z => by rw [z, hE] at hW; cases hW
  show ax_W Ω Γ 0 0 h 0 [some (.ref w), none] []
  refine ax_aload_n (pc := 0) G dJ9_hashCode_0 rfl rfl ?_
  refine ax_getf (pc := 1) (v := .int (nI 0)) G flJ9_19_19 dJ9_hashCode_1 (hW) rfl ?_
  refine ax_istore_n (pc := 4) G dJ9_hashCode_4 rfl (Nat.le_of_ble_eq_true rfl) rfl ?_
  refine ax_iload_n (pc := 5) G dJ9_hashCode_5 rfl rfl ?_
  refine ax_if_ne (pc := 6) (tgt := 58) G dJ9_hashCode_6 rfl (fun c9 => absurd rfl c9) (fun _ => ?_)
  refine ax_aload_n (pc := 9) G dJ9_hashCode_9 rfl rfl ?_
  refine ax_getf (pc := 10) (v := .int (nI 0)) G flJ9_23_19 dJ9_hashCode_10 (hW) rfl ?_
  refine ax_if_ne (pc := 13) (tgt := 58) G dJ9_hashCode_13 rfl (fun c9 => absurd rfl c9) (fun _ => ?_)
  refine ax_aload_n (pc := 16) G dJ9_hashCode_16 rfl rfl ?_
  refine ax_cV1 (pc := 17) (kb := 0) (nb := 0) G (ct_slatin hA (hW)) lVJ9_492_19 dJ9_hashCode_17 (hW) rfl (by decide) (Nat.le_of_ble_eq_true rfl) rfl ?_
  refine ax_if_eq (pc := 20) (tgt := 33) G dJ9_hashCode_20 rfl (fun c9 => absurd c9 (by decide)) (fun _ => ?_)
  refine ax_aload_n (pc := 23) G dJ9_hashCode_23 rfl rfl ?_
  refine ax_getf (pc := 24) (v := .ref e) G flJ9_9_19 dJ9_hashCode_24 (hW) rfl ?_
  refine ax_cS1 (pc := 27) (kb := 0) (nb := 0) G (ct_shash1 hA (hE) hLat hn (by omega)) lSJ9_628 dJ9_hashCode_27 rfl (by decide) (Nat.le_of_ble_eq_true rfl) rfl ?_
  refine ax_goto (pc := 30) (tgt := 40) G dJ9_hashCode_30 rfl ?_
  refine ax_istore_n (pc := 40) G dJ9_hashCode_40 rfl (Nat.le_of_ble_eq_true rfl) rfl ?_
  refine ax_iload_n (pc := 41) G dJ9_hashCode_41 rfl rfl ?_
  refine ax_if_ne (pc := 42) (tgt := 53) G dJ9_hashCode_42 rfl (fun c42 => ?_) (fun c42 => ?_)
  · refine ax_aload_n (pc := 53) G dJ9_hashCode_53 rfl rfl ?_
    refine ax_iload_n (pc := 54) G dJ9_hashCode_54 rfl rfl ?_
    refine ax_putf (pc := 55) G flJ9_19_19 dJ9_hashCode_55 (hW) (by omega) (Nat.le_of_ble_eq_true rfl) rfl rfl ?_
    refine ax_hvS wf (by omega) (fun h81 g81 f81 z81 w81 => ?_)
    replace g81 : h81.1 w = some (.inr (19, [.ref e, .int (nI 0), .int (sHash t n), .int (nI 0)])) := g81
    refine ax_iload_n (pc := 58) G dJ9_hashCode_58 rfl rfl ?_
    exact ax_iretP (pc := 59) G E rfl (rfl) dJ9_hashCode_59 (⟨_, rfl, rfl, ⟨_, _, g81, ⟨rfl, Or.inl c42⟩⟩, fun q a1 => (f81 _ (by omega)), by omega, w81⟩)
  · refine ax_aload_n (pc := 45) G dJ9_hashCode_45 rfl rfl ?_
    refine ax_iconst (pc := 46) (v := nI 1) G dJ9_hashCode_46 ic_1 ?_
    refine ax_putf (pc := 47) G flJ9_23_19 dJ9_hashCode_47 (hW) (by omega) (Nat.le_of_ble_eq_true rfl) rfl rfl ?_
    refine ax_hvS wf (by omega) (fun h82 g82 f82 z82 w82 => ?_)
    replace g82 : h82.1 w = some (.inr (19, [.ref e, .int (nI 0), .int (nI 0), .int (nI 1)])) := g82
    refine ax_goto (pc := 50) (tgt := 58) G dJ9_hashCode_50 rfl ?_
    refine ax_iload_n (pc := 58) G dJ9_hashCode_58 rfl rfl ?_
    exact ax_iretP (pc := 59) G E rfl (rfl) dJ9_hashCode_59 (⟨_, rfl, rfl, ⟨_, _, g82, ⟨c42.symm, Or.inr (by decide)⟩⟩, fun q a1 => (f82 _ (by omega)), by omega, w82⟩)

theorem ct_shashB {Ω : ax_O} (hA : ax_Amb Ω) {h : ax_H} {w e n : Nat} {hs hz : Int32} (hW : h.1 w = some (.inr (19, [.ref e, .int (nI 0), .int hs, .int hz]))) (hp : ¬ hs = 0 ∨ ¬ hz = 0)  : ax_Met Ω yJ9_hashCode 4 0 0 [.ref w] h (.inl (some (.int hs))) h := by
  refine ax_met q1107 q129 (by decide +kernel) (by decide) hA (Nat.le_of_ble_eq_true rfl) (fun Γ G E => ?_)
  show ax_W Ω Γ 0 0 h 0 [some (.ref w), none] []
  refine ax_aload_n (pc := 0) G dJ9_hashCode_0 rfl rfl ?_
  refine ax_getf (pc := 1) (v := .int hs) G flJ9_19_19 dJ9_hashCode_1 (hW) rfl ?_
  refine ax_istore_n (pc := 4) G dJ9_hashCode_4 rfl (Nat.le_of_ble_eq_true rfl) rfl ?_
  refine ax_iload_n (pc := 5) G dJ9_hashCode_5 rfl rfl ?_
  refine ax_if_ne (pc := 6) (tgt := 58) G dJ9_hashCode_6 rfl (fun c6 => ?_) (fun c6 => ?_)
  · refine ax_iload_n (pc := 58) G dJ9_hashCode_58 rfl rfl ?_
    exact ax_iretE (pc := 59) G E rfl (rfl) dJ9_hashCode_59 (rfl) (rfl)
  · refine ax_aload_n (pc := 9) G dJ9_hashCode_9 rfl rfl ?_
    refine ax_getf (pc := 10) (v := .int hz) G flJ9_23_19 dJ9_hashCode_10 (hW) rfl ?_
    refine ax_if_ne (pc := 13) (tgt := 58) G dJ9_hashCode_13 rfl (fun c13 => ?_) (fun c13 => ?_)
    · refine ax_iload_n (pc := 58) G dJ9_hashCode_58 rfl rfl ?_
      exact ax_iretE (pc := 59) G E rfl (rfl) dJ9_hashCode_59 (rfl) (rfl)
    · exact absurd hp (by simp_all)

