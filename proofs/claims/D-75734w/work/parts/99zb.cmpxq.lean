/-! THE MODEL: made -/
theorem md_self {h : ax_H} {m : Nat} {μ : md_S} (h0 : h.1 m = some (.inr (8, md_F m μ))) (r1 : h.1 (m + 1) = some (.inl (md_ty 1, md_len 1, .inl (μ.2 1)))) (r2 : h.1 (m + 2) = some (.inl (md_ty 2, md_len 2, .inl (μ.2 2)))) (r3 : h.1 (m + 3) = some (.inl (md_ty 3, md_len 3, .inl (μ.2 3)))) (r4 : h.1 (m + 4) = some (.inl (md_ty 4, md_len 4, .inl (μ.2 4)))) (r5 : h.1 (m + 5) = some (.inl (md_ty 5, md_len 5, .inl (μ.2 5)))) (r6 : h.1 (m + 6) = some (.inl (md_ty 6, md_len 6, .inl (μ.2 6)))) (r7 : h.1 (m + 7) = some (.inl (md_ty 7, md_len 7, .inl (μ.2 7)))) (r8 : h.1 (m + 8) = some (.inl (md_ty 8, md_len 8, .inl (μ.2 8)))) (r9 : h.1 (m + 9) = some (.inl (md_ty 9, md_len 9, .inl (μ.2 9)))) (r10 : h.1 (m + 10) = some (.inl (md_ty 10, md_len 10, .inl (μ.2 10)))) : md_H h m μ = h := by
  refine Prod.ext (funext fun q => ?_) rfl
  show (if q = m then _ else if m < q ∧ q ≤ m + 10 then _ else _) = _
  by_cases c0 : q = m
  · rw [if_pos c0, c0]; exact h0.symm
  rw [if_neg c0]
  by_cases c1 : m < q ∧ q ≤ m + 10
  · rw [if_pos c1]
    obtain ⟨k, rfl⟩ : ∃ k, q = m + k := ⟨q - m, by omega⟩
    rw [Nat.add_sub_cancel_left]
    have e : k = 1 ∨ k = 2 ∨ k = 3 ∨ k = 4 ∨ k = 5 ∨ k = 6 ∨ k = 7 ∨ k = 8 ∨ k = 9 ∨ k = 10 := by omega
    rcases e with rfl | rfl | rfl | rfl | rfl | rfl | rfl | rfl | rfl | rfl
    · exact r1.symm
    · exact r2.symm
    · exact r3.symm
    · exact r4.symm
    · exact r5.symm
    · exact r6.symm
    · exact r7.symm
    · exact r8.symm
    · exact r9.symm
    · exact r10.symm
  · rw [if_neg c1]
/-- the model's rows at first -/
def md_0 : md_S := (fun k => if k = 6 then -1 else 0, fun _ _ => 0)
theorem mq_init {Ω : ax_O} (hA : ax_Amb Ω) {h : ax_H} (wf : ax_wf h) (hz : Ω.2.1.heap.size ≤ h.2) {m : Nat} (hO : h.1 m = some (.inr (8, [.int (nI 0), .null, .int (nI 0), .int (nI 0), .int (nI 0), .int (nI 0), .int (nI 0), .int (nI 0), .int (nI 0), .int (nI 0), .null, .null, .null, .null, .null, .null, .null, .null, .int (nI 0), .int (nI 0), .int (nI 0), .int (nI 0), .int (nI 0), .null, .int (nI 0)]))) (hbO : Ω.2.1.heap.size ≤ m) (ha : h.2 = m + 1)  : ax_MetP Ω yX10_init 3 10 9703 [.ref m] h (ax_Nm (fun v h' => v = none ∧ md_H h' m md_0 = h' ∧ (∀ q, q < m → h'.1 q = h.1 q) ∧ h'.2 = m + 11 ∧ ax_wf h')) := by
  refine ax_metP q2553 q142 (by decide +kernel) (by decide) hA (Nat.le_of_ble_eq_true rfl) (fun Γ G E => ?_)
  have hlO := wf.lt hO
  show ax_W Ω Γ 10 9703 h 0 [some (.ref m)] []
  refine ax_aload_n (pc := 0) G dX10_init_0 rfl rfl ?_
  refine ax_objInit (pc := 1) G (by decide) q2554 q166 q167 dX10_init_1 (Nat.le_of_ble_eq_true rfl) ?_
  refine ax_aload_n (pc := 4) G dX10_init_4 rfl rfl ?_
  refine ax_sipush (pc := 5) (v := nI 1000) G dX10_init_5 is_1000 ?_
  refine ax_newarray (pc := 8) (kb := 9) (nb := 8703) G 1000 (1000, .inl fun _ => 0) dX10_init_8 rfl q600 rfl (by omega) rfl (fun j => rfl) ?_
  refine ax_hvA wf (fun h251 g251 f251 z251 w251 => ?_)
  refine ax_putfF (pc := 10) G flFX10_9_8 rfl dX10_init_10 ((f251 _ (by omega)).trans (hO)) (by omega) (Nat.le_of_ble_eq_true rfl) rfl rfl ?_
  refine ax_hvS w251 (by omega) (fun h252 g252 f252 z252 w252 => ?_)
  replace g252 : h252.1 m = some (.inr (8, [.int (nI 0), .ref h.2, .int (nI 0), .int (nI 0), .int (nI 0), .int (nI 0), .int (nI 0), .int (nI 0), .int (nI 0), .int (nI 0), .null, .null, .null, .null, .null, .null, .null, .null, .int (nI 0), .int (nI 0), .int (nI 0), .int (nI 0), .int (nI 0), .null, .int (nI 0)])) := g252
  refine ax_aload_n (pc := 13) G dX10_init_13 rfl rfl ?_
  refine ax_iconst (pc := 14) (v := (-1)) G dX10_init_14 (by decide) ?_
  refine ax_putf (pc := 15) G flX10_13_8 dX10_init_15 (g252) (by omega) (Nat.le_of_ble_eq_true rfl) rfl rfl ?_
  refine ax_hvS w252 (by omega) (fun h253 g253 f253 z253 w253 => ?_)
  replace g253 : h253.1 m = some (.inr (8, [.int (nI 0), .ref h.2, .int (nI 0), .int (nI 0), .int (nI 0), .int (nI 0), .int (-1), .int (nI 0), .int (nI 0), .int (nI 0), .null, .null, .null, .null, .null, .null, .null, .null, .int (nI 0), .int (nI 0), .int (nI 0), .int (nI 0), .int (nI 0), .null, .int (nI 0)])) := g253
  refine ax_aload_n (pc := 18) G dX10_init_18 rfl rfl ?_
  refine ax_sipush (pc := 19) (v := nI 235) G dX10_init_19 is_235 ?_
  refine ax_newarray (pc := 22) (kb := 8) (nb := 8468) G 235 (235, .inl fun _ => 0) dX10_init_22 rfl q600 rfl (by omega) rfl (fun j => rfl) ?_
  refine ax_hvA w253 (fun h254 g254 f254 z254 w254 => ?_)
  refine ax_putfF (pc := 24) G flFX10_17_8 rfl dX10_init_24 ((f254 _ (by omega)).trans (g253)) (by omega) (Nat.le_of_ble_eq_true rfl) rfl rfl ?_
  refine ax_hvS w254 (by omega) (fun h255 g255 f255 z255 w255 => ?_)
  replace g255 : h255.1 m = some (.inr (8, [.int (nI 0), .ref h.2, .int (nI 0), .int (nI 0), .int (nI 0), .int (nI 0), .int (-1), .int (nI 0), .int (nI 0), .int (nI 0), .ref h253.2, .null, .null, .null, .null, .null, .null, .null, .int (nI 0), .int (nI 0), .int (nI 0), .int (nI 0), .int (nI 0), .null, .int (nI 0)])) := g255
  refine ax_aload_n (pc := 27) G dX10_init_27 rfl rfl ?_
  refine ax_sipush (pc := 28) (v := nI 235) G dX10_init_28 is_235 ?_
  refine ax_newarray (pc := 31) (kb := 7) (nb := 8233) G 235 (235, .inl fun _ => 0) dX10_init_31 rfl q600 rfl (by omega) rfl (fun j => rfl) ?_
  refine ax_hvA w255 (fun h256 g256 f256 z256 w256 => ?_)
  refine ax_putfF (pc := 33) G flFX10_20_8 rfl dX10_init_33 ((f256 _ (by omega)).trans (g255)) (by omega) (Nat.le_of_ble_eq_true rfl) rfl rfl ?_
  refine ax_hvS w256 (by omega) (fun h257 g257 f257 z257 w257 => ?_)
  replace g257 : h257.1 m = some (.inr (8, [.int (nI 0), .ref h.2, .int (nI 0), .int (nI 0), .int (nI 0), .int (nI 0), .int (-1), .int (nI 0), .int (nI 0), .int (nI 0), .ref h253.2, .ref h255.2, .null, .null, .null, .null, .null, .null, .int (nI 0), .int (nI 0), .int (nI 0), .int (nI 0), .int (nI 0), .null, .int (nI 0)])) := g257
  refine ax_aload_n (pc := 36) G dX10_init_36 rfl rfl ?_
  refine ax_sipush (pc := 37) (v := nI 627) G dX10_init_37 is_627 ?_
  refine ax_newarray (pc := 40) (kb := 6) (nb := 7606) G 627 (627, .inl fun _ => 0) dX10_init_40 rfl q600 rfl (by omega) rfl (fun j => rfl) ?_
  refine ax_hvA w257 (fun h258 g258 f258 z258 w258 => ?_)
  refine ax_putfF (pc := 42) G flFX10_23_8 rfl dX10_init_42 ((f258 _ (by omega)).trans (g257)) (by omega) (Nat.le_of_ble_eq_true rfl) rfl rfl ?_
  refine ax_hvS w258 (by omega) (fun h259 g259 f259 z259 w259 => ?_)
  replace g259 : h259.1 m = some (.inr (8, [.int (nI 0), .ref h.2, .int (nI 0), .int (nI 0), .int (nI 0), .int (nI 0), .int (-1), .int (nI 0), .int (nI 0), .int (nI 0), .ref h253.2, .ref h255.2, .ref h257.2, .null, .null, .null, .null, .null, .int (nI 0), .int (nI 0), .int (nI 0), .int (nI 0), .int (nI 0), .null, .int (nI 0)])) := g259
  refine ax_aload_n (pc := 45) G dX10_init_45 rfl rfl ?_
  refine ax_sipush (pc := 46) (v := nI 627) G dX10_init_46 is_627 ?_
  refine ax_newarray (pc := 49) (kb := 5) (nb := 6979) G 627 (627, .inl fun _ => 0) dX10_init_49 rfl q600 rfl (by omega) rfl (fun j => rfl) ?_
  refine ax_hvA w259 (fun h260 g260 f260 z260 w260 => ?_)
  refine ax_putfF (pc := 51) G flFX10_26_8 rfl dX10_init_51 ((f260 _ (by omega)).trans (g259)) (by omega) (Nat.le_of_ble_eq_true rfl) rfl rfl ?_
  refine ax_hvS w260 (by omega) (fun h261 g261 f261 z261 w261 => ?_)
  replace g261 : h261.1 m = some (.inr (8, [.int (nI 0), .ref h.2, .int (nI 0), .int (nI 0), .int (nI 0), .int (nI 0), .int (-1), .int (nI 0), .int (nI 0), .int (nI 0), .ref h253.2, .ref h255.2, .ref h257.2, .ref h259.2, .null, .null, .null, .null, .int (nI 0), .int (nI 0), .int (nI 0), .int (nI 0), .int (nI 0), .null, .int (nI 0)])) := g261
  refine ax_aload_n (pc := 54) G dX10_init_54 rfl rfl ?_
  refine ax_sipush (pc := 55) (v := nI 627) G dX10_init_55 is_627 ?_
  refine ax_newarray (pc := 58) (kb := 4) (nb := 6352) G 627 (627, .inl fun _ => 0) dX10_init_58 rfl q600 rfl (by omega) rfl (fun j => rfl) ?_
  refine ax_hvA w261 (fun h262 g262 f262 z262 w262 => ?_)
  refine ax_putfF (pc := 60) G flFX10_29_8 rfl dX10_init_60 ((f262 _ (by omega)).trans (g261)) (by omega) (Nat.le_of_ble_eq_true rfl) rfl rfl ?_
  refine ax_hvS w262 (by omega) (fun h263 g263 f263 z263 w263 => ?_)
  replace g263 : h263.1 m = some (.inr (8, [.int (nI 0), .ref h.2, .int (nI 0), .int (nI 0), .int (nI 0), .int (nI 0), .int (-1), .int (nI 0), .int (nI 0), .int (nI 0), .ref h253.2, .ref h255.2, .ref h257.2, .ref h259.2, .ref h261.2, .null, .null, .null, .int (nI 0), .int (nI 0), .int (nI 0), .int (nI 0), .int (nI 0), .null, .int (nI 0)])) := g263
  refine ax_aload_n (pc := 63) G dX10_init_63 rfl rfl ?_
  refine ax_sipush (pc := 64) (v := nI 5016) G dX10_init_64 is_5016 ?_
  refine ax_newarray (pc := 67) (kb := 3) (nb := 1336) G 5016 (5016, .inl fun _ => 0) dX10_init_67 rfl q600 rfl (by omega) rfl (fun j => rfl) ?_
  refine ax_hvA w263 (fun h264 g264 f264 z264 w264 => ?_)
  refine ax_putfF (pc := 69) G flFX10_32_8 rfl dX10_init_69 ((f264 _ (by omega)).trans (g263)) (by omega) (Nat.le_of_ble_eq_true rfl) rfl rfl ?_
  refine ax_hvS w264 (by omega) (fun h265 g265 f265 z265 w265 => ?_)
  replace g265 : h265.1 m = some (.inr (8, [.int (nI 0), .ref h.2, .int (nI 0), .int (nI 0), .int (nI 0), .int (nI 0), .int (-1), .int (nI 0), .int (nI 0), .int (nI 0), .ref h253.2, .ref h255.2, .ref h257.2, .ref h259.2, .ref h261.2, .ref h263.2, .null, .null, .int (nI 0), .int (nI 0), .int (nI 0), .int (nI 0), .int (nI 0), .null, .int (nI 0)])) := g265
  refine ax_aload_n (pc := 72) G dX10_init_72 rfl rfl ?_
  refine ax_sipush (pc := 73) (v := nI 1254) G dX10_init_73 is_1254 ?_
  refine ax_newarray (pc := 76) (kb := 2) (nb := 82) G 1254 (1254, .inl fun _ => 0) dX10_init_76 rfl q600 rfl (by omega) rfl (fun j => rfl) ?_
  refine ax_hvA w265 (fun h266 g266 f266 z266 w266 => ?_)
  refine ax_putfF (pc := 78) G flFX10_35_8 rfl dX10_init_78 ((f266 _ (by omega)).trans (g265)) (by omega) (Nat.le_of_ble_eq_true rfl) rfl rfl ?_
  refine ax_hvS w266 (by omega) (fun h267 g267 f267 z267 w267 => ?_)
  replace g267 : h267.1 m = some (.inr (8, [.int (nI 0), .ref h.2, .int (nI 0), .int (nI 0), .int (nI 0), .int (nI 0), .int (-1), .int (nI 0), .int (nI 0), .int (nI 0), .ref h253.2, .ref h255.2, .ref h257.2, .ref h259.2, .ref h261.2, .ref h263.2, .ref h265.2, .null, .int (nI 0), .int (nI 0), .int (nI 0), .int (nI 0), .int (nI 0), .null, .int (nI 0)])) := g267
  refine ax_aload_n (pc := 81) G dX10_init_81 rfl rfl ?_
  refine ax_iconst (pc := 82) (v := nI 2) G dX10_init_82 ic_2 ?_
  refine ax_newarray (pc := 83) (kb := 1) (nb := 80) G 2 (2, .inl fun _ => 0) dX10_init_83 rfl q2631 rfl (by omega) rfl (fun j => rfl) ?_
  refine ax_hvA w267 (fun h268 g268 f268 z268 w268 => ?_)
  refine ax_putfF (pc := 85) G flFX10_38_8 rfl dX10_init_85 ((f268 _ (by omega)).trans (g267)) (by omega) (Nat.le_of_ble_eq_true rfl) rfl rfl ?_
  refine ax_hvS w268 (by omega) (fun h269 g269 f269 z269 w269 => ?_)
  replace g269 : h269.1 m = some (.inr (8, [.int (nI 0), .ref h.2, .int (nI 0), .int (nI 0), .int (nI 0), .int (nI 0), .int (-1), .int (nI 0), .int (nI 0), .int (nI 0), .ref h253.2, .ref h255.2, .ref h257.2, .ref h259.2, .ref h261.2, .ref h263.2, .ref h265.2, .ref h267.2, .int (nI 0), .int (nI 0), .int (nI 0), .int (nI 0), .int (nI 0), .null, .int (nI 0)])) := g269
  refine ax_aload_n (pc := 88) G dX10_init_88 rfl rfl ?_
  refine ax_bipush (pc := 89) (v := nI 80) G dX10_init_89 ib_80 ?_
  refine ax_newarray (pc := 91) (kb := 0) (nb := 0) G 80 (80, .inl fun _ => 0) dX10_init_91 rfl q600 rfl (by omega) rfl (fun j => rfl) ?_
  refine ax_hvA w269 (fun h270 g270 f270 z270 w270 => ?_)
  refine ax_putfF (pc := 93) G flFX10_42_8 rfl dX10_init_93 ((f270 _ (by omega)).trans (g269)) (by omega) (Nat.le_of_ble_eq_true rfl) rfl rfl ?_
  refine ax_hvS w270 (by omega) (fun h271 g271 f271 z271 w271 => ?_)
  replace g271 : h271.1 m = some (.inr (8, [.int (nI 0), .ref h.2, .int (nI 0), .int (nI 0), .int (nI 0), .int (nI 0), .int (-1), .int (nI 0), .int (nI 0), .int (nI 0), .ref h253.2, .ref h255.2, .ref h257.2, .ref h259.2, .ref h261.2, .ref h263.2, .ref h265.2, .ref h267.2, .int (nI 0), .int (nI 0), .int (nI 0), .int (nI 0), .int (nI 0), .ref h269.2, .int (nI 0)])) := g271
  have a1 : h.2 = m + 1 := by omega
  have a2 : h253.2 = m + 2 := by omega
  have a3 : h255.2 = m + 3 := by omega
  have a4 : h257.2 = m + 4 := by omega
  have a5 : h259.2 = m + 5 := by omega
  have a6 : h261.2 = m + 6 := by omega
  have a7 : h263.2 = m + 7 := by omega
  have a8 : h265.2 = m + 8 := by omega
  have a9 : h267.2 = m + 9 := by omega
  have a10 : h269.2 = m + 10 := by omega
  have r1 := (f271 _ (by omega)).trans ((f270 _ (by omega)).trans ((f269 _ (by omega)).trans ((f268 _ (by omega)).trans ((f267 _ (by omega)).trans ((f266 _ (by omega)).trans ((f265 _ (by omega)).trans ((f264 _ (by omega)).trans ((f263 _ (by omega)).trans ((f262 _ (by omega)).trans ((f261 _ (by omega)).trans ((f260 _ (by omega)).trans ((f259 _ (by omega)).trans ((f258 _ (by omega)).trans ((f257 _ (by omega)).trans ((f256 _ (by omega)).trans ((f255 _ (by omega)).trans ((f254 _ (by omega)).trans ((f253 _ (by omega)).trans ((f252 _ (by omega)).trans (g251))))))))))))))))))))
  rw [a1] at r1
  have r2 := (f271 _ (by omega)).trans ((f270 _ (by omega)).trans ((f269 _ (by omega)).trans ((f268 _ (by omega)).trans ((f267 _ (by omega)).trans ((f266 _ (by omega)).trans ((f265 _ (by omega)).trans ((f264 _ (by omega)).trans ((f263 _ (by omega)).trans ((f262 _ (by omega)).trans ((f261 _ (by omega)).trans ((f260 _ (by omega)).trans ((f259 _ (by omega)).trans ((f258 _ (by omega)).trans ((f257 _ (by omega)).trans ((f256 _ (by omega)).trans ((f255 _ (by omega)).trans (g254)))))))))))))))))
  rw [a2] at r2
  have r3 := (f271 _ (by omega)).trans ((f270 _ (by omega)).trans ((f269 _ (by omega)).trans ((f268 _ (by omega)).trans ((f267 _ (by omega)).trans ((f266 _ (by omega)).trans ((f265 _ (by omega)).trans ((f264 _ (by omega)).trans ((f263 _ (by omega)).trans ((f262 _ (by omega)).trans ((f261 _ (by omega)).trans ((f260 _ (by omega)).trans ((f259 _ (by omega)).trans ((f258 _ (by omega)).trans ((f257 _ (by omega)).trans (g256)))))))))))))))
  rw [a3] at r3
  have r4 := (f271 _ (by omega)).trans ((f270 _ (by omega)).trans ((f269 _ (by omega)).trans ((f268 _ (by omega)).trans ((f267 _ (by omega)).trans ((f266 _ (by omega)).trans ((f265 _ (by omega)).trans ((f264 _ (by omega)).trans ((f263 _ (by omega)).trans ((f262 _ (by omega)).trans ((f261 _ (by omega)).trans ((f260 _ (by omega)).trans ((f259 _ (by omega)).trans (g258)))))))))))))
  rw [a4] at r4
  have r5 := (f271 _ (by omega)).trans ((f270 _ (by omega)).trans ((f269 _ (by omega)).trans ((f268 _ (by omega)).trans ((f267 _ (by omega)).trans ((f266 _ (by omega)).trans ((f265 _ (by omega)).trans ((f264 _ (by omega)).trans ((f263 _ (by omega)).trans ((f262 _ (by omega)).trans ((f261 _ (by omega)).trans (g260)))))))))))
  rw [a5] at r5
  have r6 := (f271 _ (by omega)).trans ((f270 _ (by omega)).trans ((f269 _ (by omega)).trans ((f268 _ (by omega)).trans ((f267 _ (by omega)).trans ((f266 _ (by omega)).trans ((f265 _ (by omega)).trans ((f264 _ (by omega)).trans ((f263 _ (by omega)).trans (g262)))))))))
  rw [a6] at r6
  have r7 := (f271 _ (by omega)).trans ((f270 _ (by omega)).trans ((f269 _ (by omega)).trans ((f268 _ (by omega)).trans ((f267 _ (by omega)).trans ((f266 _ (by omega)).trans ((f265 _ (by omega)).trans (g264)))))))
  rw [a7] at r7
  have r8 := (f271 _ (by omega)).trans ((f270 _ (by omega)).trans ((f269 _ (by omega)).trans ((f268 _ (by omega)).trans ((f267 _ (by omega)).trans (g266)))))
  rw [a8] at r8
  have r9 := (f271 _ (by omega)).trans ((f270 _ (by omega)).trans ((f269 _ (by omega)).trans (g268)))
  rw [a9] at r9
  have r10 := (f271 _ (by omega)).trans (g270)
  rw [a10] at r10
  have r0 := g271
  rw [a1, a2, a3, a4, a5, a6, a7, a8, a9, a10] at r0
  exact ax_vretP (pc := 96) G E rfl dX10_init_96 ⟨_, rfl, rfl, md_self (μ := md_0) r0 r1 r2 r3 r4 r5 r6 r7 r8 r9 r10, fun q a1 => (f271 _ (by omega)).trans ((f270 _ (by omega)).trans ((f269 _ (by omega)).trans ((f268 _ (by omega)).trans ((f267 _ (by omega)).trans ((f266 _ (by omega)).trans ((f265 _ (by omega)).trans ((f264 _ (by omega)).trans ((f263 _ (by omega)).trans ((f262 _ (by omega)).trans ((f261 _ (by omega)).trans ((f260 _ (by omega)).trans ((f259 _ (by omega)).trans ((f258 _ (by omega)).trans ((f257 _ (by omega)).trans ((f256 _ (by omega)).trans ((f255 _ (by omega)).trans ((f254 _ (by omega)).trans ((f253 _ (by omega)).trans ((f252 _ (by omega)).trans ((f251 _ (by omega)))))))))))))))))))))), by omega, w271⟩

