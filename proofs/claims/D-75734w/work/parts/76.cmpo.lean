/-! THE COMPONENT: states are made -/
theorem sH_self {h : ax_H} {a : Nat} {σ : cS} (h0 : h.1 a = some (.inr (1, sF a σ))) (r4 : h.1 (a + 4) = some (.inl (.int, sLen 4, .inl fun j => σ.1 (sIx 4 j)))) (r5 : h.1 (a + 5) = some (.inl (.int, sLen 5, .inl fun j => σ.1 (sIx 5 j)))) (r6 : h.1 (a + 6) = some (.inl (.int, sLen 6, .inl fun j => σ.1 (sIx 6 j)))) (r7 : h.1 (a + 7) = some (.inl (.int, sLen 7, .inl fun j => σ.1 (sIx 7 j)))) (r8 : h.1 (a + 8) = some (.inl (.int, sLen 8, .inl fun j => σ.1 (sIx 8 j)))) (r9 : h.1 (a + 9) = some (.inl (.int, sLen 9, .inl fun j => σ.1 (sIx 9 j)))) (r10 : h.1 (a + 10) = some (.inl (.int, sLen 10, .inl fun j => σ.1 (sIx 10 j)))) (r11 : h.1 (a + 11) = some (.inl (.int, sLen 11, .inl fun j => σ.1 (sIx 11 j)))) (r12 : h.1 (a + 12) = some (.inl (.int, sLen 12, .inl fun j => σ.1 (sIx 12 j)))) (r13 : h.1 (a + 13) = some (.inl (.int, sLen 13, .inl fun j => σ.1 (sIx 13 j)))) (r14 : h.1 (a + 14) = some (.inl (.int, sLen 14, .inl fun j => σ.1 (sIx 14 j)))) (r15 : h.1 (a + 15) = some (.inl (.int, sLen 15, .inl fun j => σ.1 (sIx 15 j)))) (p16 : h.1 (a + 16) = some (.inr (6, cPF (σ.2.1 (16 - 16))))) (p17 : h.1 (a + 17) = some (.inr (6, cPF (σ.2.1 (17 - 16))))) (p18 : h.1 (a + 18) = some (.inr (6, cPF (σ.2.1 (18 - 16))))) : sH h a σ = h := by
  refine Prod.ext (funext fun q => ?_) rfl
  show (if q = a then _ else if a + 4 ≤ q ∧ q ≤ a + 15 then _ else if a + 16 ≤ q ∧ q ≤ a + 18 then _ else _) = _
  by_cases c0 : q = a
  · rw [if_pos c0, c0]; exact h0.symm
  rw [if_neg c0]
  by_cases c1 : a + 4 ≤ q ∧ q ≤ a + 15
  · rw [if_pos c1]
    obtain ⟨k, rfl⟩ : ∃ k, q = a + k := ⟨q - a, by omega⟩
    rw [Nat.add_sub_cancel_left]
    have e : k = 4 ∨ k = 5 ∨ k = 6 ∨ k = 7 ∨ k = 8 ∨ k = 9 ∨ k = 10 ∨ k = 11 ∨ k = 12 ∨ k = 13 ∨ k = 14 ∨ k = 15 := by omega
    rcases e with rfl | rfl | rfl | rfl | rfl | rfl | rfl | rfl | rfl | rfl | rfl | rfl
    · exact r4.symm
    · exact r5.symm
    · exact r6.symm
    · exact r7.symm
    · exact r8.symm
    · exact r9.symm
    · exact r10.symm
    · exact r11.symm
    · exact r12.symm
    · exact r13.symm
    · exact r14.symm
    · exact r15.symm
  rw [if_neg c1]
  by_cases c2 : a + 16 ≤ q ∧ q ≤ a + 18
  · rw [if_pos c2]
    obtain ⟨k, rfl⟩ : ∃ k, q = a + k := ⟨q - a, by omega⟩
    rw [Nat.add_sub_cancel_left]
    have e : k = 16 ∨ k = 17 ∨ k = 18 := by omega
    rcases e with rfl | rfl | rfl
    · exact p16.symm
    · exact p17.symm
    · exact p18.symm
  rw [if_neg c2]
/-- all 0, without plans -/
def cZ (sc : Value) (r : Nat) : cS := (fun _ => 0, fun _ => (.null, fun _ => 0), sc, r)
/-- a state's block as it's told -/
def sIs (h : ax_H) (a : Nat) (σ : cS) : Prop := sH h a σ = h
theorem ct_stinitR {Ω : ax_O} (hA : ax_Amb Ω) {h : ax_H} (wf : ax_wf h) (hz : Ω.2.1.heap.size ≤ h.2) {a : Nat} {sc : Nat} (hO : h.1 a = some (.inr (1, [.null, .null, .null, .null, .null, .null, .null, .null, .null, .null, .null, .null, .null, .null, .null, .int (nI 0), .int (nI 0), .int (nI 0), .int (nI 0), .int (nI 0), .int (nI 0), .int (nI 0), .int (nI 0), .null, .null, .null]))) (hbO : Ω.2.1.heap.size ≤ a) (ha : h.2 = a + 1)  : ax_MetP Ω yX2_init 5 18 700 [.ref a, .ref sc] h (ax_Nm (fun v h' => v = none ∧ sIs h' a (cZ (.ref sc) (a + 1)) ∧ h'.1 (a + 1) = some (.inr (2, [])) ∧ h'.1 (a + 2) = some (.inr (16, [.int (nI 0), .ref (a + 3), .int (nI 0)])) ∧ h'.1 (a + 3) = some (.inl (.object "java/lang/Object", 4, .inr (.inr (.inr (.inr fun _ => none))))) ∧ (∀ q, q < a → h'.1 q = h.1 q) ∧ h'.2 = a + 19 ∧ ax_wf h')) := by
  refine ax_metP q172 q114 (by decide +kernel) (by decide) hA (Nat.le_of_ble_eq_true rfl) (fun Γ G E => ?_)
  have hlO := wf.lt hO
  show ax_W Ω Γ 18 700 h 0 [some (.ref a), some (.ref sc)] []
  refine ax_aload_n (pc := 0) G dX2_init_0 rfl rfl ?_
  refine ax_objInit (pc := 1) G (by decide) q173 q166 q167 dX2_init_1 (Nat.le_of_ble_eq_true rfl) ?_
  refine ax_aload_n (pc := 4) G dX2_init_4 rfl rfl ?_
  refine ax_iconst (pc := 5) (v := nI 0) G dX2_init_5 ic_0 ?_
  refine ax_nS (pc := 6) (kb := 17) (nb := 700) G (ct_rof hA wf (by omega) 0 (by omega)) lSX2_9 dX2_init_6 rfl (by decide) (Nat.le_of_ble_eq_true rfl) rfl (fun v117 h117 q9 => ?_)
  obtain ⟨rfl, g117, f117, z117, w117⟩ := q9
  show ax_W Ω Γ _ _ (h117) _ _ (.ref h.2 :: _)
  refine ax_putf (pc := 9) G flX2_15_1 dX2_init_9 ((f117 _ (by omega) ).trans (hO)) (by omega) (Nat.le_of_ble_eq_true rfl) rfl rfl ?_
  refine ax_hvS w117 (by omega) (fun h118 g118 f118 z118 w118 => ?_)
  replace g118 : h118.1 a = some (.inr (1, [.null, .ref h.2, .null, .null, .null, .null, .null, .null, .null, .null, .null, .null, .null, .null, .null, .int (nI 0), .int (nI 0), .int (nI 0), .int (nI 0), .int (nI 0), .int (nI 0), .int (nI 0), .int (nI 0), .null, .null, .null])) := g118
  refine ax_aload_n (pc := 12) G dX2_init_12 rfl rfl ?_
  refine ax_new (pc := 13) (ci := 16) (kb := 16) (nb := 697) G [.int (nI 0), .null, .int (nI 0)] dX2_init_13 rfl cok_J2 rfl q206 q207 q122 (fun j hj => by match j, hj with | 0, _ => rfl | 1, _ => rfl | 2, _ => rfl) ?_
  refine ax_hvA w118 (fun h119 g119 f119 z119 w119 => ?_)
  refine ax_dup (pc := 16) G dX2_init_16 rfl ?_
  refine ax_iconst (pc := 17) (v := nI 4) G dX2_init_17 ic_4 ?_
  refine ax_nI (pc := 18) (kb := 15) (nb := 667) G (ct_linit hA w119 (by omega) (g119) (by omega) 4 (by omega) (by omega)) lIX2_23 dX2_init_18 rfl (by decide) (Nat.le_of_ble_eq_true rfl) rfl (fun v120 h120 q9 => ?_)
  obtain ⟨rfl, g120, k120, f120, z120, w120⟩ := q9
  show ax_W Ω Γ _ _ (h120) _ _ (_)
  refine ax_putfF (pc := 21) G flFX2_26_1 rfl dX2_init_21 ((f120 _ (by omega) (by omega)).trans ((f119 _ (by omega)).trans (g118))) (by omega) (Nat.le_of_ble_eq_true rfl) rfl rfl ?_
  refine ax_hvS w120 (by omega) (fun h121 g121 f121 z121 w121 => ?_)
  replace g121 : h121.1 a = some (.inr (1, [.null, .ref h.2, .ref h118.2, .null, .null, .null, .null, .null, .null, .null, .null, .null, .null, .null, .null, .int (nI 0), .int (nI 0), .int (nI 0), .int (nI 0), .int (nI 0), .int (nI 0), .int (nI 0), .int (nI 0), .null, .null, .null])) := g121
  refine ax_aload_n (pc := 24) G dX2_init_24 rfl rfl ?_
  refine ax_bipush (pc := 25) (v := nI 6) G dX2_init_25 ib_6 ?_
  refine ax_newarray (pc := 27) (kb := 14) (nb := 661) G 6 (6, .inl fun _ => 0) dX2_init_27 rfl q600 rfl (by omega) rfl (fun j => rfl) ?_
  refine ax_hvA w121 (fun h122 g122 f122 z122 w122 => ?_)
  refine ax_putfF (pc := 29) G flFX2_30_1 rfl dX2_init_29 ((f122 _ (by omega)).trans (g121)) (by omega) (Nat.le_of_ble_eq_true rfl) rfl rfl ?_
  refine ax_hvS w122 (by omega) (fun h123 g123 f123 z123 w123 => ?_)
  replace g123 : h123.1 a = some (.inr (1, [.null, .ref h.2, .ref h118.2, .ref h121.2, .null, .null, .null, .null, .null, .null, .null, .null, .null, .null, .null, .int (nI 0), .int (nI 0), .int (nI 0), .int (nI 0), .int (nI 0), .int (nI 0), .int (nI 0), .int (nI 0), .null, .null, .null])) := g123
  refine ax_aload_n (pc := 32) G dX2_init_32 rfl rfl ?_
  refine ax_bipush (pc := 33) (v := nI 6) G dX2_init_33 ib_6 ?_
  refine ax_newarray (pc := 35) (kb := 13) (nb := 655) G 6 (6, .inl fun _ => 0) dX2_init_35 rfl q600 rfl (by omega) rfl (fun j => rfl) ?_
  refine ax_hvA w123 (fun h124 g124 f124 z124 w124 => ?_)
  refine ax_putfF (pc := 37) G flFX2_34_1 rfl dX2_init_37 ((f124 _ (by omega)).trans (g123)) (by omega) (Nat.le_of_ble_eq_true rfl) rfl rfl ?_
  refine ax_hvS w124 (by omega) (fun h125 g125 f125 z125 w125 => ?_)
  replace g125 : h125.1 a = some (.inr (1, [.null, .ref h.2, .ref h118.2, .ref h121.2, .ref h123.2, .null, .null, .null, .null, .null, .null, .null, .null, .null, .null, .int (nI 0), .int (nI 0), .int (nI 0), .int (nI 0), .int (nI 0), .int (nI 0), .int (nI 0), .int (nI 0), .null, .null, .null])) := g125
  refine ax_aload_n (pc := 40) G dX2_init_40 rfl rfl ?_
  refine ax_bipush (pc := 41) (v := nI 6) G dX2_init_41 ib_6 ?_
  refine ax_newarray (pc := 43) (kb := 12) (nb := 649) G 6 (6, .inl fun _ => 0) dX2_init_43 rfl q600 rfl (by omega) rfl (fun j => rfl) ?_
  refine ax_hvA w125 (fun h126 g126 f126 z126 w126 => ?_)
  refine ax_putfF (pc := 45) G flFX2_37_1 rfl dX2_init_45 ((f126 _ (by omega)).trans (g125)) (by omega) (Nat.le_of_ble_eq_true rfl) rfl rfl ?_
  refine ax_hvS w126 (by omega) (fun h127 g127 f127 z127 w127 => ?_)
  replace g127 : h127.1 a = some (.inr (1, [.null, .ref h.2, .ref h118.2, .ref h121.2, .ref h123.2, .ref h125.2, .null, .null, .null, .null, .null, .null, .null, .null, .null, .int (nI 0), .int (nI 0), .int (nI 0), .int (nI 0), .int (nI 0), .int (nI 0), .int (nI 0), .int (nI 0), .null, .null, .null])) := g127
  refine ax_aload_n (pc := 48) G dX2_init_48 rfl rfl ?_
  refine ax_bipush (pc := 49) (v := nI 6) G dX2_init_49 ib_6 ?_
  refine ax_newarray (pc := 51) (kb := 11) (nb := 643) G 6 (6, .inl fun _ => 0) dX2_init_51 rfl q600 rfl (by omega) rfl (fun j => rfl) ?_
  refine ax_hvA w127 (fun h128 g128 f128 z128 w128 => ?_)
  refine ax_putfF (pc := 53) G flFX2_40_1 rfl dX2_init_53 ((f128 _ (by omega)).trans (g127)) (by omega) (Nat.le_of_ble_eq_true rfl) rfl rfl ?_
  refine ax_hvS w128 (by omega) (fun h129 g129 f129 z129 w129 => ?_)
  replace g129 : h129.1 a = some (.inr (1, [.null, .ref h.2, .ref h118.2, .ref h121.2, .ref h123.2, .ref h125.2, .ref h127.2, .null, .null, .null, .null, .null, .null, .null, .null, .int (nI 0), .int (nI 0), .int (nI 0), .int (nI 0), .int (nI 0), .int (nI 0), .int (nI 0), .int (nI 0), .null, .null, .null])) := g129
  refine ax_aload_n (pc := 56) G dX2_init_56 rfl rfl ?_
  refine ax_bipush (pc := 57) (v := nI 20) G dX2_init_57 ib_20 ?_
  refine ax_newarray (pc := 59) (kb := 10) (nb := 623) G 20 (20, .inl fun _ => 0) dX2_init_59 rfl q600 rfl (by omega) rfl (fun j => rfl) ?_
  refine ax_hvA w129 (fun h130 g130 f130 z130 w130 => ?_)
  refine ax_putfF (pc := 61) G flFX2_43_1 rfl dX2_init_61 ((f130 _ (by omega)).trans (g129)) (by omega) (Nat.le_of_ble_eq_true rfl) rfl rfl ?_
  refine ax_hvS w130 (by omega) (fun h131 g131 f131 z131 w131 => ?_)
  replace g131 : h131.1 a = some (.inr (1, [.null, .ref h.2, .ref h118.2, .ref h121.2, .ref h123.2, .ref h125.2, .ref h127.2, .ref h129.2, .null, .null, .null, .null, .null, .null, .null, .int (nI 0), .int (nI 0), .int (nI 0), .int (nI 0), .int (nI 0), .int (nI 0), .int (nI 0), .int (nI 0), .null, .null, .null])) := g131
  refine ax_aload_n (pc := 64) G dX2_init_64 rfl rfl ?_
  refine ax_bipush (pc := 65) (v := nI 20) G dX2_init_65 ib_20 ?_
  refine ax_newarray (pc := 67) (kb := 9) (nb := 603) G 20 (20, .inl fun _ => 0) dX2_init_67 rfl q600 rfl (by omega) rfl (fun j => rfl) ?_
  refine ax_hvA w131 (fun h132 g132 f132 z132 w132 => ?_)
  refine ax_putfF (pc := 69) G flFX2_46_1 rfl dX2_init_69 ((f132 _ (by omega)).trans (g131)) (by omega) (Nat.le_of_ble_eq_true rfl) rfl rfl ?_
  refine ax_hvS w132 (by omega) (fun h133 g133 f133 z133 w133 => ?_)
  replace g133 : h133.1 a = some (.inr (1, [.null, .ref h.2, .ref h118.2, .ref h121.2, .ref h123.2, .ref h125.2, .ref h127.2, .ref h129.2, .ref h131.2, .null, .null, .null, .null, .null, .null, .int (nI 0), .int (nI 0), .int (nI 0), .int (nI 0), .int (nI 0), .int (nI 0), .int (nI 0), .int (nI 0), .null, .null, .null])) := g133
  refine ax_aload_n (pc := 72) G dX2_init_72 rfl rfl ?_
  refine ax_bipush (pc := 73) (v := nI 20) G dX2_init_73 ib_20 ?_
  refine ax_newarray (pc := 75) (kb := 8) (nb := 583) G 20 (20, .inl fun _ => 0) dX2_init_75 rfl q600 rfl (by omega) rfl (fun j => rfl) ?_
  refine ax_hvA w133 (fun h134 g134 f134 z134 w134 => ?_)
  refine ax_putfF (pc := 77) G flFX2_49_1 rfl dX2_init_77 ((f134 _ (by omega)).trans (g133)) (by omega) (Nat.le_of_ble_eq_true rfl) rfl rfl ?_
  refine ax_hvS w134 (by omega) (fun h135 g135 f135 z135 w135 => ?_)
  replace g135 : h135.1 a = some (.inr (1, [.null, .ref h.2, .ref h118.2, .ref h121.2, .ref h123.2, .ref h125.2, .ref h127.2, .ref h129.2, .ref h131.2, .ref h133.2, .null, .null, .null, .null, .null, .int (nI 0), .int (nI 0), .int (nI 0), .int (nI 0), .int (nI 0), .int (nI 0), .int (nI 0), .int (nI 0), .null, .null, .null])) := g135
  refine ax_aload_n (pc := 80) G dX2_init_80 rfl rfl ?_
  refine ax_bipush (pc := 81) (v := nI 20) G dX2_init_81 ib_20 ?_
  refine ax_newarray (pc := 83) (kb := 7) (nb := 563) G 20 (20, .inl fun _ => 0) dX2_init_83 rfl q600 rfl (by omega) rfl (fun j => rfl) ?_
  refine ax_hvA w135 (fun h136 g136 f136 z136 w136 => ?_)
  refine ax_putfF (pc := 85) G flFX2_52_1 rfl dX2_init_85 ((f136 _ (by omega)).trans (g135)) (by omega) (Nat.le_of_ble_eq_true rfl) rfl rfl ?_
  refine ax_hvS w136 (by omega) (fun h137 g137 f137 z137 w137 => ?_)
  replace g137 : h137.1 a = some (.inr (1, [.null, .ref h.2, .ref h118.2, .ref h121.2, .ref h123.2, .ref h125.2, .ref h127.2, .ref h129.2, .ref h131.2, .ref h133.2, .ref h135.2, .null, .null, .null, .null, .int (nI 0), .int (nI 0), .int (nI 0), .int (nI 0), .int (nI 0), .int (nI 0), .int (nI 0), .int (nI 0), .null, .null, .null])) := g137
  refine ax_aload_n (pc := 88) G dX2_init_88 rfl rfl ?_
  refine ax_bipush (pc := 89) (v := nI 10) G dX2_init_89 ib_10 ?_
  refine ax_newarray (pc := 91) (kb := 6) (nb := 553) G 10 (10, .inl fun _ => 0) dX2_init_91 rfl q600 rfl (by omega) rfl (fun j => rfl) ?_
  refine ax_hvA w137 (fun h138 g138 f138 z138 w138 => ?_)
  refine ax_putfF (pc := 93) G flFX2_55_1 rfl dX2_init_93 ((f138 _ (by omega)).trans (g137)) (by omega) (Nat.le_of_ble_eq_true rfl) rfl rfl ?_
  refine ax_hvS w138 (by omega) (fun h139 g139 f139 z139 w139 => ?_)
  replace g139 : h139.1 a = some (.inr (1, [.null, .ref h.2, .ref h118.2, .ref h121.2, .ref h123.2, .ref h125.2, .ref h127.2, .ref h129.2, .ref h131.2, .ref h133.2, .ref h135.2, .ref h137.2, .null, .null, .null, .int (nI 0), .int (nI 0), .int (nI 0), .int (nI 0), .int (nI 0), .int (nI 0), .int (nI 0), .int (nI 0), .null, .null, .null])) := g139
  refine ax_aload_n (pc := 96) G dX2_init_96 rfl rfl ?_
  refine ax_bipush (pc := 97) (v := nI 10) G dX2_init_97 ib_10 ?_
  refine ax_newarray (pc := 99) (kb := 5) (nb := 543) G 10 (10, .inl fun _ => 0) dX2_init_99 rfl q600 rfl (by omega) rfl (fun j => rfl) ?_
  refine ax_hvA w139 (fun h140 g140 f140 z140 w140 => ?_)
  refine ax_putfF (pc := 101) G flFX2_58_1 rfl dX2_init_101 ((f140 _ (by omega)).trans (g139)) (by omega) (Nat.le_of_ble_eq_true rfl) rfl rfl ?_
  refine ax_hvS w140 (by omega) (fun h141 g141 f141 z141 w141 => ?_)
  replace g141 : h141.1 a = some (.inr (1, [.null, .ref h.2, .ref h118.2, .ref h121.2, .ref h123.2, .ref h125.2, .ref h127.2, .ref h129.2, .ref h131.2, .ref h133.2, .ref h135.2, .ref h137.2, .ref h139.2, .null, .null, .int (nI 0), .int (nI 0), .int (nI 0), .int (nI 0), .int (nI 0), .int (nI 0), .int (nI 0), .int (nI 0), .null, .null, .null])) := g141
  refine ax_aload_n (pc := 104) G dX2_init_104 rfl rfl ?_
  refine ax_bipush (pc := 105) (v := nI 8) G dX2_init_105 ib_8 ?_
  refine ax_newarray (pc := 107) (kb := 4) (nb := 535) G 8 (8, .inl fun _ => 0) dX2_init_107 rfl q600 rfl (by omega) rfl (fun j => rfl) ?_
  refine ax_hvA w141 (fun h142 g142 f142 z142 w142 => ?_)
  refine ax_putfF (pc := 109) G flFX2_61_1 rfl dX2_init_109 ((f142 _ (by omega)).trans (g141)) (by omega) (Nat.le_of_ble_eq_true rfl) rfl rfl ?_
  refine ax_hvS w142 (by omega) (fun h143 g143 f143 z143 w143 => ?_)
  replace g143 : h143.1 a = some (.inr (1, [.null, .ref h.2, .ref h118.2, .ref h121.2, .ref h123.2, .ref h125.2, .ref h127.2, .ref h129.2, .ref h131.2, .ref h133.2, .ref h135.2, .ref h137.2, .ref h139.2, .ref h141.2, .null, .int (nI 0), .int (nI 0), .int (nI 0), .int (nI 0), .int (nI 0), .int (nI 0), .int (nI 0), .int (nI 0), .null, .null, .null])) := g143
  refine ax_aload_n (pc := 112) G dX2_init_112 rfl rfl ?_
  refine ax_sipush (pc := 113) (v := nI 400) G dX2_init_113 is_400 ?_
  refine ax_newarray (pc := 116) (kb := 3) (nb := 135) G 400 (400, .inl fun _ => 0) dX2_init_116 rfl q600 rfl (by omega) rfl (fun j => rfl) ?_
  refine ax_hvA w143 (fun h144 g144 f144 z144 w144 => ?_)
  refine ax_putfF (pc := 118) G flFX2_64_1 rfl dX2_init_118 ((f144 _ (by omega)).trans (g143)) (by omega) (Nat.le_of_ble_eq_true rfl) rfl rfl ?_
  refine ax_hvS w144 (by omega) (fun h145 g145 f145 z145 w145 => ?_)
  replace g145 : h145.1 a = some (.inr (1, [.null, .ref h.2, .ref h118.2, .ref h121.2, .ref h123.2, .ref h125.2, .ref h127.2, .ref h129.2, .ref h131.2, .ref h133.2, .ref h135.2, .ref h137.2, .ref h139.2, .ref h141.2, .ref h143.2, .int (nI 0), .int (nI 0), .int (nI 0), .int (nI 0), .int (nI 0), .int (nI 0), .int (nI 0), .int (nI 0), .null, .null, .null])) := g145
  refine ax_aload_n (pc := 121) G dX2_init_121 rfl rfl ?_
  refine ax_new (pc := 122) (ci := 6) (kb := 2) (nb := 126) G [.null, .int (nI 0), .int (nI 0), .int (nI 0), .int (nI 0), .int (nI 0), .int (nI 0), .int (nI 0), .int (nI 0)] dX2_init_122 rfl cok_X8 rfl q551 q552 q139 (fun j hj => by match j, hj with | 0, _ => rfl | 1, _ => rfl | 2, _ => rfl | 3, _ => rfl | 4, _ => rfl | 5, _ => rfl | 6, _ => rfl | 7, _ => rfl | 8, _ => rfl) ?_
  refine ax_hvA w145 (fun h146 g146 f146 z146 w146 => ?_)
  refine ax_dup (pc := 125) G dX2_init_125 rfl ?_
  refine ax_cIN0 (pc := 126) (kb := 2) (nb := 126) G (ct_init_X8 hA) lIX2_69 dX2_init_126 rfl (by decide) (Nat.le_of_ble_eq_true rfl) rfl ?_
  refine ax_putfF (pc := 129) G flFX2_70_1 rfl dX2_init_129 ((f146 _ (by omega)).trans (g145)) (by omega) (Nat.le_of_ble_eq_true rfl) rfl rfl ?_
  refine ax_hvS w146 (by omega) (fun h147 g147 f147 z147 w147 => ?_)
  replace g147 : h147.1 a = some (.inr (1, [.null, .ref h.2, .ref h118.2, .ref h121.2, .ref h123.2, .ref h125.2, .ref h127.2, .ref h129.2, .ref h131.2, .ref h133.2, .ref h135.2, .ref h137.2, .ref h139.2, .ref h141.2, .ref h143.2, .int (nI 0), .int (nI 0), .int (nI 0), .int (nI 0), .int (nI 0), .int (nI 0), .int (nI 0), .int (nI 0), .ref h145.2, .null, .null])) := g147
  refine ax_aload_n (pc := 132) G dX2_init_132 rfl rfl ?_
  refine ax_new (pc := 133) (ci := 6) (kb := 1) (nb := 117) G [.null, .int (nI 0), .int (nI 0), .int (nI 0), .int (nI 0), .int (nI 0), .int (nI 0), .int (nI 0), .int (nI 0)] dX2_init_133 rfl cok_X8 rfl q551 q552 q139 (fun j hj => by match j, hj with | 0, _ => rfl | 1, _ => rfl | 2, _ => rfl | 3, _ => rfl | 4, _ => rfl | 5, _ => rfl | 6, _ => rfl | 7, _ => rfl | 8, _ => rfl) ?_
  refine ax_hvA w147 (fun h148 g148 f148 z148 w148 => ?_)
  refine ax_dup (pc := 136) G dX2_init_136 rfl ?_
  refine ax_cIN0 (pc := 137) (kb := 1) (nb := 117) G (ct_init_X8 hA) lIX2_69 dX2_init_137 rfl (by decide) (Nat.le_of_ble_eq_true rfl) rfl ?_
  refine ax_putfF (pc := 140) G flFX2_74_1 rfl dX2_init_140 ((f148 _ (by omega)).trans (g147)) (by omega) (Nat.le_of_ble_eq_true rfl) rfl rfl ?_
  refine ax_hvS w148 (by omega) (fun h149 g149 f149 z149 w149 => ?_)
  replace g149 : h149.1 a = some (.inr (1, [.null, .ref h.2, .ref h118.2, .ref h121.2, .ref h123.2, .ref h125.2, .ref h127.2, .ref h129.2, .ref h131.2, .ref h133.2, .ref h135.2, .ref h137.2, .ref h139.2, .ref h141.2, .ref h143.2, .int (nI 0), .int (nI 0), .int (nI 0), .int (nI 0), .int (nI 0), .int (nI 0), .int (nI 0), .int (nI 0), .ref h145.2, .ref h147.2, .null])) := g149
  refine ax_aload_n (pc := 143) G dX2_init_143 rfl rfl ?_
  refine ax_new (pc := 144) (ci := 6) (kb := 0) (nb := 108) G [.null, .int (nI 0), .int (nI 0), .int (nI 0), .int (nI 0), .int (nI 0), .int (nI 0), .int (nI 0), .int (nI 0)] dX2_init_144 rfl cok_X8 rfl q551 q552 q139 (fun j hj => by match j, hj with | 0, _ => rfl | 1, _ => rfl | 2, _ => rfl | 3, _ => rfl | 4, _ => rfl | 5, _ => rfl | 6, _ => rfl | 7, _ => rfl | 8, _ => rfl) ?_
  refine ax_hvA w149 (fun h150 g150 f150 z150 w150 => ?_)
  refine ax_dup (pc := 147) G dX2_init_147 rfl ?_
  refine ax_cIN0 (pc := 148) (kb := 0) (nb := 108) G (ct_init_X8 hA) lIX2_69 dX2_init_148 rfl (by decide) (Nat.le_of_ble_eq_true rfl) rfl ?_
  refine ax_putfF (pc := 151) G flFX2_77_1 rfl dX2_init_151 ((f150 _ (by omega)).trans (g149)) (by omega) (Nat.le_of_ble_eq_true rfl) rfl rfl ?_
  refine ax_hvS w150 (by omega) (fun h151 g151 f151 z151 w151 => ?_)
  replace g151 : h151.1 a = some (.inr (1, [.null, .ref h.2, .ref h118.2, .ref h121.2, .ref h123.2, .ref h125.2, .ref h127.2, .ref h129.2, .ref h131.2, .ref h133.2, .ref h135.2, .ref h137.2, .ref h139.2, .ref h141.2, .ref h143.2, .int (nI 0), .int (nI 0), .int (nI 0), .int (nI 0), .int (nI 0), .int (nI 0), .int (nI 0), .int (nI 0), .ref h145.2, .ref h147.2, .ref h149.2])) := g151
  refine ax_aload_n (pc := 154) G dX2_init_154 rfl rfl ?_
  refine ax_aload_n (pc := 155) G dX2_init_155 rfl rfl ?_
  refine ax_putf (pc := 156) G flX2_80_1 dX2_init_156 (g151) (by omega) (Nat.le_of_ble_eq_true rfl) rfl rfl ?_
  refine ax_hvS w151 (by omega) (fun h152 g152 f152 z152 w152 => ?_)
  replace g152 : h152.1 a = some (.inr (1, [.ref sc, .ref h.2, .ref h118.2, .ref h121.2, .ref h123.2, .ref h125.2, .ref h127.2, .ref h129.2, .ref h131.2, .ref h133.2, .ref h135.2, .ref h137.2, .ref h139.2, .ref h141.2, .ref h143.2, .int (nI 0), .int (nI 0), .int (nI 0), .int (nI 0), .int (nI 0), .int (nI 0), .int (nI 0), .int (nI 0), .ref h145.2, .ref h147.2, .ref h149.2])) := g152
  exact ax_vretP (pc := 159) G E rfl dX2_init_159 (⟨_, rfl, rfl, sH_self (by show h152.1 a = some (.inr (1, sF a (cZ (.ref sc) (a + 1)))); unfold sF cZ; rw [show a + 1 = h.2 from by omega, show a + 2 = h118.2 from by omega, show a + 4 = h121.2 from by omega, show a + 5 = h123.2 from by omega, show a + 6 = h125.2 from by omega, show a + 7 = h127.2 from by omega, show a + 8 = h129.2 from by omega, show a + 9 = h131.2 from by omega, show a + 10 = h133.2 from by omega, show a + 11 = h135.2 from by omega, show a + 12 = h137.2 from by omega, show a + 13 = h139.2 from by omega, show a + 14 = h141.2 from by omega, show a + 15 = h143.2 from by omega, show a + 16 = h145.2 from by omega, show a + 17 = h147.2 from by omega, show a + 18 = h149.2 from by omega]; exact g152) (by rw [show a + 4 = h121.2 from by omega]; exact (f152 _ (by omega)).trans ((f151 _ (by omega)).trans ((f150 _ (by omega)).trans ((f149 _ (by omega)).trans ((f148 _ (by omega)).trans ((f147 _ (by omega)).trans ((f146 _ (by omega)).trans ((f145 _ (by omega)).trans ((f144 _ (by omega)).trans ((f143 _ (by omega)).trans ((f142 _ (by omega)).trans ((f141 _ (by omega)).trans ((f140 _ (by omega)).trans ((f139 _ (by omega)).trans ((f138 _ (by omega)).trans ((f137 _ (by omega)).trans ((f136 _ (by omega)).trans ((f135 _ (by omega)).trans ((f134 _ (by omega)).trans ((f133 _ (by omega)).trans ((f132 _ (by omega)).trans ((f131 _ (by omega)).trans ((f130 _ (by omega)).trans ((f129 _ (by omega)).trans ((f128 _ (by omega)).trans ((f127 _ (by omega)).trans ((f126 _ (by omega)).trans ((f125 _ (by omega)).trans ((f124 _ (by omega)).trans ((f123 _ (by omega)).trans (g122))))))))))))))))))))))))))))))) (by rw [show a + 5 = h123.2 from by omega]; exact (f152 _ (by omega)).trans ((f151 _ (by omega)).trans ((f150 _ (by omega)).trans ((f149 _ (by omega)).trans ((f148 _ (by omega)).trans ((f147 _ (by omega)).trans ((f146 _ (by omega)).trans ((f145 _ (by omega)).trans ((f144 _ (by omega)).trans ((f143 _ (by omega)).trans ((f142 _ (by omega)).trans ((f141 _ (by omega)).trans ((f140 _ (by omega)).trans ((f139 _ (by omega)).trans ((f138 _ (by omega)).trans ((f137 _ (by omega)).trans ((f136 _ (by omega)).trans ((f135 _ (by omega)).trans ((f134 _ (by omega)).trans ((f133 _ (by omega)).trans ((f132 _ (by omega)).trans ((f131 _ (by omega)).trans ((f130 _ (by omega)).trans ((f129 _ (by omega)).trans ((f128 _ (by omega)).trans ((f127 _ (by omega)).trans ((f126 _ (by omega)).trans ((f125 _ (by omega)).trans (g124))))))))))))))))))))))))))))) (by rw [show a + 6 = h125.2 from by omega]; exact (f152 _ (by omega)).trans ((f151 _ (by omega)).trans ((f150 _ (by omega)).trans ((f149 _ (by omega)).trans ((f148 _ (by omega)).trans ((f147 _ (by omega)).trans ((f146 _ (by omega)).trans ((f145 _ (by omega)).trans ((f144 _ (by omega)).trans ((f143 _ (by omega)).trans ((f142 _ (by omega)).trans ((f141 _ (by omega)).trans ((f140 _ (by omega)).trans ((f139 _ (by omega)).trans ((f138 _ (by omega)).trans ((f137 _ (by omega)).trans ((f136 _ (by omega)).trans ((f135 _ (by omega)).trans ((f134 _ (by omega)).trans ((f133 _ (by omega)).trans ((f132 _ (by omega)).trans ((f131 _ (by omega)).trans ((f130 _ (by omega)).trans ((f129 _ (by omega)).trans ((f128 _ (by omega)).trans ((f127 _ (by omega)).trans (g126))))))))))))))))))))))))))) (by rw [show a + 7 = h127.2 from by omega]; exact (f152 _ (by omega)).trans ((f151 _ (by omega)).trans ((f150 _ (by omega)).trans ((f149 _ (by omega)).trans ((f148 _ (by omega)).trans ((f147 _ (by omega)).trans ((f146 _ (by omega)).trans ((f145 _ (by omega)).trans ((f144 _ (by omega)).trans ((f143 _ (by omega)).trans ((f142 _ (by omega)).trans ((f141 _ (by omega)).trans ((f140 _ (by omega)).trans ((f139 _ (by omega)).trans ((f138 _ (by omega)).trans ((f137 _ (by omega)).trans ((f136 _ (by omega)).trans ((f135 _ (by omega)).trans ((f134 _ (by omega)).trans ((f133 _ (by omega)).trans ((f132 _ (by omega)).trans ((f131 _ (by omega)).trans ((f130 _ (by omega)).trans ((f129 _ (by omega)).trans (g128))))))))))))))))))))))))) (by rw [show a + 8 = h129.2 from by omega]; exact (f152 _ (by omega)).trans ((f151 _ (by omega)).trans ((f150 _ (by omega)).trans ((f149 _ (by omega)).trans ((f148 _ (by omega)).trans ((f147 _ (by omega)).trans ((f146 _ (by omega)).trans ((f145 _ (by omega)).trans ((f144 _ (by omega)).trans ((f143 _ (by omega)).trans ((f142 _ (by omega)).trans ((f141 _ (by omega)).trans ((f140 _ (by omega)).trans ((f139 _ (by omega)).trans ((f138 _ (by omega)).trans ((f137 _ (by omega)).trans ((f136 _ (by omega)).trans ((f135 _ (by omega)).trans ((f134 _ (by omega)).trans ((f133 _ (by omega)).trans ((f132 _ (by omega)).trans ((f131 _ (by omega)).trans (g130))))))))))))))))))))))) (by rw [show a + 9 = h131.2 from by omega]; exact (f152 _ (by omega)).trans ((f151 _ (by omega)).trans ((f150 _ (by omega)).trans ((f149 _ (by omega)).trans ((f148 _ (by omega)).trans ((f147 _ (by omega)).trans ((f146 _ (by omega)).trans ((f145 _ (by omega)).trans ((f144 _ (by omega)).trans ((f143 _ (by omega)).trans ((f142 _ (by omega)).trans ((f141 _ (by omega)).trans ((f140 _ (by omega)).trans ((f139 _ (by omega)).trans ((f138 _ (by omega)).trans ((f137 _ (by omega)).trans ((f136 _ (by omega)).trans ((f135 _ (by omega)).trans ((f134 _ (by omega)).trans ((f133 _ (by omega)).trans (g132))))))))))))))))))))) (by rw [show a + 10 = h133.2 from by omega]; exact (f152 _ (by omega)).trans ((f151 _ (by omega)).trans ((f150 _ (by omega)).trans ((f149 _ (by omega)).trans ((f148 _ (by omega)).trans ((f147 _ (by omega)).trans ((f146 _ (by omega)).trans ((f145 _ (by omega)).trans ((f144 _ (by omega)).trans ((f143 _ (by omega)).trans ((f142 _ (by omega)).trans ((f141 _ (by omega)).trans ((f140 _ (by omega)).trans ((f139 _ (by omega)).trans ((f138 _ (by omega)).trans ((f137 _ (by omega)).trans ((f136 _ (by omega)).trans ((f135 _ (by omega)).trans (g134))))))))))))))))))) (by rw [show a + 11 = h135.2 from by omega]; exact (f152 _ (by omega)).trans ((f151 _ (by omega)).trans ((f150 _ (by omega)).trans ((f149 _ (by omega)).trans ((f148 _ (by omega)).trans ((f147 _ (by omega)).trans ((f146 _ (by omega)).trans ((f145 _ (by omega)).trans ((f144 _ (by omega)).trans ((f143 _ (by omega)).trans ((f142 _ (by omega)).trans ((f141 _ (by omega)).trans ((f140 _ (by omega)).trans ((f139 _ (by omega)).trans ((f138 _ (by omega)).trans ((f137 _ (by omega)).trans (g136))))))))))))))))) (by rw [show a + 12 = h137.2 from by omega]; exact (f152 _ (by omega)).trans ((f151 _ (by omega)).trans ((f150 _ (by omega)).trans ((f149 _ (by omega)).trans ((f148 _ (by omega)).trans ((f147 _ (by omega)).trans ((f146 _ (by omega)).trans ((f145 _ (by omega)).trans ((f144 _ (by omega)).trans ((f143 _ (by omega)).trans ((f142 _ (by omega)).trans ((f141 _ (by omega)).trans ((f140 _ (by omega)).trans ((f139 _ (by omega)).trans (g138))))))))))))))) (by rw [show a + 13 = h139.2 from by omega]; exact (f152 _ (by omega)).trans ((f151 _ (by omega)).trans ((f150 _ (by omega)).trans ((f149 _ (by omega)).trans ((f148 _ (by omega)).trans ((f147 _ (by omega)).trans ((f146 _ (by omega)).trans ((f145 _ (by omega)).trans ((f144 _ (by omega)).trans ((f143 _ (by omega)).trans ((f142 _ (by omega)).trans ((f141 _ (by omega)).trans (g140))))))))))))) (by rw [show a + 14 = h141.2 from by omega]; exact (f152 _ (by omega)).trans ((f151 _ (by omega)).trans ((f150 _ (by omega)).trans ((f149 _ (by omega)).trans ((f148 _ (by omega)).trans ((f147 _ (by omega)).trans ((f146 _ (by omega)).trans ((f145 _ (by omega)).trans ((f144 _ (by omega)).trans ((f143 _ (by omega)).trans (g142))))))))))) (by rw [show a + 15 = h143.2 from by omega]; exact (f152 _ (by omega)).trans ((f151 _ (by omega)).trans ((f150 _ (by omega)).trans ((f149 _ (by omega)).trans ((f148 _ (by omega)).trans ((f147 _ (by omega)).trans ((f146 _ (by omega)).trans ((f145 _ (by omega)).trans (g144))))))))) (by rw [show a + 16 = h145.2 from by omega]; exact (f152 _ (by omega)).trans ((f151 _ (by omega)).trans ((f150 _ (by omega)).trans ((f149 _ (by omega)).trans ((f148 _ (by omega)).trans ((f147 _ (by omega)).trans (g146))))))) (by rw [show a + 17 = h147.2 from by omega]; exact (f152 _ (by omega)).trans ((f151 _ (by omega)).trans ((f150 _ (by omega)).trans ((f149 _ (by omega)).trans (g148))))) (by rw [show a + 18 = h149.2 from by omega]; exact (f152 _ (by omega)).trans ((f151 _ (by omega)).trans (g150))), by rw [show a + 1 = h.2 from by omega]; exact (f152 _ (by omega)).trans ((f151 _ (by omega)).trans ((f150 _ (by omega)).trans ((f149 _ (by omega)).trans ((f148 _ (by omega)).trans ((f147 _ (by omega)).trans ((f146 _ (by omega)).trans ((f145 _ (by omega)).trans ((f144 _ (by omega)).trans ((f143 _ (by omega)).trans ((f142 _ (by omega)).trans ((f141 _ (by omega)).trans ((f140 _ (by omega)).trans ((f139 _ (by omega)).trans ((f138 _ (by omega)).trans ((f137 _ (by omega)).trans ((f136 _ (by omega)).trans ((f135 _ (by omega)).trans ((f134 _ (by omega)).trans ((f133 _ (by omega)).trans ((f132 _ (by omega)).trans ((f131 _ (by omega)).trans ((f130 _ (by omega)).trans ((f129 _ (by omega)).trans ((f128 _ (by omega)).trans ((f127 _ (by omega)).trans ((f126 _ (by omega)).trans ((f125 _ (by omega)).trans ((f124 _ (by omega)).trans ((f123 _ (by omega)).trans ((f122 _ (by omega)).trans ((f121 _ (by omega)).trans ((f120 _ (by omega) (by omega)).trans ((f119 _ (by omega)).trans ((f118 _ (by omega)).trans (g117))))))))))))))))))))))))))))))))))), by rw [show a + 2 = h118.2 from by omega, show a + 3 = h119.2 from by omega]; exact (f152 _ (by omega)).trans ((f151 _ (by omega)).trans ((f150 _ (by omega)).trans ((f149 _ (by omega)).trans ((f148 _ (by omega)).trans ((f147 _ (by omega)).trans ((f146 _ (by omega)).trans ((f145 _ (by omega)).trans ((f144 _ (by omega)).trans ((f143 _ (by omega)).trans ((f142 _ (by omega)).trans ((f141 _ (by omega)).trans ((f140 _ (by omega)).trans ((f139 _ (by omega)).trans ((f138 _ (by omega)).trans ((f137 _ (by omega)).trans ((f136 _ (by omega)).trans ((f135 _ (by omega)).trans ((f134 _ (by omega)).trans ((f133 _ (by omega)).trans ((f132 _ (by omega)).trans ((f131 _ (by omega)).trans ((f130 _ (by omega)).trans ((f129 _ (by omega)).trans ((f128 _ (by omega)).trans ((f127 _ (by omega)).trans ((f126 _ (by omega)).trans ((f125 _ (by omega)).trans ((f124 _ (by omega)).trans ((f123 _ (by omega)).trans ((f122 _ (by omega)).trans ((f121 _ (by omega)).trans (g120)))))))))))))))))))))))))))))))), by rw [show a + 3 = h119.2 from by omega]; exact (f152 _ (by omega)).trans ((f151 _ (by omega)).trans ((f150 _ (by omega)).trans ((f149 _ (by omega)).trans ((f148 _ (by omega)).trans ((f147 _ (by omega)).trans ((f146 _ (by omega)).trans ((f145 _ (by omega)).trans ((f144 _ (by omega)).trans ((f143 _ (by omega)).trans ((f142 _ (by omega)).trans ((f141 _ (by omega)).trans ((f140 _ (by omega)).trans ((f139 _ (by omega)).trans ((f138 _ (by omega)).trans ((f137 _ (by omega)).trans ((f136 _ (by omega)).trans ((f135 _ (by omega)).trans ((f134 _ (by omega)).trans ((f133 _ (by omega)).trans ((f132 _ (by omega)).trans ((f131 _ (by omega)).trans ((f130 _ (by omega)).trans ((f129 _ (by omega)).trans ((f128 _ (by omega)).trans ((f127 _ (by omega)).trans ((f126 _ (by omega)).trans ((f125 _ (by omega)).trans ((f124 _ (by omega)).trans ((f123 _ (by omega)).trans ((f122 _ (by omega)).trans ((f121 _ (by omega)).trans (k120)))))))))))))))))))))))))))))))), fun q a1 => (f152 _ (by omega)).trans ((f151 _ (by omega)).trans ((f150 _ (by omega)).trans ((f149 _ (by omega)).trans ((f148 _ (by omega)).trans ((f147 _ (by omega)).trans ((f146 _ (by omega)).trans ((f145 _ (by omega)).trans ((f144 _ (by omega)).trans ((f143 _ (by omega)).trans ((f142 _ (by omega)).trans ((f141 _ (by omega)).trans ((f140 _ (by omega)).trans ((f139 _ (by omega)).trans ((f138 _ (by omega)).trans ((f137 _ (by omega)).trans ((f136 _ (by omega)).trans ((f135 _ (by omega)).trans ((f134 _ (by omega)).trans ((f133 _ (by omega)).trans ((f132 _ (by omega)).trans ((f131 _ (by omega)).trans ((f130 _ (by omega)).trans ((f129 _ (by omega)).trans ((f128 _ (by omega)).trans ((f127 _ (by omega)).trans ((f126 _ (by omega)).trans ((f125 _ (by omega)).trans ((f124 _ (by omega)).trans ((f123 _ (by omega)).trans ((f122 _ (by omega)).trans ((f121 _ (by omega)).trans ((f120 _ (by omega) (by omega)).trans ((f119 _ (by omega)).trans ((f118 _ (by omega)).trans ((f117 _ (by omega) )))))))))))))))))))))))))))))))))))), by omega, w152⟩)

theorem ct_stinitN {Ω : ax_O} (hA : ax_Amb Ω) {h : ax_H} (wf : ax_wf h) (hz : Ω.2.1.heap.size ≤ h.2) {a : Nat} (hO : h.1 a = some (.inr (1, [.null, .null, .null, .null, .null, .null, .null, .null, .null, .null, .null, .null, .null, .null, .null, .int (nI 0), .int (nI 0), .int (nI 0), .int (nI 0), .int (nI 0), .int (nI 0), .int (nI 0), .int (nI 0), .null, .null, .null]))) (hbO : Ω.2.1.heap.size ≤ a) (ha : h.2 = a + 1)  : ax_MetP Ω yX2_init 5 18 700 [.ref a, .null] h (ax_Nm (fun v h' => v = none ∧ sIs h' a (cZ (.null) (a + 1)) ∧ h'.1 (a + 1) = some (.inr (2, [])) ∧ h'.1 (a + 2) = some (.inr (16, [.int (nI 0), .ref (a + 3), .int (nI 0)])) ∧ h'.1 (a + 3) = some (.inl (.object "java/lang/Object", 4, .inr (.inr (.inr (.inr fun _ => none))))) ∧ (∀ q, q < a → h'.1 q = h.1 q) ∧ h'.2 = a + 19 ∧ ax_wf h')) := by
  refine ax_metP q172 q114 (by decide +kernel) (by decide) hA (Nat.le_of_ble_eq_true rfl) (fun Γ G E => ?_)
  have hlO := wf.lt hO
  show ax_W Ω Γ 18 700 h 0 [some (.ref a), some (.null)] []
  refine ax_aload_n (pc := 0) G dX2_init_0 rfl rfl ?_
  refine ax_objInit (pc := 1) G (by decide) q173 q166 q167 dX2_init_1 (Nat.le_of_ble_eq_true rfl) ?_
  refine ax_aload_n (pc := 4) G dX2_init_4 rfl rfl ?_
  refine ax_iconst (pc := 5) (v := nI 0) G dX2_init_5 ic_0 ?_
  refine ax_nS (pc := 6) (kb := 17) (nb := 700) G (ct_rof hA wf (by omega) 0 (by omega)) lSX2_9 dX2_init_6 rfl (by decide) (Nat.le_of_ble_eq_true rfl) rfl (fun v153 h153 q9 => ?_)
  obtain ⟨rfl, g153, f153, z153, w153⟩ := q9
  show ax_W Ω Γ _ _ (h153) _ _ (.ref h.2 :: _)
  refine ax_putf (pc := 9) G flX2_15_1 dX2_init_9 ((f153 _ (by omega) ).trans (hO)) (by omega) (Nat.le_of_ble_eq_true rfl) rfl rfl ?_
  refine ax_hvS w153 (by omega) (fun h154 g154 f154 z154 w154 => ?_)
  replace g154 : h154.1 a = some (.inr (1, [.null, .ref h.2, .null, .null, .null, .null, .null, .null, .null, .null, .null, .null, .null, .null, .null, .int (nI 0), .int (nI 0), .int (nI 0), .int (nI 0), .int (nI 0), .int (nI 0), .int (nI 0), .int (nI 0), .null, .null, .null])) := g154
  refine ax_aload_n (pc := 12) G dX2_init_12 rfl rfl ?_
  refine ax_new (pc := 13) (ci := 16) (kb := 16) (nb := 697) G [.int (nI 0), .null, .int (nI 0)] dX2_init_13 rfl cok_J2 rfl q206 q207 q122 (fun j hj => by match j, hj with | 0, _ => rfl | 1, _ => rfl | 2, _ => rfl) ?_
  refine ax_hvA w154 (fun h155 g155 f155 z155 w155 => ?_)
  refine ax_dup (pc := 16) G dX2_init_16 rfl ?_
  refine ax_iconst (pc := 17) (v := nI 4) G dX2_init_17 ic_4 ?_
  refine ax_nI (pc := 18) (kb := 15) (nb := 667) G (ct_linit hA w155 (by omega) (g155) (by omega) 4 (by omega) (by omega)) lIX2_23 dX2_init_18 rfl (by decide) (Nat.le_of_ble_eq_true rfl) rfl (fun v156 h156 q9 => ?_)
  obtain ⟨rfl, g156, k156, f156, z156, w156⟩ := q9
  show ax_W Ω Γ _ _ (h156) _ _ (_)
  refine ax_putfF (pc := 21) G flFX2_26_1 rfl dX2_init_21 ((f156 _ (by omega) (by omega)).trans ((f155 _ (by omega)).trans (g154))) (by omega) (Nat.le_of_ble_eq_true rfl) rfl rfl ?_
  refine ax_hvS w156 (by omega) (fun h157 g157 f157 z157 w157 => ?_)
  replace g157 : h157.1 a = some (.inr (1, [.null, .ref h.2, .ref h154.2, .null, .null, .null, .null, .null, .null, .null, .null, .null, .null, .null, .null, .int (nI 0), .int (nI 0), .int (nI 0), .int (nI 0), .int (nI 0), .int (nI 0), .int (nI 0), .int (nI 0), .null, .null, .null])) := g157
  refine ax_aload_n (pc := 24) G dX2_init_24 rfl rfl ?_
  refine ax_bipush (pc := 25) (v := nI 6) G dX2_init_25 ib_6 ?_
  refine ax_newarray (pc := 27) (kb := 14) (nb := 661) G 6 (6, .inl fun _ => 0) dX2_init_27 rfl q600 rfl (by omega) rfl (fun j => rfl) ?_
  refine ax_hvA w157 (fun h158 g158 f158 z158 w158 => ?_)
  refine ax_putfF (pc := 29) G flFX2_30_1 rfl dX2_init_29 ((f158 _ (by omega)).trans (g157)) (by omega) (Nat.le_of_ble_eq_true rfl) rfl rfl ?_
  refine ax_hvS w158 (by omega) (fun h159 g159 f159 z159 w159 => ?_)
  replace g159 : h159.1 a = some (.inr (1, [.null, .ref h.2, .ref h154.2, .ref h157.2, .null, .null, .null, .null, .null, .null, .null, .null, .null, .null, .null, .int (nI 0), .int (nI 0), .int (nI 0), .int (nI 0), .int (nI 0), .int (nI 0), .int (nI 0), .int (nI 0), .null, .null, .null])) := g159
  refine ax_aload_n (pc := 32) G dX2_init_32 rfl rfl ?_
  refine ax_bipush (pc := 33) (v := nI 6) G dX2_init_33 ib_6 ?_
  refine ax_newarray (pc := 35) (kb := 13) (nb := 655) G 6 (6, .inl fun _ => 0) dX2_init_35 rfl q600 rfl (by omega) rfl (fun j => rfl) ?_
  refine ax_hvA w159 (fun h160 g160 f160 z160 w160 => ?_)
  refine ax_putfF (pc := 37) G flFX2_34_1 rfl dX2_init_37 ((f160 _ (by omega)).trans (g159)) (by omega) (Nat.le_of_ble_eq_true rfl) rfl rfl ?_
  refine ax_hvS w160 (by omega) (fun h161 g161 f161 z161 w161 => ?_)
  replace g161 : h161.1 a = some (.inr (1, [.null, .ref h.2, .ref h154.2, .ref h157.2, .ref h159.2, .null, .null, .null, .null, .null, .null, .null, .null, .null, .null, .int (nI 0), .int (nI 0), .int (nI 0), .int (nI 0), .int (nI 0), .int (nI 0), .int (nI 0), .int (nI 0), .null, .null, .null])) := g161
  refine ax_aload_n (pc := 40) G dX2_init_40 rfl rfl ?_
  refine ax_bipush (pc := 41) (v := nI 6) G dX2_init_41 ib_6 ?_
  refine ax_newarray (pc := 43) (kb := 12) (nb := 649) G 6 (6, .inl fun _ => 0) dX2_init_43 rfl q600 rfl (by omega) rfl (fun j => rfl) ?_
  refine ax_hvA w161 (fun h162 g162 f162 z162 w162 => ?_)
  refine ax_putfF (pc := 45) G flFX2_37_1 rfl dX2_init_45 ((f162 _ (by omega)).trans (g161)) (by omega) (Nat.le_of_ble_eq_true rfl) rfl rfl ?_
  refine ax_hvS w162 (by omega) (fun h163 g163 f163 z163 w163 => ?_)
  replace g163 : h163.1 a = some (.inr (1, [.null, .ref h.2, .ref h154.2, .ref h157.2, .ref h159.2, .ref h161.2, .null, .null, .null, .null, .null, .null, .null, .null, .null, .int (nI 0), .int (nI 0), .int (nI 0), .int (nI 0), .int (nI 0), .int (nI 0), .int (nI 0), .int (nI 0), .null, .null, .null])) := g163
  refine ax_aload_n (pc := 48) G dX2_init_48 rfl rfl ?_
  refine ax_bipush (pc := 49) (v := nI 6) G dX2_init_49 ib_6 ?_
  refine ax_newarray (pc := 51) (kb := 11) (nb := 643) G 6 (6, .inl fun _ => 0) dX2_init_51 rfl q600 rfl (by omega) rfl (fun j => rfl) ?_
  refine ax_hvA w163 (fun h164 g164 f164 z164 w164 => ?_)
  refine ax_putfF (pc := 53) G flFX2_40_1 rfl dX2_init_53 ((f164 _ (by omega)).trans (g163)) (by omega) (Nat.le_of_ble_eq_true rfl) rfl rfl ?_
  refine ax_hvS w164 (by omega) (fun h165 g165 f165 z165 w165 => ?_)
  replace g165 : h165.1 a = some (.inr (1, [.null, .ref h.2, .ref h154.2, .ref h157.2, .ref h159.2, .ref h161.2, .ref h163.2, .null, .null, .null, .null, .null, .null, .null, .null, .int (nI 0), .int (nI 0), .int (nI 0), .int (nI 0), .int (nI 0), .int (nI 0), .int (nI 0), .int (nI 0), .null, .null, .null])) := g165
  refine ax_aload_n (pc := 56) G dX2_init_56 rfl rfl ?_
  refine ax_bipush (pc := 57) (v := nI 20) G dX2_init_57 ib_20 ?_
  refine ax_newarray (pc := 59) (kb := 10) (nb := 623) G 20 (20, .inl fun _ => 0) dX2_init_59 rfl q600 rfl (by omega) rfl (fun j => rfl) ?_
  refine ax_hvA w165 (fun h166 g166 f166 z166 w166 => ?_)
  refine ax_putfF (pc := 61) G flFX2_43_1 rfl dX2_init_61 ((f166 _ (by omega)).trans (g165)) (by omega) (Nat.le_of_ble_eq_true rfl) rfl rfl ?_
  refine ax_hvS w166 (by omega) (fun h167 g167 f167 z167 w167 => ?_)
  replace g167 : h167.1 a = some (.inr (1, [.null, .ref h.2, .ref h154.2, .ref h157.2, .ref h159.2, .ref h161.2, .ref h163.2, .ref h165.2, .null, .null, .null, .null, .null, .null, .null, .int (nI 0), .int (nI 0), .int (nI 0), .int (nI 0), .int (nI 0), .int (nI 0), .int (nI 0), .int (nI 0), .null, .null, .null])) := g167
  refine ax_aload_n (pc := 64) G dX2_init_64 rfl rfl ?_
  refine ax_bipush (pc := 65) (v := nI 20) G dX2_init_65 ib_20 ?_
  refine ax_newarray (pc := 67) (kb := 9) (nb := 603) G 20 (20, .inl fun _ => 0) dX2_init_67 rfl q600 rfl (by omega) rfl (fun j => rfl) ?_
  refine ax_hvA w167 (fun h168 g168 f168 z168 w168 => ?_)
  refine ax_putfF (pc := 69) G flFX2_46_1 rfl dX2_init_69 ((f168 _ (by omega)).trans (g167)) (by omega) (Nat.le_of_ble_eq_true rfl) rfl rfl ?_
  refine ax_hvS w168 (by omega) (fun h169 g169 f169 z169 w169 => ?_)
  replace g169 : h169.1 a = some (.inr (1, [.null, .ref h.2, .ref h154.2, .ref h157.2, .ref h159.2, .ref h161.2, .ref h163.2, .ref h165.2, .ref h167.2, .null, .null, .null, .null, .null, .null, .int (nI 0), .int (nI 0), .int (nI 0), .int (nI 0), .int (nI 0), .int (nI 0), .int (nI 0), .int (nI 0), .null, .null, .null])) := g169
  refine ax_aload_n (pc := 72) G dX2_init_72 rfl rfl ?_
  refine ax_bipush (pc := 73) (v := nI 20) G dX2_init_73 ib_20 ?_
  refine ax_newarray (pc := 75) (kb := 8) (nb := 583) G 20 (20, .inl fun _ => 0) dX2_init_75 rfl q600 rfl (by omega) rfl (fun j => rfl) ?_
  refine ax_hvA w169 (fun h170 g170 f170 z170 w170 => ?_)
  refine ax_putfF (pc := 77) G flFX2_49_1 rfl dX2_init_77 ((f170 _ (by omega)).trans (g169)) (by omega) (Nat.le_of_ble_eq_true rfl) rfl rfl ?_
  refine ax_hvS w170 (by omega) (fun h171 g171 f171 z171 w171 => ?_)
  replace g171 : h171.1 a = some (.inr (1, [.null, .ref h.2, .ref h154.2, .ref h157.2, .ref h159.2, .ref h161.2, .ref h163.2, .ref h165.2, .ref h167.2, .ref h169.2, .null, .null, .null, .null, .null, .int (nI 0), .int (nI 0), .int (nI 0), .int (nI 0), .int (nI 0), .int (nI 0), .int (nI 0), .int (nI 0), .null, .null, .null])) := g171
  refine ax_aload_n (pc := 80) G dX2_init_80 rfl rfl ?_
  refine ax_bipush (pc := 81) (v := nI 20) G dX2_init_81 ib_20 ?_
  refine ax_newarray (pc := 83) (kb := 7) (nb := 563) G 20 (20, .inl fun _ => 0) dX2_init_83 rfl q600 rfl (by omega) rfl (fun j => rfl) ?_
  refine ax_hvA w171 (fun h172 g172 f172 z172 w172 => ?_)
  refine ax_putfF (pc := 85) G flFX2_52_1 rfl dX2_init_85 ((f172 _ (by omega)).trans (g171)) (by omega) (Nat.le_of_ble_eq_true rfl) rfl rfl ?_
  refine ax_hvS w172 (by omega) (fun h173 g173 f173 z173 w173 => ?_)
  replace g173 : h173.1 a = some (.inr (1, [.null, .ref h.2, .ref h154.2, .ref h157.2, .ref h159.2, .ref h161.2, .ref h163.2, .ref h165.2, .ref h167.2, .ref h169.2, .ref h171.2, .null, .null, .null, .null, .int (nI 0), .int (nI 0), .int (nI 0), .int (nI 0), .int (nI 0), .int (nI 0), .int (nI 0), .int (nI 0), .null, .null, .null])) := g173
  refine ax_aload_n (pc := 88) G dX2_init_88 rfl rfl ?_
  refine ax_bipush (pc := 89) (v := nI 10) G dX2_init_89 ib_10 ?_
  refine ax_newarray (pc := 91) (kb := 6) (nb := 553) G 10 (10, .inl fun _ => 0) dX2_init_91 rfl q600 rfl (by omega) rfl (fun j => rfl) ?_
  refine ax_hvA w173 (fun h174 g174 f174 z174 w174 => ?_)
  refine ax_putfF (pc := 93) G flFX2_55_1 rfl dX2_init_93 ((f174 _ (by omega)).trans (g173)) (by omega) (Nat.le_of_ble_eq_true rfl) rfl rfl ?_
  refine ax_hvS w174 (by omega) (fun h175 g175 f175 z175 w175 => ?_)
  replace g175 : h175.1 a = some (.inr (1, [.null, .ref h.2, .ref h154.2, .ref h157.2, .ref h159.2, .ref h161.2, .ref h163.2, .ref h165.2, .ref h167.2, .ref h169.2, .ref h171.2, .ref h173.2, .null, .null, .null, .int (nI 0), .int (nI 0), .int (nI 0), .int (nI 0), .int (nI 0), .int (nI 0), .int (nI 0), .int (nI 0), .null, .null, .null])) := g175
  refine ax_aload_n (pc := 96) G dX2_init_96 rfl rfl ?_
  refine ax_bipush (pc := 97) (v := nI 10) G dX2_init_97 ib_10 ?_
  refine ax_newarray (pc := 99) (kb := 5) (nb := 543) G 10 (10, .inl fun _ => 0) dX2_init_99 rfl q600 rfl (by omega) rfl (fun j => rfl) ?_
  refine ax_hvA w175 (fun h176 g176 f176 z176 w176 => ?_)
  refine ax_putfF (pc := 101) G flFX2_58_1 rfl dX2_init_101 ((f176 _ (by omega)).trans (g175)) (by omega) (Nat.le_of_ble_eq_true rfl) rfl rfl ?_
  refine ax_hvS w176 (by omega) (fun h177 g177 f177 z177 w177 => ?_)
  replace g177 : h177.1 a = some (.inr (1, [.null, .ref h.2, .ref h154.2, .ref h157.2, .ref h159.2, .ref h161.2, .ref h163.2, .ref h165.2, .ref h167.2, .ref h169.2, .ref h171.2, .ref h173.2, .ref h175.2, .null, .null, .int (nI 0), .int (nI 0), .int (nI 0), .int (nI 0), .int (nI 0), .int (nI 0), .int (nI 0), .int (nI 0), .null, .null, .null])) := g177
  refine ax_aload_n (pc := 104) G dX2_init_104 rfl rfl ?_
  refine ax_bipush (pc := 105) (v := nI 8) G dX2_init_105 ib_8 ?_
  refine ax_newarray (pc := 107) (kb := 4) (nb := 535) G 8 (8, .inl fun _ => 0) dX2_init_107 rfl q600 rfl (by omega) rfl (fun j => rfl) ?_
  refine ax_hvA w177 (fun h178 g178 f178 z178 w178 => ?_)
  refine ax_putfF (pc := 109) G flFX2_61_1 rfl dX2_init_109 ((f178 _ (by omega)).trans (g177)) (by omega) (Nat.le_of_ble_eq_true rfl) rfl rfl ?_
  refine ax_hvS w178 (by omega) (fun h179 g179 f179 z179 w179 => ?_)
  replace g179 : h179.1 a = some (.inr (1, [.null, .ref h.2, .ref h154.2, .ref h157.2, .ref h159.2, .ref h161.2, .ref h163.2, .ref h165.2, .ref h167.2, .ref h169.2, .ref h171.2, .ref h173.2, .ref h175.2, .ref h177.2, .null, .int (nI 0), .int (nI 0), .int (nI 0), .int (nI 0), .int (nI 0), .int (nI 0), .int (nI 0), .int (nI 0), .null, .null, .null])) := g179
  refine ax_aload_n (pc := 112) G dX2_init_112 rfl rfl ?_
  refine ax_sipush (pc := 113) (v := nI 400) G dX2_init_113 is_400 ?_
  refine ax_newarray (pc := 116) (kb := 3) (nb := 135) G 400 (400, .inl fun _ => 0) dX2_init_116 rfl q600 rfl (by omega) rfl (fun j => rfl) ?_
  refine ax_hvA w179 (fun h180 g180 f180 z180 w180 => ?_)
  refine ax_putfF (pc := 118) G flFX2_64_1 rfl dX2_init_118 ((f180 _ (by omega)).trans (g179)) (by omega) (Nat.le_of_ble_eq_true rfl) rfl rfl ?_
  refine ax_hvS w180 (by omega) (fun h181 g181 f181 z181 w181 => ?_)
  replace g181 : h181.1 a = some (.inr (1, [.null, .ref h.2, .ref h154.2, .ref h157.2, .ref h159.2, .ref h161.2, .ref h163.2, .ref h165.2, .ref h167.2, .ref h169.2, .ref h171.2, .ref h173.2, .ref h175.2, .ref h177.2, .ref h179.2, .int (nI 0), .int (nI 0), .int (nI 0), .int (nI 0), .int (nI 0), .int (nI 0), .int (nI 0), .int (nI 0), .null, .null, .null])) := g181
  refine ax_aload_n (pc := 121) G dX2_init_121 rfl rfl ?_
  refine ax_new (pc := 122) (ci := 6) (kb := 2) (nb := 126) G [.null, .int (nI 0), .int (nI 0), .int (nI 0), .int (nI 0), .int (nI 0), .int (nI 0), .int (nI 0), .int (nI 0)] dX2_init_122 rfl cok_X8 rfl q551 q552 q139 (fun j hj => by match j, hj with | 0, _ => rfl | 1, _ => rfl | 2, _ => rfl | 3, _ => rfl | 4, _ => rfl | 5, _ => rfl | 6, _ => rfl | 7, _ => rfl | 8, _ => rfl) ?_
  refine ax_hvA w181 (fun h182 g182 f182 z182 w182 => ?_)
  refine ax_dup (pc := 125) G dX2_init_125 rfl ?_
  refine ax_cIN0 (pc := 126) (kb := 2) (nb := 126) G (ct_init_X8 hA) lIX2_69 dX2_init_126 rfl (by decide) (Nat.le_of_ble_eq_true rfl) rfl ?_
  refine ax_putfF (pc := 129) G flFX2_70_1 rfl dX2_init_129 ((f182 _ (by omega)).trans (g181)) (by omega) (Nat.le_of_ble_eq_true rfl) rfl rfl ?_
  refine ax_hvS w182 (by omega) (fun h183 g183 f183 z183 w183 => ?_)
  replace g183 : h183.1 a = some (.inr (1, [.null, .ref h.2, .ref h154.2, .ref h157.2, .ref h159.2, .ref h161.2, .ref h163.2, .ref h165.2, .ref h167.2, .ref h169.2, .ref h171.2, .ref h173.2, .ref h175.2, .ref h177.2, .ref h179.2, .int (nI 0), .int (nI 0), .int (nI 0), .int (nI 0), .int (nI 0), .int (nI 0), .int (nI 0), .int (nI 0), .ref h181.2, .null, .null])) := g183
  refine ax_aload_n (pc := 132) G dX2_init_132 rfl rfl ?_
  refine ax_new (pc := 133) (ci := 6) (kb := 1) (nb := 117) G [.null, .int (nI 0), .int (nI 0), .int (nI 0), .int (nI 0), .int (nI 0), .int (nI 0), .int (nI 0), .int (nI 0)] dX2_init_133 rfl cok_X8 rfl q551 q552 q139 (fun j hj => by match j, hj with | 0, _ => rfl | 1, _ => rfl | 2, _ => rfl | 3, _ => rfl | 4, _ => rfl | 5, _ => rfl | 6, _ => rfl | 7, _ => rfl | 8, _ => rfl) ?_
  refine ax_hvA w183 (fun h184 g184 f184 z184 w184 => ?_)
  refine ax_dup (pc := 136) G dX2_init_136 rfl ?_
  refine ax_cIN0 (pc := 137) (kb := 1) (nb := 117) G (ct_init_X8 hA) lIX2_69 dX2_init_137 rfl (by decide) (Nat.le_of_ble_eq_true rfl) rfl ?_
  refine ax_putfF (pc := 140) G flFX2_74_1 rfl dX2_init_140 ((f184 _ (by omega)).trans (g183)) (by omega) (Nat.le_of_ble_eq_true rfl) rfl rfl ?_
  refine ax_hvS w184 (by omega) (fun h185 g185 f185 z185 w185 => ?_)
  replace g185 : h185.1 a = some (.inr (1, [.null, .ref h.2, .ref h154.2, .ref h157.2, .ref h159.2, .ref h161.2, .ref h163.2, .ref h165.2, .ref h167.2, .ref h169.2, .ref h171.2, .ref h173.2, .ref h175.2, .ref h177.2, .ref h179.2, .int (nI 0), .int (nI 0), .int (nI 0), .int (nI 0), .int (nI 0), .int (nI 0), .int (nI 0), .int (nI 0), .ref h181.2, .ref h183.2, .null])) := g185
  refine ax_aload_n (pc := 143) G dX2_init_143 rfl rfl ?_
  refine ax_new (pc := 144) (ci := 6) (kb := 0) (nb := 108) G [.null, .int (nI 0), .int (nI 0), .int (nI 0), .int (nI 0), .int (nI 0), .int (nI 0), .int (nI 0), .int (nI 0)] dX2_init_144 rfl cok_X8 rfl q551 q552 q139 (fun j hj => by match j, hj with | 0, _ => rfl | 1, _ => rfl | 2, _ => rfl | 3, _ => rfl | 4, _ => rfl | 5, _ => rfl | 6, _ => rfl | 7, _ => rfl | 8, _ => rfl) ?_
  refine ax_hvA w185 (fun h186 g186 f186 z186 w186 => ?_)
  refine ax_dup (pc := 147) G dX2_init_147 rfl ?_
  refine ax_cIN0 (pc := 148) (kb := 0) (nb := 108) G (ct_init_X8 hA) lIX2_69 dX2_init_148 rfl (by decide) (Nat.le_of_ble_eq_true rfl) rfl ?_
  refine ax_putfF (pc := 151) G flFX2_77_1 rfl dX2_init_151 ((f186 _ (by omega)).trans (g185)) (by omega) (Nat.le_of_ble_eq_true rfl) rfl rfl ?_
  refine ax_hvS w186 (by omega) (fun h187 g187 f187 z187 w187 => ?_)
  replace g187 : h187.1 a = some (.inr (1, [.null, .ref h.2, .ref h154.2, .ref h157.2, .ref h159.2, .ref h161.2, .ref h163.2, .ref h165.2, .ref h167.2, .ref h169.2, .ref h171.2, .ref h173.2, .ref h175.2, .ref h177.2, .ref h179.2, .int (nI 0), .int (nI 0), .int (nI 0), .int (nI 0), .int (nI 0), .int (nI 0), .int (nI 0), .int (nI 0), .ref h181.2, .ref h183.2, .ref h185.2])) := g187
  refine ax_aload_n (pc := 154) G dX2_init_154 rfl rfl ?_
  refine ax_aload_nN (pc := 155) G dX2_init_155 rfl rfl ?_
  refine ax_putf (pc := 156) G flX2_80_1 dX2_init_156 (g187) (by omega) (Nat.le_of_ble_eq_true rfl) rfl rfl ?_
  refine ax_hvS w187 (by omega) (fun h188 g188 f188 z188 w188 => ?_)
  replace g188 : h188.1 a = some (.inr (1, [.null, .ref h.2, .ref h154.2, .ref h157.2, .ref h159.2, .ref h161.2, .ref h163.2, .ref h165.2, .ref h167.2, .ref h169.2, .ref h171.2, .ref h173.2, .ref h175.2, .ref h177.2, .ref h179.2, .int (nI 0), .int (nI 0), .int (nI 0), .int (nI 0), .int (nI 0), .int (nI 0), .int (nI 0), .int (nI 0), .ref h181.2, .ref h183.2, .ref h185.2])) := g188
  exact ax_vretP (pc := 159) G E rfl dX2_init_159 (⟨_, rfl, rfl, sH_self (by show h188.1 a = some (.inr (1, sF a (cZ (.null) (a + 1)))); unfold sF cZ; rw [show a + 1 = h.2 from by omega, show a + 2 = h154.2 from by omega, show a + 4 = h157.2 from by omega, show a + 5 = h159.2 from by omega, show a + 6 = h161.2 from by omega, show a + 7 = h163.2 from by omega, show a + 8 = h165.2 from by omega, show a + 9 = h167.2 from by omega, show a + 10 = h169.2 from by omega, show a + 11 = h171.2 from by omega, show a + 12 = h173.2 from by omega, show a + 13 = h175.2 from by omega, show a + 14 = h177.2 from by omega, show a + 15 = h179.2 from by omega, show a + 16 = h181.2 from by omega, show a + 17 = h183.2 from by omega, show a + 18 = h185.2 from by omega]; exact g188) (by rw [show a + 4 = h157.2 from by omega]; exact (f188 _ (by omega)).trans ((f187 _ (by omega)).trans ((f186 _ (by omega)).trans ((f185 _ (by omega)).trans ((f184 _ (by omega)).trans ((f183 _ (by omega)).trans ((f182 _ (by omega)).trans ((f181 _ (by omega)).trans ((f180 _ (by omega)).trans ((f179 _ (by omega)).trans ((f178 _ (by omega)).trans ((f177 _ (by omega)).trans ((f176 _ (by omega)).trans ((f175 _ (by omega)).trans ((f174 _ (by omega)).trans ((f173 _ (by omega)).trans ((f172 _ (by omega)).trans ((f171 _ (by omega)).trans ((f170 _ (by omega)).trans ((f169 _ (by omega)).trans ((f168 _ (by omega)).trans ((f167 _ (by omega)).trans ((f166 _ (by omega)).trans ((f165 _ (by omega)).trans ((f164 _ (by omega)).trans ((f163 _ (by omega)).trans ((f162 _ (by omega)).trans ((f161 _ (by omega)).trans ((f160 _ (by omega)).trans ((f159 _ (by omega)).trans (g158))))))))))))))))))))))))))))))) (by rw [show a + 5 = h159.2 from by omega]; exact (f188 _ (by omega)).trans ((f187 _ (by omega)).trans ((f186 _ (by omega)).trans ((f185 _ (by omega)).trans ((f184 _ (by omega)).trans ((f183 _ (by omega)).trans ((f182 _ (by omega)).trans ((f181 _ (by omega)).trans ((f180 _ (by omega)).trans ((f179 _ (by omega)).trans ((f178 _ (by omega)).trans ((f177 _ (by omega)).trans ((f176 _ (by omega)).trans ((f175 _ (by omega)).trans ((f174 _ (by omega)).trans ((f173 _ (by omega)).trans ((f172 _ (by omega)).trans ((f171 _ (by omega)).trans ((f170 _ (by omega)).trans ((f169 _ (by omega)).trans ((f168 _ (by omega)).trans ((f167 _ (by omega)).trans ((f166 _ (by omega)).trans ((f165 _ (by omega)).trans ((f164 _ (by omega)).trans ((f163 _ (by omega)).trans ((f162 _ (by omega)).trans ((f161 _ (by omega)).trans (g160))))))))))))))))))))))))))))) (by rw [show a + 6 = h161.2 from by omega]; exact (f188 _ (by omega)).trans ((f187 _ (by omega)).trans ((f186 _ (by omega)).trans ((f185 _ (by omega)).trans ((f184 _ (by omega)).trans ((f183 _ (by omega)).trans ((f182 _ (by omega)).trans ((f181 _ (by omega)).trans ((f180 _ (by omega)).trans ((f179 _ (by omega)).trans ((f178 _ (by omega)).trans ((f177 _ (by omega)).trans ((f176 _ (by omega)).trans ((f175 _ (by omega)).trans ((f174 _ (by omega)).trans ((f173 _ (by omega)).trans ((f172 _ (by omega)).trans ((f171 _ (by omega)).trans ((f170 _ (by omega)).trans ((f169 _ (by omega)).trans ((f168 _ (by omega)).trans ((f167 _ (by omega)).trans ((f166 _ (by omega)).trans ((f165 _ (by omega)).trans ((f164 _ (by omega)).trans ((f163 _ (by omega)).trans (g162))))))))))))))))))))))))))) (by rw [show a + 7 = h163.2 from by omega]; exact (f188 _ (by omega)).trans ((f187 _ (by omega)).trans ((f186 _ (by omega)).trans ((f185 _ (by omega)).trans ((f184 _ (by omega)).trans ((f183 _ (by omega)).trans ((f182 _ (by omega)).trans ((f181 _ (by omega)).trans ((f180 _ (by omega)).trans ((f179 _ (by omega)).trans ((f178 _ (by omega)).trans ((f177 _ (by omega)).trans ((f176 _ (by omega)).trans ((f175 _ (by omega)).trans ((f174 _ (by omega)).trans ((f173 _ (by omega)).trans ((f172 _ (by omega)).trans ((f171 _ (by omega)).trans ((f170 _ (by omega)).trans ((f169 _ (by omega)).trans ((f168 _ (by omega)).trans ((f167 _ (by omega)).trans ((f166 _ (by omega)).trans ((f165 _ (by omega)).trans (g164))))))))))))))))))))))))) (by rw [show a + 8 = h165.2 from by omega]; exact (f188 _ (by omega)).trans ((f187 _ (by omega)).trans ((f186 _ (by omega)).trans ((f185 _ (by omega)).trans ((f184 _ (by omega)).trans ((f183 _ (by omega)).trans ((f182 _ (by omega)).trans ((f181 _ (by omega)).trans ((f180 _ (by omega)).trans ((f179 _ (by omega)).trans ((f178 _ (by omega)).trans ((f177 _ (by omega)).trans ((f176 _ (by omega)).trans ((f175 _ (by omega)).trans ((f174 _ (by omega)).trans ((f173 _ (by omega)).trans ((f172 _ (by omega)).trans ((f171 _ (by omega)).trans ((f170 _ (by omega)).trans ((f169 _ (by omega)).trans ((f168 _ (by omega)).trans ((f167 _ (by omega)).trans (g166))))))))))))))))))))))) (by rw [show a + 9 = h167.2 from by omega]; exact (f188 _ (by omega)).trans ((f187 _ (by omega)).trans ((f186 _ (by omega)).trans ((f185 _ (by omega)).trans ((f184 _ (by omega)).trans ((f183 _ (by omega)).trans ((f182 _ (by omega)).trans ((f181 _ (by omega)).trans ((f180 _ (by omega)).trans ((f179 _ (by omega)).trans ((f178 _ (by omega)).trans ((f177 _ (by omega)).trans ((f176 _ (by omega)).trans ((f175 _ (by omega)).trans ((f174 _ (by omega)).trans ((f173 _ (by omega)).trans ((f172 _ (by omega)).trans ((f171 _ (by omega)).trans ((f170 _ (by omega)).trans ((f169 _ (by omega)).trans (g168))))))))))))))))))))) (by rw [show a + 10 = h169.2 from by omega]; exact (f188 _ (by omega)).trans ((f187 _ (by omega)).trans ((f186 _ (by omega)).trans ((f185 _ (by omega)).trans ((f184 _ (by omega)).trans ((f183 _ (by omega)).trans ((f182 _ (by omega)).trans ((f181 _ (by omega)).trans ((f180 _ (by omega)).trans ((f179 _ (by omega)).trans ((f178 _ (by omega)).trans ((f177 _ (by omega)).trans ((f176 _ (by omega)).trans ((f175 _ (by omega)).trans ((f174 _ (by omega)).trans ((f173 _ (by omega)).trans ((f172 _ (by omega)).trans ((f171 _ (by omega)).trans (g170))))))))))))))))))) (by rw [show a + 11 = h171.2 from by omega]; exact (f188 _ (by omega)).trans ((f187 _ (by omega)).trans ((f186 _ (by omega)).trans ((f185 _ (by omega)).trans ((f184 _ (by omega)).trans ((f183 _ (by omega)).trans ((f182 _ (by omega)).trans ((f181 _ (by omega)).trans ((f180 _ (by omega)).trans ((f179 _ (by omega)).trans ((f178 _ (by omega)).trans ((f177 _ (by omega)).trans ((f176 _ (by omega)).trans ((f175 _ (by omega)).trans ((f174 _ (by omega)).trans ((f173 _ (by omega)).trans (g172))))))))))))))))) (by rw [show a + 12 = h173.2 from by omega]; exact (f188 _ (by omega)).trans ((f187 _ (by omega)).trans ((f186 _ (by omega)).trans ((f185 _ (by omega)).trans ((f184 _ (by omega)).trans ((f183 _ (by omega)).trans ((f182 _ (by omega)).trans ((f181 _ (by omega)).trans ((f180 _ (by omega)).trans ((f179 _ (by omega)).trans ((f178 _ (by omega)).trans ((f177 _ (by omega)).trans ((f176 _ (by omega)).trans ((f175 _ (by omega)).trans (g174))))))))))))))) (by rw [show a + 13 = h175.2 from by omega]; exact (f188 _ (by omega)).trans ((f187 _ (by omega)).trans ((f186 _ (by omega)).trans ((f185 _ (by omega)).trans ((f184 _ (by omega)).trans ((f183 _ (by omega)).trans ((f182 _ (by omega)).trans ((f181 _ (by omega)).trans ((f180 _ (by omega)).trans ((f179 _ (by omega)).trans ((f178 _ (by omega)).trans ((f177 _ (by omega)).trans (g176))))))))))))) (by rw [show a + 14 = h177.2 from by omega]; exact (f188 _ (by omega)).trans ((f187 _ (by omega)).trans ((f186 _ (by omega)).trans ((f185 _ (by omega)).trans ((f184 _ (by omega)).trans ((f183 _ (by omega)).trans ((f182 _ (by omega)).trans ((f181 _ (by omega)).trans ((f180 _ (by omega)).trans ((f179 _ (by omega)).trans (g178))))))))))) (by rw [show a + 15 = h179.2 from by omega]; exact (f188 _ (by omega)).trans ((f187 _ (by omega)).trans ((f186 _ (by omega)).trans ((f185 _ (by omega)).trans ((f184 _ (by omega)).trans ((f183 _ (by omega)).trans ((f182 _ (by omega)).trans ((f181 _ (by omega)).trans (g180))))))))) (by rw [show a + 16 = h181.2 from by omega]; exact (f188 _ (by omega)).trans ((f187 _ (by omega)).trans ((f186 _ (by omega)).trans ((f185 _ (by omega)).trans ((f184 _ (by omega)).trans ((f183 _ (by omega)).trans (g182))))))) (by rw [show a + 17 = h183.2 from by omega]; exact (f188 _ (by omega)).trans ((f187 _ (by omega)).trans ((f186 _ (by omega)).trans ((f185 _ (by omega)).trans (g184))))) (by rw [show a + 18 = h185.2 from by omega]; exact (f188 _ (by omega)).trans ((f187 _ (by omega)).trans (g186))), by rw [show a + 1 = h.2 from by omega]; exact (f188 _ (by omega)).trans ((f187 _ (by omega)).trans ((f186 _ (by omega)).trans ((f185 _ (by omega)).trans ((f184 _ (by omega)).trans ((f183 _ (by omega)).trans ((f182 _ (by omega)).trans ((f181 _ (by omega)).trans ((f180 _ (by omega)).trans ((f179 _ (by omega)).trans ((f178 _ (by omega)).trans ((f177 _ (by omega)).trans ((f176 _ (by omega)).trans ((f175 _ (by omega)).trans ((f174 _ (by omega)).trans ((f173 _ (by omega)).trans ((f172 _ (by omega)).trans ((f171 _ (by omega)).trans ((f170 _ (by omega)).trans ((f169 _ (by omega)).trans ((f168 _ (by omega)).trans ((f167 _ (by omega)).trans ((f166 _ (by omega)).trans ((f165 _ (by omega)).trans ((f164 _ (by omega)).trans ((f163 _ (by omega)).trans ((f162 _ (by omega)).trans ((f161 _ (by omega)).trans ((f160 _ (by omega)).trans ((f159 _ (by omega)).trans ((f158 _ (by omega)).trans ((f157 _ (by omega)).trans ((f156 _ (by omega) (by omega)).trans ((f155 _ (by omega)).trans ((f154 _ (by omega)).trans (g153))))))))))))))))))))))))))))))))))), by rw [show a + 2 = h154.2 from by omega, show a + 3 = h155.2 from by omega]; exact (f188 _ (by omega)).trans ((f187 _ (by omega)).trans ((f186 _ (by omega)).trans ((f185 _ (by omega)).trans ((f184 _ (by omega)).trans ((f183 _ (by omega)).trans ((f182 _ (by omega)).trans ((f181 _ (by omega)).trans ((f180 _ (by omega)).trans ((f179 _ (by omega)).trans ((f178 _ (by omega)).trans ((f177 _ (by omega)).trans ((f176 _ (by omega)).trans ((f175 _ (by omega)).trans ((f174 _ (by omega)).trans ((f173 _ (by omega)).trans ((f172 _ (by omega)).trans ((f171 _ (by omega)).trans ((f170 _ (by omega)).trans ((f169 _ (by omega)).trans ((f168 _ (by omega)).trans ((f167 _ (by omega)).trans ((f166 _ (by omega)).trans ((f165 _ (by omega)).trans ((f164 _ (by omega)).trans ((f163 _ (by omega)).trans ((f162 _ (by omega)).trans ((f161 _ (by omega)).trans ((f160 _ (by omega)).trans ((f159 _ (by omega)).trans ((f158 _ (by omega)).trans ((f157 _ (by omega)).trans (g156)))))))))))))))))))))))))))))))), by rw [show a + 3 = h155.2 from by omega]; exact (f188 _ (by omega)).trans ((f187 _ (by omega)).trans ((f186 _ (by omega)).trans ((f185 _ (by omega)).trans ((f184 _ (by omega)).trans ((f183 _ (by omega)).trans ((f182 _ (by omega)).trans ((f181 _ (by omega)).trans ((f180 _ (by omega)).trans ((f179 _ (by omega)).trans ((f178 _ (by omega)).trans ((f177 _ (by omega)).trans ((f176 _ (by omega)).trans ((f175 _ (by omega)).trans ((f174 _ (by omega)).trans ((f173 _ (by omega)).trans ((f172 _ (by omega)).trans ((f171 _ (by omega)).trans ((f170 _ (by omega)).trans ((f169 _ (by omega)).trans ((f168 _ (by omega)).trans ((f167 _ (by omega)).trans ((f166 _ (by omega)).trans ((f165 _ (by omega)).trans ((f164 _ (by omega)).trans ((f163 _ (by omega)).trans ((f162 _ (by omega)).trans ((f161 _ (by omega)).trans ((f160 _ (by omega)).trans ((f159 _ (by omega)).trans ((f158 _ (by omega)).trans ((f157 _ (by omega)).trans (k156)))))))))))))))))))))))))))))))), fun q a1 => (f188 _ (by omega)).trans ((f187 _ (by omega)).trans ((f186 _ (by omega)).trans ((f185 _ (by omega)).trans ((f184 _ (by omega)).trans ((f183 _ (by omega)).trans ((f182 _ (by omega)).trans ((f181 _ (by omega)).trans ((f180 _ (by omega)).trans ((f179 _ (by omega)).trans ((f178 _ (by omega)).trans ((f177 _ (by omega)).trans ((f176 _ (by omega)).trans ((f175 _ (by omega)).trans ((f174 _ (by omega)).trans ((f173 _ (by omega)).trans ((f172 _ (by omega)).trans ((f171 _ (by omega)).trans ((f170 _ (by omega)).trans ((f169 _ (by omega)).trans ((f168 _ (by omega)).trans ((f167 _ (by omega)).trans ((f166 _ (by omega)).trans ((f165 _ (by omega)).trans ((f164 _ (by omega)).trans ((f163 _ (by omega)).trans ((f162 _ (by omega)).trans ((f161 _ (by omega)).trans ((f160 _ (by omega)).trans ((f159 _ (by omega)).trans ((f158 _ (by omega)).trans ((f157 _ (by omega)).trans ((f156 _ (by omega) (by omega)).trans ((f155 _ (by omega)).trans ((f154 _ (by omega)).trans ((f153 _ (by omega) )))))))))))))))))))))))))))))))))))), by omega, w188⟩)

