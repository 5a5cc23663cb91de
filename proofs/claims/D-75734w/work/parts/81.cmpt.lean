/-! THE COMPONENT: flaws -/
theorem ct_finit3 {Ω : ax_O} (hA : ax_Amb Ω) {h : ax_H} (wf : ax_wf h) (hz : Ω.2.1.heap.size ≤ h.2) {a : Nat} (hO : h.1 a = some (.inr (11, [.null, .null, .null, .null, .null, .int (nI 0), .int (nI 0), .int (nI 0)]))) (hbO : Ω.2.1.heap.size ≤ a)  : ax_MetP Ω yJ3_init_3 1 0 0 [.ref a, .null, .null, .int (nI 0), .int (nI 0)] h (ax_Nm (fun v h' => v = none ∧ h'.1 a = some (.inr (11, [.null, .null, .null, .null, .null, .int (nI 0), .int (nI 0), .int (nI 0)])) ∧ (∀ q, q ≠ a → h'.1 q = h.1 q) ∧ h'.2 = h.2 ∧ ax_wf h')) := by
  refine ax_metP q1071 q123 (by decide +kernel) (by decide) hA (Nat.le_of_ble_eq_true rfl) (fun Γ G E => ?_)
  have hlO := wf.lt hO
  show ax_W Ω Γ 0 0 h 0 [some (.ref a), some (.null), some (.null), some (.int (nI 0)), some (.int (nI 0))] []
  refine ax_aload_n (pc := 0) G dJ3_init_3_0 rfl rfl ?_
  refine ax_objInit (pc := 1) G (by decide) q247 q166 q167 dJ3_init_3_1 (Nat.le_of_ble_eq_true rfl) ?_
  refine ax_aload_n (pc := 4) G dJ3_init_3_4 rfl rfl ?_
  refine ax_aload_n (pc := 5) G dJ3_init_3_5 rfl rfl ?_
  refine ax_putf (pc := 6) G flJ3_7_11 dJ3_init_3_6 (hO) (by omega) (Nat.le_of_ble_eq_true rfl) rfl rfl ?_
  refine ax_hvS wf (by omega) (fun h211 g211 f211 z211 w211 => ?_)
  replace g211 : h211.1 a = some (.inr (11, [.ref a, .null, .null, .null, .null, .int (nI 0), .int (nI 0), .int (nI 0)])) := g211
  refine ax_aload_n (pc := 9) G dJ3_init_3_9 rfl rfl ?_
  rcases hA.2.2.2.2.1.1.1 with z9 | ⟨t10, z9⟩
  · refine ax_getsZ (pc := 10) G z9 q248 dJ3_init_3_10 ?_
    refine ax_putf (pc := 13) G flJ3_17_11 dJ3_init_3_13 (g211) (by omega) (Nat.le_of_ble_eq_true rfl) rfl rfl ?_
    refine ax_hvS w211 (by omega) (fun h212 g212 f212 z212 w212 => ?_)
    replace g212 : h212.1 a = some (.inr (11, [.ref a, .null, .null, .null, .null, .int (nI 0), .int (nI 0), .int (nI 0)])) := g212
    refine ax_aload_n (pc := 16) G dJ3_init_3_16 rfl rfl ?_
    rcases hA.2.2.2.2.1.2.1 with z9 | ⟨t17, z9⟩
    · refine ax_getsZ (pc := 17) G z9 q250 dJ3_init_3_17 ?_
      refine ax_putf (pc := 20) G flJ3_24_11 dJ3_init_3_20 (g212) (by omega) (Nat.le_of_ble_eq_true rfl) rfl rfl ?_
      refine ax_hvS w212 (by omega) (fun h213 g213 f213 z213 w213 => ?_)
      replace g213 : h213.1 a = some (.inr (11, [.ref a, .null, .null, .null, .null, .int (nI 0), .int (nI 0), .int (nI 0)])) := g213
      refine ax_iload (pc := 23) G dJ3_init_3_23 rfl ?_
      refine ax_if_eq (pc := 25) (tgt := 36) G dJ3_init_3_25 rfl (fun _ => ?_) (fun c9 => absurd rfl c9)
      refine ax_aload_n (pc := 36) G dJ3_init_3_36 rfl rfl ?_
      refine ax_null (pc := 37) G dJ3_init_3_37 ?_
      refine ax_putf (pc := 38) G flJ3_17_11 dJ3_init_3_38 (g213) (by omega) (Nat.le_of_ble_eq_true rfl) rfl rfl ?_
      refine ax_hvS w213 (by omega) (fun h214 g214 f214 z214 w214 => ?_)
      replace g214 : h214.1 a = some (.inr (11, [.ref a, .null, .null, .null, .null, .int (nI 0), .int (nI 0), .int (nI 0)])) := g214
      refine ax_aload_n (pc := 41) G dJ3_init_3_41 rfl rfl ?_
      refine ax_aload_nN (pc := 42) G dJ3_init_3_42 rfl rfl ?_
      refine ax_putf (pc := 43) G flJ3_31_11 dJ3_init_3_43 (g214) (by omega) (Nat.le_of_ble_eq_true rfl) rfl rfl ?_
      refine ax_hvS w214 (by omega) (fun h215 g215 f215 z215 w215 => ?_)
      replace g215 : h215.1 a = some (.inr (11, [.ref a, .null, .null, .null, .null, .int (nI 0), .int (nI 0), .int (nI 0)])) := g215
      refine ax_aload_n (pc := 46) G dJ3_init_3_46 rfl rfl ?_
      refine ax_aload_nN (pc := 47) G dJ3_init_3_47 rfl rfl ?_
      refine ax_putf (pc := 48) G flJ3_7_11 dJ3_init_3_48 (g215) (by omega) (Nat.le_of_ble_eq_true rfl) rfl rfl ?_
      refine ax_hvS w215 (by omega) (fun h216 g216 f216 z216 w216 => ?_)
      replace g216 : h216.1 a = some (.inr (11, [.null, .null, .null, .null, .null, .int (nI 0), .int (nI 0), .int (nI 0)])) := g216
      refine ax_iload_n (pc := 51) G dJ3_init_3_51 rfl rfl ?_
      refine ax_if_ne (pc := 52) (tgt := 60) G dJ3_init_3_52 rfl (fun c9 => absurd rfl c9) (fun _ => ?_)
      refine ax_aload_n (pc := 55) G dJ3_init_3_55 rfl rfl ?_
      refine ax_null (pc := 56) G dJ3_init_3_56 ?_
      refine ax_putf (pc := 57) G flJ3_24_11 dJ3_init_3_57 (g216) (by omega) (Nat.le_of_ble_eq_true rfl) rfl rfl ?_
      refine ax_hvS w216 (by omega) (fun h217 g217 f217 z217 w217 => ?_)
      replace g217 : h217.1 a = some (.inr (11, [.null, .null, .null, .null, .null, .int (nI 0), .int (nI 0), .int (nI 0)])) := g217
      exact ax_vretP (pc := 60) G E rfl dJ3_init_3_60 (⟨_, rfl, rfl, g217, fun q a1 => (f217 _ (by omega)).trans ((f216 _ (by omega)).trans ((f215 _ (by omega)).trans ((f214 _ (by omega)).trans ((f213 _ (by omega)).trans ((f212 _ (by omega)).trans ((f211 _ (by omega)))))))), by omega, w217⟩)
    · refine ax_getsZ (pc := 17) G z9 q250 dJ3_init_3_17 ?_
      refine ax_putf (pc := 20) G flJ3_24_11 dJ3_init_3_20 (g212) (by omega) (Nat.le_of_ble_eq_true rfl) rfl rfl ?_
      refine ax_hvS w212 (by omega) (fun h218 g218 f218 z218 w218 => ?_)
      replace g218 : h218.1 a = some (.inr (11, [.ref a, .null, .ref t17, .null, .null, .int (nI 0), .int (nI 0), .int (nI 0)])) := g218
      refine ax_iload (pc := 23) G dJ3_init_3_23 rfl ?_
      refine ax_if_eq (pc := 25) (tgt := 36) G dJ3_init_3_25 rfl (fun _ => ?_) (fun c9 => absurd rfl c9)
      refine ax_aload_n (pc := 36) G dJ3_init_3_36 rfl rfl ?_
      refine ax_null (pc := 37) G dJ3_init_3_37 ?_
      refine ax_putf (pc := 38) G flJ3_17_11 dJ3_init_3_38 (g218) (by omega) (Nat.le_of_ble_eq_true rfl) rfl rfl ?_
      refine ax_hvS w218 (by omega) (fun h219 g219 f219 z219 w219 => ?_)
      replace g219 : h219.1 a = some (.inr (11, [.ref a, .null, .ref t17, .null, .null, .int (nI 0), .int (nI 0), .int (nI 0)])) := g219
      refine ax_aload_n (pc := 41) G dJ3_init_3_41 rfl rfl ?_
      refine ax_aload_nN (pc := 42) G dJ3_init_3_42 rfl rfl ?_
      refine ax_putf (pc := 43) G flJ3_31_11 dJ3_init_3_43 (g219) (by omega) (Nat.le_of_ble_eq_true rfl) rfl rfl ?_
      refine ax_hvS w219 (by omega) (fun h220 g220 f220 z220 w220 => ?_)
      replace g220 : h220.1 a = some (.inr (11, [.ref a, .null, .ref t17, .null, .null, .int (nI 0), .int (nI 0), .int (nI 0)])) := g220
      refine ax_aload_n (pc := 46) G dJ3_init_3_46 rfl rfl ?_
      refine ax_aload_nN (pc := 47) G dJ3_init_3_47 rfl rfl ?_
      refine ax_putf (pc := 48) G flJ3_7_11 dJ3_init_3_48 (g220) (by omega) (Nat.le_of_ble_eq_true rfl) rfl rfl ?_
      refine ax_hvS w220 (by omega) (fun h221 g221 f221 z221 w221 => ?_)
      replace g221 : h221.1 a = some (.inr (11, [.null, .null, .ref t17, .null, .null, .int (nI 0), .int (nI 0), .int (nI 0)])) := g221
      refine ax_iload_n (pc := 51) G dJ3_init_3_51 rfl rfl ?_
      refine ax_if_ne (pc := 52) (tgt := 60) G dJ3_init_3_52 rfl (fun c9 => absurd rfl c9) (fun _ => ?_)
      refine ax_aload_n (pc := 55) G dJ3_init_3_55 rfl rfl ?_
      refine ax_null (pc := 56) G dJ3_init_3_56 ?_
      refine ax_putf (pc := 57) G flJ3_24_11 dJ3_init_3_57 (g221) (by omega) (Nat.le_of_ble_eq_true rfl) rfl rfl ?_
      refine ax_hvS w221 (by omega) (fun h222 g222 f222 z222 w222 => ?_)
      replace g222 : h222.1 a = some (.inr (11, [.null, .null, .null, .null, .null, .int (nI 0), .int (nI 0), .int (nI 0)])) := g222
      exact ax_vretP (pc := 60) G E rfl dJ3_init_3_60 (⟨_, rfl, rfl, g222, fun q a1 => (f222 _ (by omega)).trans ((f221 _ (by omega)).trans ((f220 _ (by omega)).trans ((f219 _ (by omega)).trans ((f218 _ (by omega)).trans ((f212 _ (by omega)).trans ((f211 _ (by omega)))))))), by omega, w222⟩)
  · refine ax_getsZ (pc := 10) G z9 q248 dJ3_init_3_10 ?_
    refine ax_putf (pc := 13) G flJ3_17_11 dJ3_init_3_13 (g211) (by omega) (Nat.le_of_ble_eq_true rfl) rfl rfl ?_
    refine ax_hvS w211 (by omega) (fun h223 g223 f223 z223 w223 => ?_)
    replace g223 : h223.1 a = some (.inr (11, [.ref a, .ref t10, .null, .null, .null, .int (nI 0), .int (nI 0), .int (nI 0)])) := g223
    refine ax_aload_n (pc := 16) G dJ3_init_3_16 rfl rfl ?_
    rcases hA.2.2.2.2.1.2.1 with z9 | ⟨t17, z9⟩
    · refine ax_getsZ (pc := 17) G z9 q250 dJ3_init_3_17 ?_
      refine ax_putf (pc := 20) G flJ3_24_11 dJ3_init_3_20 (g223) (by omega) (Nat.le_of_ble_eq_true rfl) rfl rfl ?_
      refine ax_hvS w223 (by omega) (fun h224 g224 f224 z224 w224 => ?_)
      replace g224 : h224.1 a = some (.inr (11, [.ref a, .ref t10, .null, .null, .null, .int (nI 0), .int (nI 0), .int (nI 0)])) := g224
      refine ax_iload (pc := 23) G dJ3_init_3_23 rfl ?_
      refine ax_if_eq (pc := 25) (tgt := 36) G dJ3_init_3_25 rfl (fun _ => ?_) (fun c9 => absurd rfl c9)
      refine ax_aload_n (pc := 36) G dJ3_init_3_36 rfl rfl ?_
      refine ax_null (pc := 37) G dJ3_init_3_37 ?_
      refine ax_putf (pc := 38) G flJ3_17_11 dJ3_init_3_38 (g224) (by omega) (Nat.le_of_ble_eq_true rfl) rfl rfl ?_
      refine ax_hvS w224 (by omega) (fun h225 g225 f225 z225 w225 => ?_)
      replace g225 : h225.1 a = some (.inr (11, [.ref a, .null, .null, .null, .null, .int (nI 0), .int (nI 0), .int (nI 0)])) := g225
      refine ax_aload_n (pc := 41) G dJ3_init_3_41 rfl rfl ?_
      refine ax_aload_nN (pc := 42) G dJ3_init_3_42 rfl rfl ?_
      refine ax_putf (pc := 43) G flJ3_31_11 dJ3_init_3_43 (g225) (by omega) (Nat.le_of_ble_eq_true rfl) rfl rfl ?_
      refine ax_hvS w225 (by omega) (fun h226 g226 f226 z226 w226 => ?_)
      replace g226 : h226.1 a = some (.inr (11, [.ref a, .null, .null, .null, .null, .int (nI 0), .int (nI 0), .int (nI 0)])) := g226
      refine ax_aload_n (pc := 46) G dJ3_init_3_46 rfl rfl ?_
      refine ax_aload_nN (pc := 47) G dJ3_init_3_47 rfl rfl ?_
      refine ax_putf (pc := 48) G flJ3_7_11 dJ3_init_3_48 (g226) (by omega) (Nat.le_of_ble_eq_true rfl) rfl rfl ?_
      refine ax_hvS w226 (by omega) (fun h227 g227 f227 z227 w227 => ?_)
      replace g227 : h227.1 a = some (.inr (11, [.null, .null, .null, .null, .null, .int (nI 0), .int (nI 0), .int (nI 0)])) := g227
      refine ax_iload_n (pc := 51) G dJ3_init_3_51 rfl rfl ?_
      refine ax_if_ne (pc := 52) (tgt := 60) G dJ3_init_3_52 rfl (fun c9 => absurd rfl c9) (fun _ => ?_)
      refine ax_aload_n (pc := 55) G dJ3_init_3_55 rfl rfl ?_
      refine ax_null (pc := 56) G dJ3_init_3_56 ?_
      refine ax_putf (pc := 57) G flJ3_24_11 dJ3_init_3_57 (g227) (by omega) (Nat.le_of_ble_eq_true rfl) rfl rfl ?_
      refine ax_hvS w227 (by omega) (fun h228 g228 f228 z228 w228 => ?_)
      replace g228 : h228.1 a = some (.inr (11, [.null, .null, .null, .null, .null, .int (nI 0), .int (nI 0), .int (nI 0)])) := g228
      exact ax_vretP (pc := 60) G E rfl dJ3_init_3_60 (⟨_, rfl, rfl, g228, fun q a1 => (f228 _ (by omega)).trans ((f227 _ (by omega)).trans ((f226 _ (by omega)).trans ((f225 _ (by omega)).trans ((f224 _ (by omega)).trans ((f223 _ (by omega)).trans ((f211 _ (by omega)))))))), by omega, w228⟩)
    · refine ax_getsZ (pc := 17) G z9 q250 dJ3_init_3_17 ?_
      refine ax_putf (pc := 20) G flJ3_24_11 dJ3_init_3_20 (g223) (by omega) (Nat.le_of_ble_eq_true rfl) rfl rfl ?_
      refine ax_hvS w223 (by omega) (fun h229 g229 f229 z229 w229 => ?_)
      replace g229 : h229.1 a = some (.inr (11, [.ref a, .ref t10, .ref t17, .null, .null, .int (nI 0), .int (nI 0), .int (nI 0)])) := g229
      refine ax_iload (pc := 23) G dJ3_init_3_23 rfl ?_
      refine ax_if_eq (pc := 25) (tgt := 36) G dJ3_init_3_25 rfl (fun _ => ?_) (fun c9 => absurd rfl c9)
      refine ax_aload_n (pc := 36) G dJ3_init_3_36 rfl rfl ?_
      refine ax_null (pc := 37) G dJ3_init_3_37 ?_
      refine ax_putf (pc := 38) G flJ3_17_11 dJ3_init_3_38 (g229) (by omega) (Nat.le_of_ble_eq_true rfl) rfl rfl ?_
      refine ax_hvS w229 (by omega) (fun h230 g230 f230 z230 w230 => ?_)
      replace g230 : h230.1 a = some (.inr (11, [.ref a, .null, .ref t17, .null, .null, .int (nI 0), .int (nI 0), .int (nI 0)])) := g230
      refine ax_aload_n (pc := 41) G dJ3_init_3_41 rfl rfl ?_
      refine ax_aload_nN (pc := 42) G dJ3_init_3_42 rfl rfl ?_
      refine ax_putf (pc := 43) G flJ3_31_11 dJ3_init_3_43 (g230) (by omega) (Nat.le_of_ble_eq_true rfl) rfl rfl ?_
      refine ax_hvS w230 (by omega) (fun h231 g231 f231 z231 w231 => ?_)
      replace g231 : h231.1 a = some (.inr (11, [.ref a, .null, .ref t17, .null, .null, .int (nI 0), .int (nI 0), .int (nI 0)])) := g231
      refine ax_aload_n (pc := 46) G dJ3_init_3_46 rfl rfl ?_
      refine ax_aload_nN (pc := 47) G dJ3_init_3_47 rfl rfl ?_
      refine ax_putf (pc := 48) G flJ3_7_11 dJ3_init_3_48 (g231) (by omega) (Nat.le_of_ble_eq_true rfl) rfl rfl ?_
      refine ax_hvS w231 (by omega) (fun h232 g232 f232 z232 w232 => ?_)
      replace g232 : h232.1 a = some (.inr (11, [.null, .null, .ref t17, .null, .null, .int (nI 0), .int (nI 0), .int (nI 0)])) := g232
      refine ax_iload_n (pc := 51) G dJ3_init_3_51 rfl rfl ?_
      refine ax_if_ne (pc := 52) (tgt := 60) G dJ3_init_3_52 rfl (fun c9 => absurd rfl c9) (fun _ => ?_)
      refine ax_aload_n (pc := 55) G dJ3_init_3_55 rfl rfl ?_
      refine ax_null (pc := 56) G dJ3_init_3_56 ?_
      refine ax_putf (pc := 57) G flJ3_24_11 dJ3_init_3_57 (g232) (by omega) (Nat.le_of_ble_eq_true rfl) rfl rfl ?_
      refine ax_hvS w232 (by omega) (fun h233 g233 f233 z233 w233 => ?_)
      replace g233 : h233.1 a = some (.inr (11, [.null, .null, .null, .null, .null, .int (nI 0), .int (nI 0), .int (nI 0)])) := g233
      exact ax_vretP (pc := 60) G E rfl dJ3_init_3_60 (⟨_, rfl, rfl, g233, fun q a1 => (f233 _ (by omega)).trans ((f232 _ (by omega)).trans ((f231 _ (by omega)).trans ((f230 _ (by omega)).trans ((f229 _ (by omega)).trans ((f223 _ (by omega)).trans ((f211 _ (by omega)))))))), by omega, w233⟩)

theorem ct_finit4 {Ω : ax_O} (hA : ax_Amb Ω) {h : ax_H} (wf : ax_wf h) (hz : Ω.2.1.heap.size ≤ h.2) {a : Nat} (hO : h.1 a = some (.inr (11, [.null, .null, .null, .null, .null, .int (nI 0), .int (nI 0), .int (nI 0)]))) (hbO : Ω.2.1.heap.size ≤ a)  : ax_MetP Ω yJ4_init_3 2 0 0 [.ref a, .null, .null, .int (nI 0), .int (nI 0)] h (ax_Nm (fun v h' => v = none ∧ h'.1 a = some (.inr (11, [.null, .null, .null, .null, .null, .int (nI 0), .int (nI 0), .int (nI 0)])) ∧ (∀ q, q ≠ a → h'.1 q = h.1 q) ∧ h'.2 = h.2 ∧ ax_wf h')) := by
  refine ax_metP q1068 q124 (by decide +kernel) (by decide) hA (Nat.le_of_ble_eq_true rfl) (fun Γ G E => ?_)
  have hlO := wf.lt hO
  show ax_W Ω Γ 0 0 h 0 [some (.ref a), some (.null), some (.null), some (.int (nI 0)), some (.int (nI 0))] []
  refine ax_aload_n (pc := 0) G dJ4_init_3_0 rfl rfl ?_
  refine ax_aload_nN (pc := 1) G dJ4_init_3_1 rfl rfl ?_
  refine ax_aload_nN (pc := 2) G dJ4_init_3_2 rfl rfl ?_
  refine ax_iload_n (pc := 3) G dJ4_init_3_3 rfl rfl ?_
  refine ax_iload (pc := 4) G dJ4_init_3_4 rfl ?_
  refine ax_nI (pc := 6) (kb := 0) (nb := 0) G (ct_finit3 hA wf (by omega) (hO) (by omega)) lIJ4_16 dJ4_init_3_6 rfl (by decide) (Nat.le_of_ble_eq_true rfl) rfl (fun v234 h234 q9 => ?_)
  obtain ⟨rfl, g234, f234, z234, w234⟩ := q9
  show ax_W Ω Γ _ _ (h234) _ _ (_)
  exact ax_vretP (pc := 9) G E rfl dJ4_init_3_9 (⟨_, rfl, rfl, g234, fun q a1 => (f234 _ (by omega)), by omega, w234⟩)

theorem ct_finit {Ω : ax_O} (hA : ax_Amb Ω) {h : ax_H} (wf : ax_wf h) (hz : Ω.2.1.heap.size ≤ h.2) {a : Nat} (hO : h.1 a = some (.inr (11, [.null, .null, .null, .null, .null, .int (nI 0), .int (nI 0), .int (nI 0)]))) (hbO : Ω.2.1.heap.size ≤ a) {x1 x2 : Int32}  : ax_MetP Ω yX13_init 3 0 0 [.ref a, .int x1, .int x2] h (ax_Nm (fun v h' => v = none ∧ h'.1 a = some (.inr (11, [.null, .null, .null, .null, .null, .int (nI 0), .int x1, .int x2])) ∧ (∀ q, q ≠ a → h'.1 q = h.1 q) ∧ h'.2 = h.2 ∧ ax_wf h')) := by
  refine ax_metP q1065 q147 (by decide +kernel) (by decide) hA (Nat.le_of_ble_eq_true rfl) (fun Γ G E => ?_)
  have hlO := wf.lt hO
  show ax_W Ω Γ 0 0 h 0 [some (.ref a), some (.int x1), some (.int x2)] []
  refine ax_aload_n (pc := 0) G dX13_init_0 rfl rfl ?_
  refine ax_null (pc := 1) G dX13_init_1 ?_
  refine ax_null (pc := 2) G dX13_init_2 ?_
  refine ax_iconst (pc := 3) (v := nI 0) G dX13_init_3 ic_0 ?_
  refine ax_iconst (pc := 4) (v := nI 0) G dX13_init_4 ic_0 ?_
  refine ax_nI (pc := 5) (kb := 0) (nb := 0) G (ct_finit4 hA wf (by omega) (hO) (by omega)) lIX13_1 dX13_init_5 rfl (by decide) (Nat.le_of_ble_eq_true rfl) rfl (fun v235 h235 q9 => ?_)
  obtain ⟨rfl, g235, f235, z235, w235⟩ := q9
  show ax_W Ω Γ _ _ (h235) _ _ (_)
  refine ax_aload_n (pc := 8) G dX13_init_8 rfl rfl ?_
  refine ax_iload_n (pc := 9) G dX13_init_9 rfl rfl ?_
  refine ax_putfF (pc := 10) G flFX13_7_11 rfl dX13_init_10 (g235) (by omega) (Nat.le_of_ble_eq_true rfl) rfl rfl ?_
  refine ax_hvS w235 (by omega) (fun h236 g236 f236 z236 w236 => ?_)
  replace g236 : h236.1 a = some (.inr (11, [.null, .null, .null, .null, .null, .int (nI 0), .int x1, .int (nI 0)])) := g236
  refine ax_aload_n (pc := 13) G dX13_init_13 rfl rfl ?_
  refine ax_iload_n (pc := 14) G dX13_init_14 rfl rfl ?_
  refine ax_putfF (pc := 15) G flFX13_13_11 rfl dX13_init_15 (g236) (by omega) (Nat.le_of_ble_eq_true rfl) rfl rfl ?_
  refine ax_hvS w236 (by omega) (fun h237 g237 f237 z237 w237 => ?_)
  replace g237 : h237.1 a = some (.inr (11, [.null, .null, .null, .null, .null, .int (nI 0), .int x1, .int x2])) := g237
  exact ax_vretP (pc := 18) G E rfl dX13_init_18 (⟨_, rfl, rfl, g237, fun q a1 => (f237 _ (by omega)).trans ((f236 _ (by omega)).trans ((f235 _ (by omega)))), by omega, w237⟩)

theorem ct_xat {Ω : ax_O} (hA : ax_Amb Ω) {h : ax_H} {P tx n nx st tk sc sa : Nat} {nm : Int32} {tb b : Nat → Int32} (hP : h.1 P = some (.inr (9, [.ref tx, .int (nI n), .int (nI nx), .int (nI st), .int nm, .ref tk, .ref sc, .ref sa]))) (hT : h.1 tx = some (.inl (.byte, 1000, .inl tb))) (hb : ∀ j, j < n → tb j &&& nI 255 = b j) (hn : n ≤ 1000) (k : Nat) (hk : k < 2000) : ax_Met Ω yX11_at 0 0 0 [.ref P, .int (nI k)] h (.inl (some (.int (pAtB b n k)))) h := by
  refine ax_met q996 q145 (by decide +kernel) (by decide) hA (Nat.le_of_ble_eq_true rfl) (fun Γ G E => ?_)
  show ax_W Ω Γ 0 0 h 0 [some (.ref P), some (.int (nI k))] []
  refine ax_iload_n (pc := 0) G dX11_at_0 rfl rfl ?_
  refine ax_aload_n (pc := 1) G dX11_at_1 rfl rfl ?_
  refine ax_getf (pc := 2) (v := .int (nI n)) G flX11_37_9 dX11_at_2 (hP) rfl ?_
  refine ax_icmp_geN (pc := 5) (tgt := 21) G dX11_at_5 rfl (by omega) (by omega) (fun c5 => ?_) (fun c5 => ?_)
  · refine ax_iconst (pc := 21) (v := (-1)) G dX11_at_21 (by decide) ?_
    exact ax_iretE (pc := 22) G E rfl (rfl) dX11_at_22 (by rw [pAtB, if_neg (by omega)]) (rfl)
  · refine ax_aload_n (pc := 8) G dX11_at_8 rfl rfl ?_
    refine ax_getf (pc := 9) (v := .ref tx) G flX11_33_9 dX11_at_9 (hP) rfl ?_
    refine ax_iload_n (pc := 12) G dX11_at_12 rfl rfl ?_
    refine ax_baload (pc := 13) G k dX11_at_13 (hT) rfl (by omega) (by omega) ?_
    refine ax_sipush (pc := 14) (v := nI 255) G dX11_at_14 is_255 ?_
    refine ax_iand (pc := 17) G dX11_at_17 ?_
    refine ax_goto (pc := 18) (tgt := 22) G dX11_at_18 rfl ?_
    exact ax_iretE (pc := 22) G E rfl (rfl) dX11_at_22 (by rw [pAtB, if_pos (by omega)]; exact hb _ (by omega)) (rfl)

theorem ct_xflaw {Ω : ax_O} (hA : ax_Amb Ω) {h : ax_H} (wf : ax_wf h) (hz : Ω.2.1.heap.size ≤ h.2) {P tx n nx st tk sc sa : Nat} {nm : Int32} {tb b : Nat → Int32} (hP : h.1 P = some (.inr (9, [.ref tx, .int (nI n), .int (nI nx), .int (nI st), .int nm, .ref tk, .ref sc, .ref sa]))) (c : Nat)  : ax_MetP Ω yX11_flaw 4 1 8 [.ref P, .int (nI c)] h (ax_Nm (fun v h' => v = some (.ref h.2) ∧ h'.1 h.2 = some (.inr (11, [.null, .null, .null, .null, .null, .int (nI 0), .int (nI c), .int (nI st)])) ∧ (∀ q, q < h.2 → h'.1 q = h.1 q) ∧ h'.2 = h.2 + 1 ∧ ax_wf h')) := by
  refine ax_metP q1053 q145 (by decide +kernel) (by decide) hA (Nat.le_of_ble_eq_true rfl) (fun Γ G E => ?_)
  have hlP := wf.lt hP
  show ax_W Ω Γ 1 8 h 0 [some (.ref P), some (.int (nI c))] []
  refine ax_new (pc := 0) (ci := 11) (kb := 0) (nb := 0) G [.null, .null, .null, .null, .null, .int (nI 0), .int (nI 0), .int (nI 0)] dX11_flaw_0 rfl cok_X13 rfl q1054 q1055 q147 (fun j hj => by match j, hj with | 0, _ => rfl | 1, _ => rfl | 2, _ => rfl | 3, _ => rfl | 4, _ => rfl | 5, _ => rfl | 6, _ => rfl | 7, _ => rfl) ?_
  refine ax_hvA wf (fun h238 g238 f238 z238 w238 => ?_)
  refine ax_dup (pc := 3) G dX11_flaw_3 rfl ?_
  refine ax_iload_n (pc := 4) G dX11_flaw_4 rfl rfl ?_
  refine ax_aload_n (pc := 5) G dX11_flaw_5 rfl rfl ?_
  refine ax_getf (pc := 6) (v := .int (nI st)) G flX11_48_9 dX11_flaw_6 ((f238 _ (by omega)).trans (hP)) rfl ?_
  refine ax_nI (pc := 9) (kb := 0) (nb := 0) G (ct_finit hA w238 (by omega) (g238) (by omega)) lIX11_94 dX11_flaw_9 rfl (by decide) (Nat.le_of_ble_eq_true rfl) rfl (fun v239 h239 q9 => ?_)
  obtain ⟨rfl, g239, f239, z239, w239⟩ := q9
  show ax_W Ω Γ _ _ (h239) _ _ (_)
  exact ax_aretP (pc := 12) G E rfl (Or.inl ⟨_, rfl⟩) (Or.inr ⟨_, rfl⟩) dX11_flaw_12 (⟨_, rfl, rfl, g239, fun q a1 => (f239 _ (by omega)).trans ((f238 _ (by omega))), by omega, w239⟩)

