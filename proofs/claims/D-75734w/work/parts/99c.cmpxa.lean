/-! cmpXa -/
def ax_wok2 (L : List Cond) : Bool := L.all fun w => decide (w ∈ lw_tbl) && (goodWord w || (match w with | .castable _ _ => true | .declares _ => true | _ => false))
theorem ax_wok2_ot {L : List Cond} (h : ax_wok2 L = true) : ∀ w ∈ L, vx_ot w = true := by
  intro w hm
  have h1 := List.all_eq_true.mp h w hm
  simp only [Bool.and_eq_true, decide_eq_true_eq, Bool.or_eq_true] at h1
  obtain ⟨h2, h3⟩ := h1
  rcases h3 with h3 | h3
  · simp only [vx_ot, Bool.or_eq_true]; exact Or.inr h3
  · cases w <;> first | (cases h3; done) | rfl
theorem ax_wok2_at {Ω : ax_O} (hA : ax_Amb Ω) {s : State} (hw : Ω.2.1.WarmedH s.vm) {L : List Cond} (h : ax_wok2 L = true) (a : Array Value) : ∀ w ∈ L, w.before a s = true := by
  intro w hm
  have h1 := List.all_eq_true.mp h w hm
  simp only [Bool.and_eq_true, decide_eq_true_eq, Bool.or_eq_true] at h1
  obtain ⟨h2, h3⟩ := h1
  rcases h3 with h3 | h3
  · exact ax_words hA hw (lw_g h2 h3) a
  · cases w <;> first | (cases h3; done) | exact va_Nw.use rfl (ax_cast hA hw h2) | exact ax_declW hA hw h2 a
section AXM2
variable {Ω : ax_O} {Γ : ax_F} {y : MethodName} {cc : ByteArray} {nL : Nat} {ret : Option FieldType} {hh : List (Nat × Nat × Nat × Nat)} {d kb nb pc : Nat} {h : ax_H} {ls : List (Option Value)} {rest : List Value}
set_option maxHeartbeats 1000000 in
theorem ax_make2 (G : ax_C Ω Γ y cc nL ret hh d) {cls : String} {names : List String} {ik ic ci : Nat} {T0 : u_T} (hcls : Bundle.fit cls = true) (hnames : ∀ n ∈ names, Bundle.fit n = true) (hk : Cond.classLink y.cls ik cls ∈ lw_all) (hini : Cond.initialized cls ∈ lw_all) (hat0 : ax_wok2 (vx_at0 y.cls ic cls names) = true)
    (d0 : decode cc pc = .ok (.new ik, 3)) (d3 : decode cc (pc + 3) = .ok (.dup, 1)) (d4 : decode cc (pc + 4) = .ok (.invokespecial ic, 3)) (hc : ax_CL[ci]? = some (cls, T0, 0)) (hd : names.length + 4 ≤ d) (hr : (rest.map fun v => v.category).sum ≤ 20)
    (kk : ax_W Ω Γ kb nb (ax_add h (.inr (ci, []))) (pc + 7) ls (.ref h.2 :: rest)) : ax_W Ω Γ (kb + 1) (nb + 6) h pc ls rest := by
  intro H locs cells slots Ls hR hl hL hn g1 g2
  have hw := G.2.2.2.2.2.2.2.2.2.1
  have hold := G.2.2.2.2.2.2.2.2.2.2.1
  have hf := G.2.2.2.2.2.2.2.2.2.2.2
  have hat : ∀ w ∈ vx_at0 y.cls ic cls names, w.before Γ.2.2.2.2.2.1 Γ.2.2.2.1 = true := ax_wok2_at G.1 hw hat0 _
  have hgood := ax_wok2_ot hat0
  have hkw := ax_words G.1 hw hk Γ.2.2.2.2.2.1
  have hiniw := ax_words G.1 hw hini Γ.2.2.2.2.2.1
  have hUq : ∀ {n : String} {de : String}, vx_Zq Bundle.tN n de (ax_A Ω) Ω.2.1 Ω.2.1.heap → vx_Zq Bundle.tN n de (ax_A Ω) Γ.2.2.2.1 Γ.2.2.2.1.heap := fun hz => vx_Zq.moved hw.alike (hz.kept fun a h1 _ => hold.2 a h1)
  obtain ⟨hU, hN⟩ := G.1.2.2.2.2.1
  replace hU := hUq hU
  replace hN := hUq hN
  intro T hT X
  subst hT
  have hSs : ∀ q : Nat, q < Γ.2.2.2.1.heap.size → ¬ ax_A Ω q → T.heap[q]? = Γ.2.2.2.1.heap[q]? := fun q _ hq => by
    have hq' : q < Ω.2.1.heap.size := Nat.lt_of_not_le hq
    rw [hR.2.2.1 q hq', hold.2 q hq']
  have htr : Γ.2.1.platform.stackTraces = false := (show Γ.2.1.platform.stackTraces = Ω.1.stackTraces by rw [X.admits.platform]).trans G.1.1
  have Y := vx_rebase X (R' := { frames := Γ.2.2.1.frames, locals := Γ.2.2.1.locals, cells := 1, slots := 6 }) (Nat.le_refl _) (Nat.le_refl _) (show cells + 1 ≤ _ by omega) (show slots + 6 ≤ _ by omega)
  obtain ⟨s', hA'⟩ : ∃ z, z = (T.setVm Γ.2.2.2.1.vm).setFrames (.invoking Γ.2.2.2.2.1 Γ.2.2.2.2.2.1 :: Γ.2.2.2.2.2.2.1) := ⟨_, rfl⟩
  rw [← hA'] at Y
  have hvm : s'.vm = Γ.2.2.2.1.vm := by rw [hA']; rfl
  have hhp : s'.heap = T.heap := by rw [hA']; rfl
  have hW0 : Γ.2.2.2.1.WarmedH s'.vm := by rw [hvm]; exact State.WarmedH.refl _
  have hat' : ∀ w ∈ vx_at0 y.cls ic cls names, w.before Γ.2.2.2.2.2.1 s' = true := fun w hw' => vx_ot_at hW0 hvm.symm (hgood w hw') (hat w hw')
  have hk' : (Cond.classLink y.cls ik cls).before Γ.2.2.2.2.2.1 s' = true := vx_ot_at hW0 hvm.symm rfl hkw
  have hini' : (Cond.initialized cls).before Γ.2.2.2.2.2.1 s' = true := vx_ot_at hW0 hvm.symm rfl hiniw
  have hU' : vx_Zq Bundle.tN "UNASSIGNED_STACK" Bundle.steD (ax_A Ω) s' s'.heap := by rw [hhp]; exact vx_Zq.moved hW0.alike (hU.kept hSs)
  have hN' : vx_Zq Bundle.tN "SUPPRESSED_SENTINEL" Bundle.listD (ax_A Ω) s' s'.heap := by rw [hhp]; exact vx_Zq.moved hW0.alike (hN.kept hSs)
  have ho : ∀ w ∈ Bundle.ownAtoms0 y.cls ic cls names, w.before Γ.2.2.2.2.2.1 s' = true := vx_own hat' (vx_isRefq hU'.1) (vx_isRefq hN'.1) hU'.2.word hN'.2.word
  have hown' : s'.vm.findClass y.cls = some Γ.2.2.2.2.1.cls := by rw [hvm]; exact G.2.2.2.2.1
  have hins : (Cond.instantiable cls 6).before Γ.2.2.2.2.2.1 s' = true := ho _ (by simp [Bundle.ownAtoms0])
  obtain ⟨vm₁, cX, kX, hfX, hkX, -, -, X₁, st1⟩ := Y.newCold G.2.1 (own := y.cls) (C := cls) (index := ik) (n := 6) hown' hk' hins hini'
    (g := F0 Γ.2.2.2.2.1 pc Ls rest) rfl (by rw [G.2.2.1]; exact d0) (Nat.le_refl _) (Nat.le_refl _)
  generalize hT1 : (T.setVm vm₁).pushCell { cls := cX, slots := kX.instanceTypes.map defaultValue, vm := .none } = T1 at X₁ st1
  have hcat : (Value.ref T.heap.size).category = 1 := rfl
  have hcellA : T1.heap[T.heap.size]? = some (freshCell cX kX) := by rw [← hT1]; exact State.heap_pushCell_size _ _
  have d3' : decode Γ.2.2.2.2.2.2.2.2.1.code (pc + 3) = .ok (.dup, 1) := by rw [G.2.2.1]; exact d3
  obtain ⟨V, ce, L, Z, hLL, hlt, hcl9, hvm9, st⟩ := vx_ctorMade0 X₁ G.2.1 htr (own := y.cls) (cls := cls) (names := names) (ic := ic) hown' hcls hnames ho (fun x hx => nomatch hx) hfX hkX hcellA (by rw [hhp]; exact Nat.le_refl _)
    (g := { method := Γ.2.2.2.2.1, pc := pc + 4, locals := Ls, stack := .ref T.heap.size :: .ref T.heap.size :: rest, locked := none }) rfl (hL.1.trans hn) (rest := rest) rfl
    (by rw [G.2.2.1]; exact d4) (show names.length + 3 < Γ.2.2.1.frames by omega) (by simp only [List.map_cons, List.sum_cons, hcat]; show _ ≤ Γ.2.2.1.locals; omega)
  have Z0 := Stand.forget (locs := []) Z (fun y hy => by rw [hLL y hy, hhp]; exact Nat.le_refl _)
  obtain ⟨f1, f2⟩ := vx_frame Z0.same
  rw [hhp] at f1 f2
  have f3 : (V.setCell T.heap.size ce).heap.size ≤ T.heap.size + 1 := by
    have := Z0.same.2.2.1
    rw [hhp] at this
    exact this
  have hcid : ce.cls = Ω.2.2.1.1 ci := by
    rw [hcl9]
    have h1 := ((ax_kn G.1 hw).1 ci _ hc).2.1
    rw [hvm] at hfX
    exact Option.some.inj (hfX.symm.trans h1)
  have hh9 : (V.setCell T.heap.size ce).heap[T.heap.size]? = some ce := heapAt_setCell_self (s := V) ce hlt
  have hlt9 : T.heap.size < (V.setCell T.heap.size ce).heap.size := (Array.getElem?_eq_some_iff.mp hh9).1
  subst hA'
  have X5 := vx_back9 X Y Z0
  have X6 : Stand Γ.1 Ω.1 Γ.2.1 Γ.2.2.1 Γ.2.2.2.1 Γ.2.2.2.2.1 Γ.2.2.2.2.2.1 Γ.2.2.2.2.2.2.1 Γ.2.2.2.2.2.2.2.1 Γ.2.2.2.2.2.2.2.2.1 (V.setCell T.heap.size ce) locs (cells + 1) (slots + 6) := { X5 with same := X5.same.mono (by omega) (by omega) }
  have hR1 : ax_R Ω (ax_add h (.inr (ci, []))) (V.setCell T.heap.size ce).heap :=
    hR.add (by omega) (fun q hq => f2 q hq (fun z hz => nomatch hz)) ⟨_, hc, ce, hh9, hcid, hvm9, fun k hk => absurd hk (Nat.not_lt_zero k)⟩
  have hk9 := kk (V.setCell T.heap.size ce).heap locs (cells + 1) (slots + 6) Ls hR1 hl hL hn (by omega) (by omega)
  rw [← hR.1] at hk9
  obtain ⟨t, a1, b1⟩ := hk9 _ rfl X6
  refine ⟨t, st1 _ ?_, b1⟩
  show Steps Γ.1.tables Γ.2.1 Γ.2.2.2.2.2.2.1 (T1.setTop { method := Γ.2.2.2.2.1, pc := pc + 3, locals := Ls, stack := .ref T.heap.size :: rest, locked := none }) _
  jvm_step X₁.here [X₁.here.top, G.2.1, d3', Value.category]
  exact st _ a1
end AXM2
theorem nI_sub {a b : Nat} (h : b ≤ a) : nI a - nI b = nI (a - b) := by
  obtain ⟨c, rfl⟩ : ∃ c, a = c + b := ⟨a - b, by omega⟩
  rw [← nI_add, Nat.add_sub_cancel, Int32.add_sub_cancel]
theorem xo_61 : ax_wok2 (vx_at0 "TelescopeQueue" 61 "java/lang/IllegalArgumentException" ["java/lang/RuntimeException", "java/lang/Exception"]) = true := by decide +kernel
theorem xo_71 : ax_wok2 (vx_at0 "TelescopeQueue" 71 "java/lang/IllegalStateException" ["java/lang/RuntimeException", "java/lang/Exception"]) = true := by decide +kernel
theorem xo_68 : ax_wok2 (vx_at0 "TelescopeQueue" 68 "java/lang/IndexOutOfBoundsException" ["java/lang/RuntimeException", "java/lang/Exception"]) = true := by decide +kernel
theorem ct_argY {Ω : ax_O} (hA : ax_Amb Ω) {h : ax_H}  : ax_Met Ω yX1_checkArgument 6 1 6 [.int (nI 1)] h (.inl none) h := by
  refine ax_met q1455 q113 (by decide +kernel) (by decide) hA (Nat.le_of_ble_eq_true rfl) (fun Γ G E => ?_)
  show ax_W Ω Γ 1 6 h 0 [some (.int (nI 1))] []
  refine ax_iload_n (pc := 0) G dX1_checkArgument_0 rfl rfl ?_
  refine ax_if_ne (pc := 1) (tgt := 12) G dX1_checkArgument_1 rfl (fun _ => ?_) (fun c9 => absurd c9 (by decide))
  exact ax_vretE (pc := 12) G E rfl dX1_checkArgument_12 (rfl)

theorem ct_argN {Ω : ax_O} (hA : ax_Amb Ω) {h : ax_H}  : ax_Met Ω yX1_checkArgument 6 1 6 [.int (nI 0)] h (.inr h.2) (ax_add h (.inr (20, []))) := by
  refine ax_met q1455 q113 (by decide +kernel) (by decide) hA (Nat.le_of_ble_eq_true rfl) (fun Γ G E => ?_)
  show ax_W Ω Γ 1 6 h 0 [some (.int (nI 0))] []
  refine ax_iload_n (pc := 0) G dX1_checkArgument_0 rfl rfl ?_
  refine ax_if_ne (pc := 1) (tgt := 12) G dX1_checkArgument_1 rfl (fun c9 => absurd rfl c9) (fun _ => ?_)
  refine ax_make2 (pc := 4) (kb := 0) (nb := 0) (ic := 61) (ci := 20) (names := ["java/lang/RuntimeException", "java/lang/Exception"]) G (by decide) (by decide) q1413 q126 xo_61 dX1_checkArgument_4 dX1_checkArgument_7 dX1_checkArgument_8 rfl (by decide) (Nat.le_of_ble_eq_true rfl) ?_
  refine ax_athrow (pc := 11) G dX1_checkArgument_11 ?_
  exact ax_out G E (fun x hx => by cases hx)

theorem ct_staY {Ω : ax_O} (hA : ax_Amb Ω) {h : ax_H}  : ax_Met Ω yX1_checkState 6 1 6 [.int (nI 1)] h (.inl none) h := by
  refine ax_met q1436 q113 (by decide +kernel) (by decide) hA (Nat.le_of_ble_eq_true rfl) (fun Γ G E => ?_)
  show ax_W Ω Γ 1 6 h 0 [some (.int (nI 1))] []
  refine ax_iload_n (pc := 0) G dX1_checkState_0 rfl rfl ?_
  refine ax_if_ne (pc := 1) (tgt := 12) G dX1_checkState_1 rfl (fun _ => ?_) (fun c9 => absurd c9 (by decide))
  exact ax_vretE (pc := 12) G E rfl dX1_checkState_12 (rfl)

theorem ct_staN {Ω : ax_O} (hA : ax_Amb Ω) {h : ax_H}  : ax_Met Ω yX1_checkState 6 1 6 [.int (nI 0)] h (.inr h.2) (ax_add h (.inr (21, []))) := by
  refine ax_met q1436 q113 (by decide +kernel) (by decide) hA (Nat.le_of_ble_eq_true rfl) (fun Γ G E => ?_)
  show ax_W Ω Γ 1 6 h 0 [some (.int (nI 0))] []
  refine ax_iload_n (pc := 0) G dX1_checkState_0 rfl rfl ?_
  refine ax_if_ne (pc := 1) (tgt := 12) G dX1_checkState_1 rfl (fun c9 => absurd rfl c9) (fun _ => ?_)
  refine ax_make2 (pc := 4) (kb := 0) (nb := 0) (ic := 71) (ci := 21) (names := ["java/lang/RuntimeException", "java/lang/Exception"]) G (by decide) (by decide) q1437 q154 xo_71 dX1_checkState_4 dX1_checkState_7 dX1_checkState_8 rfl (by decide) (Nat.le_of_ble_eq_true rfl) ?_
  refine ax_athrow (pc := 11) G dX1_checkState_11 ?_
  exact ax_out G E (fun x hx => by cases hx)

theorem ct_idxY {Ω : ax_O} (hA : ax_Amb Ω) {h : ax_H} (i n : Int32) (hb : pIn i (nI 0) (n - nI 1) = true) : ax_Met Ω yX1_checkIndex 6 1 6 [.int i, .int n] h (.inl none) h := by
  refine ax_met q855 q113 (by decide +kernel) (by decide) hA (Nat.le_of_ble_eq_true rfl) (fun Γ G E => ?_)
  show ax_W Ω Γ 1 6 h 0 [some (.int i), some (.int n)] []
  refine ax_iload_n (pc := 0) G dX1_checkIndex_0 rfl rfl ?_
  refine ax_i2l (pc := 1) G dX1_checkIndex_1 rfl ?_
  refine ax_lconst (pc := 2) (v := 0) G dX1_checkIndex_2 rfl ?_
  refine ax_iload_n (pc := 3) G dX1_checkIndex_3 rfl rfl ?_
  refine ax_iconst (pc := 4) (v := nI 1) G dX1_checkIndex_4 ic_1 ?_
  refine ax_isub (pc := 5) G dX1_checkIndex_5 ?_
  refine ax_i2l (pc := 6) G dX1_checkIndex_6 rfl ?_
  refine ax_cS1 (pc := 7) (kb := 1) (nb := 6) G (ct_in hA i.toInt64 0 ((n - (nI 1)).toInt64)) lSX1_62 dX1_checkIndex_7 rfl (by decide) (Nat.le_of_ble_eq_true rfl) rfl ?_
  rw [cIn_k (A := 0) (B := (n - (nI 1)).toInt64) (a := (nI 0)) (b := (n - (nI 1))) i (by decide) rfl]
  refine ax_if_ne (pc := 10) (tgt := 21) G dX1_checkIndex_10 rfl (fun _ => ?_) (fun c9 => absurd c9 (by rw [hb]; decide))
  exact ax_vretE (pc := 21) G E rfl dX1_checkIndex_21 (rfl)

theorem ct_idxN {Ω : ax_O} (hA : ax_Amb Ω) {h : ax_H} (i n : Int32) (hb : pIn i (nI 0) (n - nI 1) = false) : ax_Met Ω yX1_checkIndex 6 1 6 [.int i, .int n] h (.inr h.2) (ax_add h (.inr (22, []))) := by
  refine ax_met q855 q113 (by decide +kernel) (by decide) hA (Nat.le_of_ble_eq_true rfl) (fun Γ G E => ?_)
  show ax_W Ω Γ 1 6 h 0 [some (.int i), some (.int n)] []
  refine ax_iload_n (pc := 0) G dX1_checkIndex_0 rfl rfl ?_
  refine ax_i2l (pc := 1) G dX1_checkIndex_1 rfl ?_
  refine ax_lconst (pc := 2) (v := 0) G dX1_checkIndex_2 rfl ?_
  refine ax_iload_n (pc := 3) G dX1_checkIndex_3 rfl rfl ?_
  refine ax_iconst (pc := 4) (v := nI 1) G dX1_checkIndex_4 ic_1 ?_
  refine ax_isub (pc := 5) G dX1_checkIndex_5 ?_
  refine ax_i2l (pc := 6) G dX1_checkIndex_6 rfl ?_
  refine ax_cS1 (pc := 7) (kb := 1) (nb := 6) G (ct_in hA i.toInt64 0 ((n - (nI 1)).toInt64)) lSX1_62 dX1_checkIndex_7 rfl (by decide) (Nat.le_of_ble_eq_true rfl) rfl ?_
  rw [cIn_k (A := 0) (B := (n - (nI 1)).toInt64) (a := (nI 0)) (b := (n - (nI 1))) i (by decide) rfl]
  refine ax_if_ne (pc := 10) (tgt := 21) G dX1_checkIndex_10 rfl (fun c9 => absurd c9 (by rw [hb]; decide)) (fun _ => ?_)
  refine ax_make2 (pc := 13) (kb := 0) (nb := 0) (ic := 68) (ci := 22) (names := ["java/lang/RuntimeException", "java/lang/Exception"]) G (by decide) (by decide) q859 q143 xo_68 dX1_checkIndex_13 dX1_checkIndex_16 dX1_checkIndex_17 rfl (by decide) (Nat.le_of_ble_eq_true rfl) ?_
  refine ax_athrow (pc := 20) G dX1_checkIndex_20 ?_
  exact ax_out G E (fun x hx => by cases hx)

theorem ct_argYb {Ω : ax_O} (hA : ax_Amb Ω) {h : ax_H} {B : Bool} (hB : B = true) : ax_Met Ω yX1_checkArgument 6 1 6 [.int (bI B)] h (.inl none) h := by subst hB; exact ct_argY hA
theorem ct_argNb {Ω : ax_O} (hA : ax_Amb Ω) {h : ax_H} {B : Bool} (hB : B = false) : ax_Met Ω yX1_checkArgument 6 1 6 [.int (bI B)] h (.inr h.2) (ax_add h (.inr (20, []))) := by subst hB; exact ct_argN hA
theorem ct_staYb {Ω : ax_O} (hA : ax_Amb Ω) {h : ax_H} {B : Bool} (hB : B = true) : ax_Met Ω yX1_checkState 6 1 6 [.int (bI B)] h (.inl none) h := by subst hB; exact ct_staY hA
theorem ct_staNb {Ω : ax_O} (hA : ax_Amb Ω) {h : ax_H} {B : Bool} (hB : B = false) : ax_Met Ω yX1_checkState 6 1 6 [.int (bI B)] h (.inr h.2) (ax_add h (.inr (21, []))) := by subst hB; exact ct_staN hA
theorem ix_y {k n : Nat} (h : k < n) (hn : n ≤ 1001) : pIn (nI k) (nI 0) (nI n - nI 1) = true := pIn_k rfl h (by omega)
theorem cx_thereY {Ω : ax_O} (hA : ax_Amb Ω) {h : ax_H} {a : Nat} {pl s : pR} {π : Nat → cP} {N V O A : Nat} {D : cD} (ha : Ω.2.1.heap.size ≤ a) (hp : pWP pl N V O) (hs : pWS s A) (hE : cEn h a pl s N V O A D) {X bf tr hi sv lb : Nat} {x1 x2 x3 : Int32} (hX : ∀ σ, (sH h a σ).1 X = some (.inr (0, [.ref bf, .int x1, .int x2, .int x3, .ref a, .ref tr, .ref hi, .ref sv, .ref lb])))  : ax_Met Ω yX1_there 7 2 12 [.ref X] (sH h a (s, π, (.ref (D.1 0)), (D.1 8))) (.inl (some (.ref a))) (sH h a (s, π, (.ref (D.1 0)), (D.1 8))) := by
  refine ax_met q1433 q113 (by decide +kernel) (by decide) hA (Nat.le_of_ble_eq_true rfl) (fun Γ G E => ?_)
  have hV9 := hp.lV
  have hA9 := hs.lA
  have hO9 := hp.lO
  show ax_W Ω Γ 2 12 (sH h a (s, π, (.ref (D.1 0)), (D.1 8))) 0 [some (.ref X)] []
  refine ax_aload_n (pc := 0) G dX1_there_0 rfl rfl ?_
  refine ax_getf (pc := 1) (v := .ref a) G flX1_72_0 dX1_there_1 (hX _) rfl ?_
  refine ax_ifnull (pc := 4) G dX1_there_4 ?_
  refine ax_iconst (pc := 7) (v := nI 1) G dX1_there_7 ic_1 ?_
  refine ax_goto (pc := 8) (tgt := 12) G dX1_there_8 rfl ?_
  refine ax_cS0 (pc := 12) (kb := 1) (nb := 6) G (ct_staY hA) lSX1_75 dX1_there_12 rfl (by decide) (Nat.le_of_ble_eq_true rfl) rfl ?_
  refine ax_aload_n (pc := 15) G dX1_there_15 rfl rfl ?_
  refine ax_getf (pc := 16) (v := .ref a) G flX1_72_0 dX1_there_16 (hX _) rfl ?_
  exact ax_aretE (pc := 19) G E rfl (Or.inl ⟨_, rfl⟩) (Or.inr ⟨_, rfl⟩) dX1_there_19 (rfl) (rfl)

theorem cx_thereN {Ω : ax_O} (hA : ax_Amb Ω) {h : ax_H} {X bf tr hi sv lb : Nat} {x1 x2 x3 : Int32} (hX : h.1 X = some (.inr (0, [.ref bf, .int x1, .int x2, .int x3, .null, .ref tr, .ref hi, .ref sv, .ref lb])))  : ax_Met Ω yX1_there 7 2 12 [.ref X] h (.inr h.2) (ax_add h (.inr (21, []))) := by
  refine ax_met q1433 q113 (by decide +kernel) (by decide) hA (Nat.le_of_ble_eq_true rfl) (fun Γ G E => ?_)
  show ax_W Ω Γ 2 12 h 0 [some (.ref X)] []
  refine ax_aload_n (pc := 0) G dX1_there_0 rfl rfl ?_
  refine ax_getf (pc := 1) (v := .null) G flX1_72_0 dX1_there_1 (hX) rfl ?_
  refine ax_ifnullN (pc := 4) (tgt := 11) G dX1_there_4 rfl ?_
  refine ax_iconst (pc := 11) (v := nI 0) G dX1_there_11 ic_0 ?_
  refine ax_callS (pc := 12) (kb := 1) (nb := 6) G (ct_staN hA) lSX1_75 dX1_there_12 rfl (by decide) (Nat.le_of_ble_eq_true rfl) rfl (fun _ e9 => by cases e9) (fun q9 e9 => ?_)
  cases e9
  exact ax_out G E (fun x hx => by cases hx)

theorem cx_withProposalY {Ω : ax_O} (hA : ax_Amb Ω) {h : ax_H} {a : Nat} {pl s : pR} {π : Nat → cP} {N V O A : Nat} {D : cD} (ha : Ω.2.1.heap.size ≤ a) (hp : pWP pl N V O) (hs : pWS s A) (hE : cEn h a pl s N V O A D) {X bf tr hi sv lb : Nat} {x1 x2 x3 : Int32} (hX : ∀ σ, (sH h a σ).1 X = some (.inr (0, [.ref bf, .int x1, .int x2, .int x3, .ref a, .ref tr, .ref hi, .ref sv, .ref lb]))) (k : Nat) (hk : k < N)  : ax_Met Ω yX1_withProposal 8 3 18 [.ref X, .int (nI k)] (sH h a (s, π, (.ref (D.1 0)), (D.1 8))) (.inl (some (.ref a))) (sH h a (s, π, (.ref (D.1 0)), (D.1 8))) := by
  refine ax_met q1429 q113 (by decide +kernel) (by decide) hA (Nat.le_of_ble_eq_true rfl) (fun Γ G E => ?_)
  have hV9 := hp.lV
  have hA9 := hs.lA
  have hO9 := hp.lO
  have hN9 := hp.2.1.1
  show ax_W Ω Γ 3 18 (sH h a (s, π, (.ref (D.1 0)), (D.1 8))) 0 [some (.ref X), some (.int (nI k))] []
  refine ax_iload_n (pc := 0) G dX1_withProposal_0 rfl rfl ?_
  refine ax_aload_n (pc := 1) G dX1_withProposal_1 rfl rfl ?_
  refine ax_cV1 (pc := 2) (kb := 1) (nb := 6) G (cx_thereY hA (π := π) ha hp hs hE hX) lVX1_79_0 dX1_withProposal_2 (hX _) rfl (by decide) (Nat.le_of_ble_eq_true rfl) rfl ?_
  refine sr_get (pc := 5) (v := .ref (D.1 0)) G flX1_83_1 dX1_withProposal_5 rfl ?_
  refine ax_getf (pc := 8) (v := .ref (D.1 1)) G flX1_87_10 dX1_withProposal_8 (((hE (s, π, (.ref (D.1 0)), (D.1 8))).1).1) rfl ?_
  refine ax_cJ1 (pc := 11) (kb := 1) (nb := 6) G (ct_lsize hA (((hE (s, π, (.ref (D.1 0)), (D.1 8))).1).2.1).1) lJX1_1_16 dX1_withProposal_11 ((((hE (s, π, (.ref (D.1 0)), (D.1 8))).1).2.1).1) rfl (by decide) (Nat.le_of_ble_eq_true rfl) rfl ?_
  refine ax_cS0 (pc := 16) (kb := 0) (nb := 0) G (ct_idxY hA (nI k) (nI N) (ix_y hk (by omega))) lSX1_93 dX1_withProposal_16 rfl (by decide) (Nat.le_of_ble_eq_true rfl) rfl ?_
  refine ax_aload_n (pc := 19) G dX1_withProposal_19 rfl rfl ?_
  refine ax_getf (pc := 20) (v := .ref a) G flX1_72_0 dX1_withProposal_20 (hX _) rfl ?_
  exact ax_aretE (pc := 23) G E rfl (Or.inl ⟨_, rfl⟩) (Or.inr ⟨_, rfl⟩) dX1_withProposal_23 (rfl) (rfl)

theorem cx_withProposalB {Ω : ax_O} (hA : ax_Amb Ω) {h : ax_H} {a : Nat} {pl s : pR} {π : Nat → cP} {N V O A : Nat} {D : cD} (ha : Ω.2.1.heap.size ≤ a) (hp : pWP pl N V O) (hs : pWS s A) (hE : cEn h a pl s N V O A D) {X bf tr hi sv lb : Nat} {x1 x2 x3 : Int32} (hX : ∀ σ, (sH h a σ).1 X = some (.inr (0, [.ref bf, .int x1, .int x2, .int x3, .ref a, .ref tr, .ref hi, .ref sv, .ref lb]))) (k : Int32) (hb : pIn k (nI 0) (nI N - nI 1) = false)  : ax_Met Ω yX1_withProposal 8 3 18 [.ref X, .int k] (sH h a (s, π, (.ref (D.1 0)), (D.1 8))) (.inr (sH h a (s, π, (.ref (D.1 0)), (D.1 8))).2) (ax_add (sH h a (s, π, (.ref (D.1 0)), (D.1 8))) (.inr (22, []))) := by
  refine ax_met q1429 q113 (by decide +kernel) (by decide) hA (Nat.le_of_ble_eq_true rfl) (fun Γ G E => ?_)
  have hV9 := hp.lV
  have hA9 := hs.lA
  have hO9 := hp.lO
  show ax_W Ω Γ 3 18 (sH h a (s, π, (.ref (D.1 0)), (D.1 8))) 0 [some (.ref X), some (.int k)] []
  refine ax_iload_n (pc := 0) G dX1_withProposal_0 rfl rfl ?_
  refine ax_aload_n (pc := 1) G dX1_withProposal_1 rfl rfl ?_
  refine ax_cV1 (pc := 2) (kb := 1) (nb := 6) G (cx_thereY hA (π := π) ha hp hs hE hX) lVX1_79_0 dX1_withProposal_2 (hX _) rfl (by decide) (Nat.le_of_ble_eq_true rfl) rfl ?_
  refine sr_get (pc := 5) (v := .ref (D.1 0)) G flX1_83_1 dX1_withProposal_5 rfl ?_
  refine ax_getf (pc := 8) (v := .ref (D.1 1)) G flX1_87_10 dX1_withProposal_8 (((hE (s, π, (.ref (D.1 0)), (D.1 8))).1).1) rfl ?_
  refine ax_cJ1 (pc := 11) (kb := 1) (nb := 6) G (ct_lsize hA (((hE (s, π, (.ref (D.1 0)), (D.1 8))).1).2.1).1) lJX1_1_16 dX1_withProposal_11 ((((hE (s, π, (.ref (D.1 0)), (D.1 8))).1).2.1).1) rfl (by decide) (Nat.le_of_ble_eq_true rfl) rfl ?_
  refine ax_callS (pc := 16) (kb := 0) (nb := 0) G (ct_idxN hA k (nI N) (hb)) lSX1_93 dX1_withProposal_16 rfl (by decide) (Nat.le_of_ble_eq_true rfl) rfl (fun _ e9 => by cases e9) (fun q9 e9 => ?_)
  cases e9
  exact ax_out G E (fun x hx => by cases hx)

theorem cx_withProposalN {Ω : ax_O} (hA : ax_Amb Ω) {h : ax_H} {X bf tr hi sv lb : Nat} {x1 x2 x3 : Int32} (hX : h.1 X = some (.inr (0, [.ref bf, .int x1, .int x2, .int x3, .null, .ref tr, .ref hi, .ref sv, .ref lb]))) (k : Int32)  : ax_Met Ω yX1_withProposal 8 3 18 [.ref X, .int k] h (.inr h.2) (ax_add h (.inr (21, []))) := by
  refine ax_met q1429 q113 (by decide +kernel) (by decide) hA (Nat.le_of_ble_eq_true rfl) (fun Γ G E => ?_)
  show ax_W Ω Γ 3 18 h 0 [some (.ref X), some (.int k)] []
  refine ax_iload_n (pc := 0) G dX1_withProposal_0 rfl rfl ?_
  refine ax_aload_n (pc := 1) G dX1_withProposal_1 rfl rfl ?_
  refine ax_callV (pc := 2) (kb := 1) (nb := 6) G (cx_thereN hA hX) lVX1_79_0 dX1_withProposal_2 (hX) rfl (by decide) (Nat.le_of_ble_eq_true rfl) rfl (fun _ e9 => by cases e9) (fun q9 e9 => ?_)
  cases e9
  exact ax_out G E (fun x hx => by cases hx)

theorem cx_withVisitY {Ω : ax_O} (hA : ax_Amb Ω) {h : ax_H} {a : Nat} {pl s : pR} {π : Nat → cP} {N V O A : Nat} {D : cD} (ha : Ω.2.1.heap.size ≤ a) (hp : pWP pl N V O) (hs : pWS s A) (hE : cEn h a pl s N V O A D) {X bf tr hi sv lb : Nat} {x1 x2 x3 : Int32} (hX : ∀ σ, (sH h a σ).1 X = some (.inr (0, [.ref bf, .int x1, .int x2, .int x3, .ref a, .ref tr, .ref hi, .ref sv, .ref lb]))) (k : Nat) (hk : k < V)  : ax_Met Ω yX1_withVisit 8 3 18 [.ref X, .int (nI k)] (sH h a (s, π, (.ref (D.1 0)), (D.1 8))) (.inl (some (.ref a))) (sH h a (s, π, (.ref (D.1 0)), (D.1 8))) := by
  refine ax_met q1499 q113 (by decide +kernel) (by decide) hA (Nat.le_of_ble_eq_true rfl) (fun Γ G E => ?_)
  have hV9 := hp.lV
  have hA9 := hs.lA
  have hO9 := hp.lO
  show ax_W Ω Γ 3 18 (sH h a (s, π, (.ref (D.1 0)), (D.1 8))) 0 [some (.ref X), some (.int (nI k))] []
  refine ax_iload_n (pc := 0) G dX1_withVisit_0 rfl rfl ?_
  refine ax_aload_n (pc := 1) G dX1_withVisit_1 rfl rfl ?_
  refine ax_cV1 (pc := 2) (kb := 1) (nb := 6) G (cx_thereY hA (π := π) ha hp hs hE hX) lVX1_79_0 dX1_withVisit_2 (hX _) rfl (by decide) (Nat.le_of_ble_eq_true rfl) rfl ?_
  refine sr_get (pc := 5) (v := .ref (D.1 0)) G flX1_83_1 dX1_withVisit_5 rfl ?_
  refine ax_getf (pc := 8) (v := .ref (D.1 2)) G flX1_97_10 dX1_withVisit_8 (((hE (s, π, (.ref (D.1 0)), (D.1 8))).1).1) rfl ?_
  refine ax_cJ1 (pc := 11) (kb := 1) (nb := 6) G (ct_lsize hA ((hE (s, π, (.ref (D.1 0)), (D.1 8))).1.2.2.1).1) lJX1_1_16 dX1_withVisit_11 (((hE (s, π, (.ref (D.1 0)), (D.1 8))).1.2.2.1).1) rfl (by decide) (Nat.le_of_ble_eq_true rfl) rfl ?_
  refine ax_cS0 (pc := 16) (kb := 0) (nb := 0) G (ct_idxY hA (nI k) (nI V) (ix_y hk (by omega))) lSX1_93 dX1_withVisit_16 rfl (by decide) (Nat.le_of_ble_eq_true rfl) rfl ?_
  refine ax_aload_n (pc := 19) G dX1_withVisit_19 rfl rfl ?_
  refine ax_getf (pc := 20) (v := .ref a) G flX1_72_0 dX1_withVisit_20 (hX _) rfl ?_
  exact ax_aretE (pc := 23) G E rfl (Or.inl ⟨_, rfl⟩) (Or.inr ⟨_, rfl⟩) dX1_withVisit_23 (rfl) (rfl)

theorem cx_withVisitB {Ω : ax_O} (hA : ax_Amb Ω) {h : ax_H} {a : Nat} {pl s : pR} {π : Nat → cP} {N V O A : Nat} {D : cD} (ha : Ω.2.1.heap.size ≤ a) (hp : pWP pl N V O) (hs : pWS s A) (hE : cEn h a pl s N V O A D) {X bf tr hi sv lb : Nat} {x1 x2 x3 : Int32} (hX : ∀ σ, (sH h a σ).1 X = some (.inr (0, [.ref bf, .int x1, .int x2, .int x3, .ref a, .ref tr, .ref hi, .ref sv, .ref lb]))) (k : Int32) (hb : pIn k (nI 0) (nI V - nI 1) = false)  : ax_Met Ω yX1_withVisit 8 3 18 [.ref X, .int k] (sH h a (s, π, (.ref (D.1 0)), (D.1 8))) (.inr (sH h a (s, π, (.ref (D.1 0)), (D.1 8))).2) (ax_add (sH h a (s, π, (.ref (D.1 0)), (D.1 8))) (.inr (22, []))) := by
  refine ax_met q1499 q113 (by decide +kernel) (by decide) hA (Nat.le_of_ble_eq_true rfl) (fun Γ G E => ?_)
  have hV9 := hp.lV
  have hA9 := hs.lA
  have hO9 := hp.lO
  show ax_W Ω Γ 3 18 (sH h a (s, π, (.ref (D.1 0)), (D.1 8))) 0 [some (.ref X), some (.int k)] []
  refine ax_iload_n (pc := 0) G dX1_withVisit_0 rfl rfl ?_
  refine ax_aload_n (pc := 1) G dX1_withVisit_1 rfl rfl ?_
  refine ax_cV1 (pc := 2) (kb := 1) (nb := 6) G (cx_thereY hA (π := π) ha hp hs hE hX) lVX1_79_0 dX1_withVisit_2 (hX _) rfl (by decide) (Nat.le_of_ble_eq_true rfl) rfl ?_
  refine sr_get (pc := 5) (v := .ref (D.1 0)) G flX1_83_1 dX1_withVisit_5 rfl ?_
  refine ax_getf (pc := 8) (v := .ref (D.1 2)) G flX1_97_10 dX1_withVisit_8 (((hE (s, π, (.ref (D.1 0)), (D.1 8))).1).1) rfl ?_
  refine ax_cJ1 (pc := 11) (kb := 1) (nb := 6) G (ct_lsize hA ((hE (s, π, (.ref (D.1 0)), (D.1 8))).1.2.2.1).1) lJX1_1_16 dX1_withVisit_11 (((hE (s, π, (.ref (D.1 0)), (D.1 8))).1.2.2.1).1) rfl (by decide) (Nat.le_of_ble_eq_true rfl) rfl ?_
  refine ax_callS (pc := 16) (kb := 0) (nb := 0) G (ct_idxN hA k (nI V) (hb)) lSX1_93 dX1_withVisit_16 rfl (by decide) (Nat.le_of_ble_eq_true rfl) rfl (fun _ e9 => by cases e9) (fun q9 e9 => ?_)
  cases e9
  exact ax_out G E (fun x hx => by cases hx)

theorem cx_withVisitN {Ω : ax_O} (hA : ax_Amb Ω) {h : ax_H} {X bf tr hi sv lb : Nat} {x1 x2 x3 : Int32} (hX : h.1 X = some (.inr (0, [.ref bf, .int x1, .int x2, .int x3, .null, .ref tr, .ref hi, .ref sv, .ref lb]))) (k : Int32)  : ax_Met Ω yX1_withVisit 8 3 18 [.ref X, .int k] h (.inr h.2) (ax_add h (.inr (21, []))) := by
  refine ax_met q1499 q113 (by decide +kernel) (by decide) hA (Nat.le_of_ble_eq_true rfl) (fun Γ G E => ?_)
  show ax_W Ω Γ 3 18 h 0 [some (.ref X), some (.int k)] []
  refine ax_iload_n (pc := 0) G dX1_withVisit_0 rfl rfl ?_
  refine ax_aload_n (pc := 1) G dX1_withVisit_1 rfl rfl ?_
  refine ax_callV (pc := 2) (kb := 1) (nb := 6) G (cx_thereN hA hX) lVX1_79_0 dX1_withVisit_2 (hX) rfl (by decide) (Nat.le_of_ble_eq_true rfl) rfl (fun _ e9 => by cases e9) (fun q9 e9 => ?_)
  cases e9
  exact ax_out G E (fun x hx => by cases hx)

theorem cx_withAlertY {Ω : ax_O} (hA : ax_Amb Ω) {h : ax_H} {a : Nat} {pl s : pR} {π : Nat → cP} {N V O A : Nat} {D : cD} (ha : Ω.2.1.heap.size ≤ a) (hp : pWP pl N V O) (hs : pWS s A) (hE : cEn h a pl s N V O A D) {X bf tr hi sv lb : Nat} {x1 x2 x3 : Int32} (hX : ∀ σ, (sH h a σ).1 X = some (.inr (0, [.ref bf, .int x1, .int x2, .int x3, .ref a, .ref tr, .ref hi, .ref sv, .ref lb]))) (k : Nat) (hk : k < A)  : ax_Met Ω yX1_withAlert 8 3 18 [.ref X, .int (nI k)] (sH h a (s, π, (.ref (D.1 0)), (D.1 8))) (.inl (some (.ref a))) (sH h a (s, π, (.ref (D.1 0)), (D.1 8))) := by
  refine ax_met q1568 q113 (by decide +kernel) (by decide) hA (Nat.le_of_ble_eq_true rfl) (fun Γ G E => ?_)
  have hV9 := hp.lV
  have hA9 := hs.lA
  have hO9 := hp.lO
  show ax_W Ω Γ 3 18 (sH h a (s, π, (.ref (D.1 0)), (D.1 8))) 0 [some (.ref X), some (.int (nI k))] []
  refine ax_iload_n (pc := 0) G dX1_withAlert_0 rfl rfl ?_
  refine ax_aload_n (pc := 1) G dX1_withAlert_1 rfl rfl ?_
  refine ax_cV1 (pc := 2) (kb := 1) (nb := 6) G (cx_thereY hA (π := π) ha hp hs hE hX) lVX1_79_0 dX1_withAlert_2 (hX _) rfl (by decide) (Nat.le_of_ble_eq_true rfl) rfl ?_
  refine sr_get (pc := 5) (v := .ref (a + 2)) G flX1_100_1 dX1_withAlert_5 rfl ?_
  refine ax_cJ1 (pc := 8) (kb := 1) (nb := 6) G (ct_lsize hA ((hE (s, π, (.ref (D.1 0)), (D.1 8))).2.1).1) lJX1_1_16 dX1_withAlert_8 (((hE (s, π, (.ref (D.1 0)), (D.1 8))).2.1).1) rfl (by decide) (Nat.le_of_ble_eq_true rfl) rfl ?_
  refine ax_cS0 (pc := 13) (kb := 0) (nb := 0) G (ct_idxY hA (nI k) (nI A) (ix_y hk (by omega))) lSX1_93 dX1_withAlert_13 rfl (by decide) (Nat.le_of_ble_eq_true rfl) rfl ?_
  refine ax_aload_n (pc := 16) G dX1_withAlert_16 rfl rfl ?_
  refine ax_getf (pc := 17) (v := .ref a) G flX1_72_0 dX1_withAlert_17 (hX _) rfl ?_
  exact ax_aretE (pc := 20) G E rfl (Or.inl ⟨_, rfl⟩) (Or.inr ⟨_, rfl⟩) dX1_withAlert_20 (rfl) (rfl)

theorem cx_withAlertB {Ω : ax_O} (hA : ax_Amb Ω) {h : ax_H} {a : Nat} {pl s : pR} {π : Nat → cP} {N V O A : Nat} {D : cD} (ha : Ω.2.1.heap.size ≤ a) (hp : pWP pl N V O) (hs : pWS s A) (hE : cEn h a pl s N V O A D) {X bf tr hi sv lb : Nat} {x1 x2 x3 : Int32} (hX : ∀ σ, (sH h a σ).1 X = some (.inr (0, [.ref bf, .int x1, .int x2, .int x3, .ref a, .ref tr, .ref hi, .ref sv, .ref lb]))) (k : Int32) (hb : pIn k (nI 0) (nI A - nI 1) = false)  : ax_Met Ω yX1_withAlert 8 3 18 [.ref X, .int k] (sH h a (s, π, (.ref (D.1 0)), (D.1 8))) (.inr (sH h a (s, π, (.ref (D.1 0)), (D.1 8))).2) (ax_add (sH h a (s, π, (.ref (D.1 0)), (D.1 8))) (.inr (22, []))) := by
  refine ax_met q1568 q113 (by decide +kernel) (by decide) hA (Nat.le_of_ble_eq_true rfl) (fun Γ G E => ?_)
  have hV9 := hp.lV
  have hA9 := hs.lA
  have hO9 := hp.lO
  show ax_W Ω Γ 3 18 (sH h a (s, π, (.ref (D.1 0)), (D.1 8))) 0 [some (.ref X), some (.int k)] []
  refine ax_iload_n (pc := 0) G dX1_withAlert_0 rfl rfl ?_
  refine ax_aload_n (pc := 1) G dX1_withAlert_1 rfl rfl ?_
  refine ax_cV1 (pc := 2) (kb := 1) (nb := 6) G (cx_thereY hA (π := π) ha hp hs hE hX) lVX1_79_0 dX1_withAlert_2 (hX _) rfl (by decide) (Nat.le_of_ble_eq_true rfl) rfl ?_
  refine sr_get (pc := 5) (v := .ref (a + 2)) G flX1_100_1 dX1_withAlert_5 rfl ?_
  refine ax_cJ1 (pc := 8) (kb := 1) (nb := 6) G (ct_lsize hA ((hE (s, π, (.ref (D.1 0)), (D.1 8))).2.1).1) lJX1_1_16 dX1_withAlert_8 (((hE (s, π, (.ref (D.1 0)), (D.1 8))).2.1).1) rfl (by decide) (Nat.le_of_ble_eq_true rfl) rfl ?_
  refine ax_callS (pc := 13) (kb := 0) (nb := 0) G (ct_idxN hA k (nI A) (hb)) lSX1_93 dX1_withAlert_13 rfl (by decide) (Nat.le_of_ble_eq_true rfl) rfl (fun _ e9 => by cases e9) (fun q9 e9 => ?_)
  cases e9
  exact ax_out G E (fun x hx => by cases hx)

theorem cx_withAlertN {Ω : ax_O} (hA : ax_Amb Ω) {h : ax_H} {X bf tr hi sv lb : Nat} {x1 x2 x3 : Int32} (hX : h.1 X = some (.inr (0, [.ref bf, .int x1, .int x2, .int x3, .null, .ref tr, .ref hi, .ref sv, .ref lb]))) (k : Int32)  : ax_Met Ω yX1_withAlert 8 3 18 [.ref X, .int k] h (.inr h.2) (ax_add h (.inr (21, []))) := by
  refine ax_met q1568 q113 (by decide +kernel) (by decide) hA (Nat.le_of_ble_eq_true rfl) (fun Γ G E => ?_)
  show ax_W Ω Γ 3 18 h 0 [some (.ref X), some (.int k)] []
  refine ax_iload_n (pc := 0) G dX1_withAlert_0 rfl rfl ?_
  refine ax_aload_n (pc := 1) G dX1_withAlert_1 rfl rfl ?_
  refine ax_callV (pc := 2) (kb := 1) (nb := 6) G (cx_thereN hA hX) lVX1_79_0 dX1_withAlert_2 (hX) rfl (by decide) (Nat.le_of_ble_eq_true rfl) rfl (fun _ e9 => by cases e9) (fun q9 e9 => ?_)
  cases e9
  exact ax_out G E (fun x hx => by cases hx)

theorem cx_pointing {Ω : ax_O} (hA : ax_Amb Ω) {h : ax_H} (lon lat : Int32) : ax_Met Ω yX1_isPointing 2 0 0 [.int lon, .int lat] h (.inl (some (.int (bI (pIn lon (nI 0) (nI 359) && pIn lat (-90) (nI 90)))))) h := by
  refine ax_met q1663 q113 (by decide +kernel) (by decide) hA (Nat.le_of_ble_eq_true rfl) (fun Γ G E => ?_)
  show ax_W Ω Γ 0 0 h 0 [some (.int lon), some (.int lat)] []
  refine ax_iload_n (pc := 0) G dX1_isPointing_0 rfl rfl ?_
  refine ax_i2l (pc := 1) G dX1_isPointing_1 rfl ?_
  refine ax_lconst (pc := 2) (v := 0) G dX1_isPointing_2 rfl ?_
  refine ax_ldc2 (pc := 3) G q1664 dX1_isPointing_3 ?_
  refine ax_cS1 (pc := 6) (kb := 0) (nb := 0) G (ct_in hA lon.toInt64 0 359) lSX1_62 dX1_isPointing_6 rfl (by decide) (Nat.le_of_ble_eq_true rfl) rfl ?_
  rw [cIn_k (A := 0) (B := 359) (a := (nI 0)) (b := (nI 359)) lon (by decide) (by decide)]
  refine ax_if_eq (pc := 9) (tgt := 30) G dX1_isPointing_9 rfl (fun c9 => ?_) (fun c9 => ?_)
  · have c9b := bI_f c9
    refine ax_iconst (pc := 30) (v := nI 0) G dX1_isPointing_30 ic_0 ?_
    exact ax_iretE (pc := 31) G E rfl (rfl) dX1_isPointing_31 (by first | (simp only [c9b, Bool.true_and, Bool.false_and]; rfl) | (simp only [c9b, Bool.true_and, Bool.false_and])) (rfl)
  · have c9b := bI_t c9
    refine ax_iload_n (pc := 12) G dX1_isPointing_12 rfl rfl ?_
    refine ax_i2l (pc := 13) G dX1_isPointing_13 rfl ?_
    refine ax_ldc2 (pc := 14) G q1665 dX1_isPointing_14 ?_
    refine ax_ldc2 (pc := 17) G q1666 dX1_isPointing_17 ?_
    refine ax_cS1 (pc := 20) (kb := 0) (nb := 0) G (ct_in hA lat.toInt64 (-90) 90) lSX1_62 dX1_isPointing_20 rfl (by decide) (Nat.le_of_ble_eq_true rfl) rfl ?_
    rw [cIn_k (A := (-90)) (B := 90) (a := (-90)) (b := (nI 90)) lat (by decide) (by decide)]
    refine ax_if_eq (pc := 23) (tgt := 30) G dX1_isPointing_23 rfl (fun c23 => ?_) (fun c23 => ?_)
    · have c23b := bI_f c23
      refine ax_iconst (pc := 30) (v := nI 0) G dX1_isPointing_30 ic_0 ?_
      exact ax_iretE (pc := 31) G E rfl (rfl) dX1_isPointing_31 (by first | (simp only [c9b, c23b, Bool.true_and, Bool.false_and]; rfl) | (simp only [c9b, c23b, Bool.true_and, Bool.false_and])) (rfl)
    · have c23b := bI_t c23
      refine ax_iconst (pc := 26) (v := nI 1) G dX1_isPointing_26 ic_1 ?_
      refine ax_goto (pc := 27) (tgt := 31) G dX1_isPointing_27 rfl ?_
      exact ax_iretE (pc := 31) G E rfl (rfl) dX1_isPointing_31 (by first | (simp only [c9b, c23b, Bool.true_and, Bool.false_and]; rfl) | (simp only [c9b, c23b, Bool.true_and, Bool.false_and])) (rfl)

theorem cx_angle {Ω : ax_O} (hA : ax_Amb Ω) {h : ax_H} {a : Nat} {pl s : pR} {π : Nat → cP} {N V O A : Nat} {D : cD} (ha : Ω.2.1.heap.size ≤ a) (hp : pWP pl N V O) (hs : pWS s A) (hE : cEn h a pl s N V O A D) {X bf tr hi sv lb : Nat} {x1 x2 x3 : Int32} (hX : ∀ σ, (sH h a σ).1 X = some (.inr (0, [.ref bf, .int x1, .int x2, .int x3, .ref a, .ref tr, .ref hi, .ref sv, .ref lb]))) (lon lat : Int32)  : ax_Met Ω yX1_angle 3 0 0 [.ref X, .int lon, .int lat] (sH h a (s, π, (.ref (D.1 0)), (D.1 8))) (.inl (some (.int (iMax (cAr lon (s 1)) (iAbs (lat - s 2)))))) (sH h a (s, π, (.ref (D.1 0)), (D.1 8))) := by
  refine ax_met q1670 q113 (by decide +kernel) (by decide) hA (Nat.le_of_ble_eq_true rfl) (fun Γ G E => ?_)
  have hV9 := hp.lV
  have hA9 := hs.lA
  have hO9 := hp.lO
  show ax_W Ω Γ 0 0 (sH h a (s, π, (.ref (D.1 0)), (D.1 8))) 0 [some (.ref X), some (.int lon), some (.int lat)] []
  refine ax_iload_n (pc := 0) G dX1_angle_0 rfl rfl ?_
  refine ax_aload_n (pc := 1) G dX1_angle_1 rfl rfl ?_
  refine ax_getf (pc := 2) (v := .ref a) G flX1_72_0 dX1_angle_2 (hX _) rfl ?_
  refine sr_get (pc := 5) (v := .int (s 1)) G flX1_244_1 dX1_angle_5 rfl ?_
  refine ax_cS1 (pc := 8) (kb := 0) (nb := 0) G (ct_around hA lon (s 1)) lSX1_292 dX1_angle_8 rfl (by decide) (Nat.le_of_ble_eq_true rfl) rfl ?_
  refine ax_iload_n (pc := 11) G dX1_angle_11 rfl rfl ?_
  refine ax_aload_n (pc := 12) G dX1_angle_12 rfl rfl ?_
  refine ax_getf (pc := 13) (v := .ref a) G flX1_72_0 dX1_angle_13 (hX _) rfl ?_
  refine sr_get (pc := 16) (v := .int (s 2)) G flX1_246_1 dX1_angle_16 rfl ?_
  refine ax_isub (pc := 19) G dX1_angle_19 ?_
  refine ax_abs (pc := 20) G q1678 q1679 q132 q1680 (by decide) (Nat.le_of_ble_eq_true rfl) dX1_angle_20 ?_
  refine ax_max (pc := 23) G q1681 q322 q132 q323 (by decide) (Nat.le_of_ble_eq_true rfl) dX1_angle_23 ?_
  exact ax_iretE (pc := 26) G E rfl (rfl) dX1_angle_26 (rfl) (rfl)

