/-! MORE ROWS: exceptions that are made, casts, copies, class objects, default methods, private methods of a superclass -/
def ax_wok (L : List Cond) : Bool := L.all fun w => decide (w ∈ lw_tbl) && (goodWord w || (match w with | .castable _ _ => true | _ => false))
theorem ax_wok_ot {L : List Cond} (h : ax_wok L = true) : ∀ w ∈ L, vx_ot w = true := by
  intro w hm
  have h1 := List.all_eq_true.mp h w hm
  simp only [Bool.and_eq_true, decide_eq_true_eq, Bool.or_eq_true] at h1
  obtain ⟨h2, h3⟩ := h1
  rcases h3 with h3 | h3
  · simp only [vx_ot, Bool.or_eq_true]; exact Or.inr h3
  · cases w <;> first | (cases h3; done) | rfl
theorem ax_wok_at {Ω : ax_O} (hA : ax_Amb Ω) {s : State} (hw : Ω.2.1.WarmedH s.vm) {L : List Cond} (h : ax_wok L = true) (a : Array Value) : ∀ w ∈ L, w.before a s = true := by
  intro w hm
  have h1 := List.all_eq_true.mp h w hm
  simp only [Bool.and_eq_true, decide_eq_true_eq, Bool.or_eq_true] at h1
  obtain ⟨h2, h3⟩ := h1
  rcases h3 with h3 | h3
  · exact ax_words hA hw (lw_g h2 h3) a
  · cases w <;> first | (cases h3; done) | exact va_Nw.use rfl (ax_cast hA hw h2)
/-- a leaf of what the Statement gives of the start -/
theorem ax_nar {Ω : ax_O} (hA : ax_Amb Ω) {w : Cond} (h : w ∈ flatC (Jvm.Cond.and given_1 narrow_1)) : ∃ A, w.before A Ω.2.1 = true := by
  obtain ⟨A, h1⟩ := hA.2.2.2.2.2.2
  exact ⟨A, flat_of_before _ h1 w h⟩
section AXM
variable {Ω : ax_O} {Γ : ax_F} {y : MethodName} {cc : ByteArray} {nL : Nat} {ret : Option FieldType} {hh : List (Nat × Nat × Nat × Nat)} {d kb nb pc : Nat} {h : ax_H} {ls : List (Option Value)} {rest : List Value}
set_option maxHeartbeats 1000000 in
/-- 'new E()' of an exception (its fields stay untold): the object goes on the stack -/
theorem ax_make0 (G : ax_C Ω Γ y cc nL ret hh d) {cls : String} {names : List String} {ik ic ci : Nat} {T0 : u_T} (hcls : Bundle.fit cls = true) (hnames : ∀ n ∈ names, Bundle.fit n = true) (hk : Cond.classLink y.cls ik cls ∈ lw_all) (hini : Cond.initialized cls ∈ lw_all) (hat0 : ax_wok (vx_at0 y.cls ic cls names) = true)
    (d0 : decode cc pc = .ok (.new ik, 3)) (d3 : decode cc (pc + 3) = .ok (.dup, 1)) (d4 : decode cc (pc + 4) = .ok (.invokespecial ic, 3)) (hc : ax_CL[ci]? = some (cls, T0, 0)) (hd : names.length + 4 ≤ d) (hr : (rest.map fun v => v.category).sum ≤ 20)
    (kk : ax_W Ω Γ kb nb (ax_add h (.inr (ci, []))) (pc + 7) ls (.ref h.2 :: rest)) : ax_W Ω Γ (kb + 1) (nb + 6) h pc ls rest := by
  intro H locs cells slots Ls hR hl hL hn g1 g2
  have hw := G.2.2.2.2.2.2.2.2.2.1
  have hold := G.2.2.2.2.2.2.2.2.2.2.1
  have hf := G.2.2.2.2.2.2.2.2.2.2.2
  have hat : ∀ w ∈ vx_at0 y.cls ic cls names, w.before Γ.2.2.2.2.2.1 Γ.2.2.2.1 = true := ax_wok_at G.1 hw hat0 _
  have hgood := ax_wok_ot hat0
  have hkw := ax_words G.1 hw hk Γ.2.2.2.2.2.1
  have hiniw := ax_words G.1 hw hini Γ.2.2.2.2.2.1
  have hUq : ∀ {n : String} {de : String}, vx_Zq Bundle.tN n de (ax_A Ω) Ω.2.1 Ω.2.1.heap → vx_Zq Bundle.tN n de (ax_A Ω) Γ.2.2.2.1 Γ.2.2.2.1.heap := fun hz => vx_Zq.moved hw.alike (hz.kept fun a h1 _ => hold.2 a h1)
  obtain ⟨hU, hN⟩ := G.1.2.2.2.2.1
  replace hU := hUq hU
  replace hN := hUq hN
  intro T hT X
  subst hT
  have hSs : ∀ q : Nat, q < Γ.2.2.2.1.heap.size → ¬ ax_A Ω q → T.heap[q]? = Γ.2.2.2.1.heap[q]? := fun q _ hq => by
    have hq' : q < Ω.2.1.heap.size := Nat.lt_of_not_le hq
    rw [hR.2.2.1 q hq', hold.2 q hq']
  have htr : Γ.2.1.platform.stackTraces = false := (show Γ.2.1.platform.stackTraces = Ω.1.stackTraces by rw [X.admits.platform]).trans G.1.1
  have Y := vx_rebase X (R' := { frames := Γ.2.2.1.frames, locals := Γ.2.2.1.locals, cells := 1, slots := 6 }) (Nat.le_refl _) (Nat.le_refl _) (show cells + 1 ≤ _ by omega) (show slots + 6 ≤ _ by omega)
  obtain ⟨s', hA'⟩ : ∃ z, z = (T.setVm Γ.2.2.2.1.vm).setFrames (.invoking Γ.2.2.2.2.1 Γ.2.2.2.2.2.1 :: Γ.2.2.2.2.2.2.1) := ⟨_, rfl⟩
  rw [← hA'] at Y
  have hvm : s'.vm = Γ.2.2.2.1.vm := by rw [hA']; rfl
  have hhp : s'.heap = T.heap := by rw [hA']; rfl
  have hW0 : Γ.2.2.2.1.WarmedH s'.vm := by rw [hvm]; exact State.WarmedH.refl _
  have hat' : ∀ w ∈ vx_at0 y.cls ic cls names, w.before Γ.2.2.2.2.2.1 s' = true := fun w hw' => vx_ot_at hW0 hvm.symm (hgood w hw') (hat w hw')
  have hk' : (Cond.classLink y.cls ik cls).before Γ.2.2.2.2.2.1 s' = true := vx_ot_at hW0 hvm.symm rfl hkw
  have hini' : (Cond.initialized cls).before Γ.2.2.2.2.2.1 s' = true := vx_ot_at hW0 hvm.symm rfl hiniw
  have hU' : vx_Zq Bundle.tN "UNASSIGNED_STACK" Bundle.steD (ax_A Ω) s' s'.heap := by rw [hhp]; exact vx_Zq.moved hW0.alike (hU.kept hSs)
  have hN' : vx_Zq Bundle.tN "SUPPRESSED_SENTINEL" Bundle.listD (ax_A Ω) s' s'.heap := by rw [hhp]; exact vx_Zq.moved hW0.alike (hN.kept hSs)
  have ho : ∀ w ∈ Bundle.ownAtoms0 y.cls ic cls names, w.before Γ.2.2.2.2.2.1 s' = true := vx_own hat' (vx_isRefq hU'.1) (vx_isRefq hN'.1) hU'.2.word hN'.2.word
  have hown' : s'.vm.findClass y.cls = some Γ.2.2.2.2.1.cls := by rw [hvm]; exact G.2.2.2.2.1
  have hins : (Cond.instantiable cls 6).before Γ.2.2.2.2.2.1 s' = true := ho _ (by simp [Bundle.ownAtoms0])
  obtain ⟨vm₁, cX, kX, hfX, hkX, -, -, X₁, st1⟩ := Y.newCold G.2.1 (own := y.cls) (C := cls) (index := ik) (n := 6) hown' hk' hins hini'
    (g := F0 Γ.2.2.2.2.1 pc Ls rest) rfl (by rw [G.2.2.1]; exact d0) (Nat.le_refl _) (Nat.le_refl _)
  generalize hT1 : (T.setVm vm₁).pushCell { cls := cX, slots := kX.instanceTypes.map defaultValue, vm := .none } = T1 at X₁ st1
  have hcat : (Value.ref T.heap.size).category = 1 := rfl
  have hcellA : T1.heap[T.heap.size]? = some (freshCell cX kX) := by rw [← hT1]; exact State.heap_pushCell_size _ _
  have d3' : decode Γ.2.2.2.2.2.2.2.2.1.code (pc + 3) = .ok (.dup, 1) := by rw [G.2.2.1]; exact d3
  obtain ⟨V, ce, L, Z, hLL, hlt, hcl9, hvm9, st⟩ := vx_ctorMade0 X₁ G.2.1 htr (own := y.cls) (cls := cls) (names := names) (ic := ic) hown' hcls hnames ho (fun x hx => nomatch hx) hfX hkX hcellA (by rw [hhp]; exact Nat.le_refl _)
    (g := { method := Γ.2.2.2.2.1, pc := pc + 4, locals := Ls, stack := .ref T.heap.size :: .ref T.heap.size :: rest, locked := none }) rfl (hL.1.trans hn) (rest := rest) rfl
    (by rw [G.2.2.1]; exact d4) (show names.length + 3 < Γ.2.2.1.frames by omega) (by simp only [List.map_cons, List.sum_cons, hcat]; show _ ≤ Γ.2.2.1.locals; omega)
  have Z0 := Stand.forget (locs := []) Z (fun y hy => by rw [hLL y hy, hhp]; exact Nat.le_refl _)
  obtain ⟨f1, f2⟩ := vx_frame Z0.same
  rw [hhp] at f1 f2
  have f3 : (V.setCell T.heap.size ce).heap.size ≤ T.heap.size + 1 := by
    have := Z0.same.2.2.1
    rw [hhp] at this
    exact this
  have hcid : ce.cls = Ω.2.2.1.1 ci := by
    rw [hcl9]
    have h1 := ((ax_kn G.1 hw).1 ci _ hc).2.1
    rw [hvm] at hfX
    exact Option.some.inj (hfX.symm.trans h1)
  have hh9 : (V.setCell T.heap.size ce).heap[T.heap.size]? = some ce := heapAt_setCell_self (s := V) ce hlt
  have hlt9 : T.heap.size < (V.setCell T.heap.size ce).heap.size := (Array.getElem?_eq_some_iff.mp hh9).1
  subst hA'
  have X5 := vx_back9 X Y Z0
  have X6 : Stand Γ.1 Ω.1 Γ.2.1 Γ.2.2.1 Γ.2.2.2.1 Γ.2.2.2.2.1 Γ.2.2.2.2.2.1 Γ.2.2.2.2.2.2.1 Γ.2.2.2.2.2.2.2.1 Γ.2.2.2.2.2.2.2.2.1 (V.setCell T.heap.size ce) locs (cells + 1) (slots + 6) := { X5 with same := X5.same.mono (by omega) (by omega) }
  have hR1 : ax_R Ω (ax_add h (.inr (ci, []))) (V.setCell T.heap.size ce).heap :=
    hR.add (by omega) (fun q hq => f2 q hq (fun z hz => nomatch hz)) ⟨_, hc, ce, hh9, hcid, hvm9, fun k hk => absurd hk (Nat.not_lt_zero k)⟩
  have hk9 := kk (V.setCell T.heap.size ce).heap locs (cells + 1) (slots + 6) Ls hR1 hl hL hn (by omega) (by omega)
  rw [← hR.1] at hk9
  obtain ⟨t, a1, b1⟩ := hk9 _ rfl X6
  refine ⟨t, st1 _ ?_, b1⟩
  show Steps Γ.1.tables Γ.2.1 Γ.2.2.2.2.2.2.1 (T1.setTop { method := Γ.2.2.2.2.1, pc := pc + 3, locals := Ls, stack := .ref T.heap.size :: rest, locked := none }) _
  jvm_step X₁.here [X₁.here.top, G.2.1, d3', Value.category]
  exact st _ a1
theorem ax_athrow (G : ax_C Ω Γ y cc nL ret hh d) {q : Nat} (dec : decode cc pc = .ok (.athrow, 1)) (k : ax_X Ω Γ kb nb h pc ls q) : ax_W Ω Γ kb nb h pc ls (.ref q :: rest) :=
  fun H locs cells slots L hR hl hL hn g1 g2 => vx_athrow G.2.1 G.2.2.1 dec (k H locs cells slots L rest hR hl hL hn g1 g2)
/-! casts -/
theorem ax_mayC (G : ax_C Ω Γ y cc nL ret hh d) {ci : Nat} {nm : String} (hm : ax_may ci nm) : ∃ c0 t0 : ClassId, Γ.2.2.2.1.vm.findClass (match ax_CL[ci]? with | some r => r.1 | none => "") = some c0 ∧ Γ.2.2.2.1.vm.findClass nm = some t0 ∧ Γ.2.2.2.1.vm.assignable c0 t0 = true := by
  have hw := G.2.2.2.2.2.2.2.2.2.1
  obtain ⟨r, hc, hm⟩ := hm
  rw [hc]
  rcases hm with e | e
  · have := ((ax_kn G.1 hw).1 ci r hc).2.1
    exact ⟨_, _, this, e ▸ this, va_asg _ _⟩
  · obtain ⟨c0, t1, f1, f2, f3⟩ := Cond.castable_spec (va_Nw.use (A := Γ.2.2.2.2.2.1) rfl (ax_cast G.1 hw e))
    exact ⟨c0, t1, f1, f2, f3⟩
theorem ax_checkcast (G : ax_C Ω Γ y cc nL ret hh d) {idx ci a : Nat} {fs : List Value} {nm : String} (hlink : Cond.classLink y.cls idx nm ∈ lw_all) (hm : ax_may ci nm) (dec : decode cc pc = .ok (.checkcast idx, 3)) (he : h.1 a = some (.inr (ci, fs)))
    (kk : ax_W Ω Γ kb nb h (pc + 3) ls (.ref a :: rest)) : ax_W Ω Γ kb nb h pc ls (.ref a :: rest) := by
  intro H locs cells slots L hR hl hL hn g1 g2 T hT X
  obtain ⟨c0, t0, f1, f2, f3⟩ := ax_mayC G hm
  obtain ⟨r, hc, hm⟩ := hm
  rw [hc] at f1
  obtain ⟨cell, w1, w2, w3⟩ := ax_recv G hR he hc
  cases f1.symm.trans w3
  obtain ⟨vm', X', st⟩ := X.checkcastYes G.2.1 G.2.2.2.2.1 (ax_words G.1 G.2.2.2.2.2.2.2.2.2.1 hlink _) (by rw [hT]; exact w1) w2 f2 f3 (g := F0 Γ.2.2.2.2.1 pc L (.ref a :: rest)) rfl rfl (by rw [G.2.2.1]; exact dec)
  obtain ⟨t, a1, b1⟩ := kk H locs cells slots L hR hl hL hn g1 g2 (T.setVm vm') hT X'
  exact ⟨t, st t a1, b1⟩
theorem ax_checkcastN (G : ax_C Ω Γ y cc nL ret hh d) {idx : Nat} (dec : decode cc pc = .ok (.checkcast idx, 3)) (kk : ax_W Ω Γ kb nb h (pc + 3) ls (.null :: rest)) : ax_W Ω Γ kb nb h pc ls (.null :: rest) :=
  fun H locs cells slots L hR hl hL hn g1 g2 => lv_castN G.2.1 G.2.2.1 dec (kk H locs cells slots L hR hl hL hn g1 g2)
theorem ax_instY (G : ax_C Ω Γ y cc nL ret hh d) {idx ci a : Nat} {fs : List Value} {nm : String} (hlink : Cond.classLink y.cls idx nm ∈ lw_all) (hm : ax_may ci nm) (dec : decode cc pc = .ok (.instanceof idx, 3)) (he : h.1 a = some (.inr (ci, fs)))
    (kk : ax_W Ω Γ kb nb h (pc + 3) ls (.int 1 :: rest)) : ax_W Ω Γ kb nb h pc ls (.ref a :: rest) := by
  intro H locs cells slots L hR hl hL hn g1 g2 T hT X
  obtain ⟨c0, t0, f1, f2, f3⟩ := ax_mayC G hm
  obtain ⟨r, hc, hm⟩ := hm
  rw [hc] at f1
  obtain ⟨cell, w1, w2, w3⟩ := ax_recv G hR he hc
  cases f1.symm.trans w3
  obtain ⟨vm', X', st⟩ := X.instanceofYes G.2.1 G.2.2.2.2.1 (ax_words G.1 G.2.2.2.2.2.2.2.2.2.1 hlink _) (by rw [hT]; exact w1) w2 f2 f3 (g := F0 Γ.2.2.2.2.1 pc L (.ref a :: rest)) rfl rfl (by rw [G.2.2.1]; exact dec)
  obtain ⟨t, a1, b1⟩ := kk H locs cells slots L hR hl hL hn g1 g2 (T.setVm vm') hT X'
  exact ⟨t, st t a1, b1⟩
theorem ax_nc (hA : ax_Amb Ω) {s : State} (hw : Ω.2.1.WarmedH s.vm) {C T : String} (hno : Cond.not (.castable C T) ∈ flatC (Jvm.Cond.and given_1 narrow_1)) : va_Nc C T s := by
  obtain ⟨A, h1⟩ := ax_nar hA hno
  exact va_Nc.moved hw.alike (va_Nc.of h1)
theorem ax_instNo (G : ax_C Ω Γ y cc nL ret hh d) {idx ci a : Nat} {fs : List Value} {nm : String} {r : vw_C} (hc : ax_CL[ci]? = some r) (hlink : Cond.classLink y.cls idx nm ∈ lw_all) (hno : Cond.not (.castable r.1 nm) ∈ flatC (Jvm.Cond.and given_1 narrow_1)) (dec : decode cc pc = .ok (.instanceof idx, 3)) (he : h.1 a = some (.inr (ci, fs)))
    (kk : ax_W Ω Γ kb nb h (pc + 3) ls (.int 0 :: rest)) : ax_W Ω Γ kb nb h pc ls (.ref a :: rest) := by
  intro H locs cells slots L hR hl hL hn g1 g2
  exact va_instNo G.2.1 G.2.2.1 G.2.2.2.2.1 (ax_words G.1 G.2.2.2.2.2.2.2.2.2.1 hlink _) (ax_nc G.1 G.2.2.2.2.2.2.2.2.2.1 hno) (ax_recv G hR he hc) dec (kk H locs cells slots L hR hl hL hn g1 g2)
/-- an array of objects of class C that was made since the start -/
theorem ax_castArr (G : ax_C Ω Γ y cc nL ret hh d) {idx a n : Nat} {C nm : String} {f : Nat → Option Nat} (hlink : Cond.classLink y.cls idx nm ∈ lw_all) (hnm : "[" ++ (FieldType.object C).toString = nm) (ha : Ω.2.1.heap.size ≤ a) (dec : decode cc pc = .ok (.checkcast idx, 3)) (he : h.1 a = some (.inl (.object C, n, .inr (.inr (.inr (.inr f))))))
    (kk : ax_W Ω Γ kb nb h (pc + 3) ls (.ref a :: rest)) : ax_W Ω Γ kb nb h pc ls (.ref a :: rest) := by
  intro H locs cells slots L hR hl hL hn g1 g2 T hT X
  have hw := G.2.2.2.2.2.2.2.2.2.1
  obtain ⟨cell, c1, c2, c4, c5, c6, c7, c8⟩ := hR.2.2.2 a _ he
  obtain ⟨⟨kA, comp, -, -, -, k4⟩, cA, hcA⟩ := c8 ha
  have hf : Γ.2.2.2.1.vm.findClass nm = some cell.cls := by rw [hw.alike.findClass, ← hnm]; exact k4
  obtain ⟨vm', X', st⟩ := X.checkcastYes G.2.1 G.2.2.2.2.1 (ax_words G.1 hw hlink _) (by rw [hT]; exact c1) (by rw [hcA]; rfl) hf (va_asg _ _) (g := F0 Γ.2.2.2.2.1 pc L (.ref a :: rest)) rfl rfl (by rw [G.2.2.1]; exact dec)
  obtain ⟨t, a1, b1⟩ := kk H locs cells slots L hR hl hL hn g1 g2 (T.setVm vm') hT X'
  exact ⟨t, st t a1, b1⟩
/-- an array of numbers that was made since the start -/
theorem ax_castNum (G : ax_C Ω Γ y cc nL ret hh d) {idx a n : Nat} {ty : FieldType} {nm : String} {f : Nat → Int32} (hlink : Cond.classLink y.cls idx nm ∈ lw_all) (hty : ty = .byte ∨ ty = .int) (hnm : "[" ++ ty.toString = nm) (ha : Ω.2.1.heap.size ≤ a) (dec : decode cc pc = .ok (.checkcast idx, 3)) (he : h.1 a = some (.inl (ty, n, .inl f)))
    (kk : ax_W Ω Γ kb nb h (pc + 3) ls (.ref a :: rest)) : ax_W Ω Γ kb nb h pc ls (.ref a :: rest) := by
  intro H locs cells slots L hR hl hL hn g1 g2 T hT X
  have hw := G.2.2.2.2.2.2.2.2.2.1
  obtain ⟨cell, c1, c2, c4, c5, c6, c7, c8⟩ := hR.2.2.2 a _ he
  obtain ⟨k4, cA, hcA⟩ := c8 ha
  have k5 : Ω.2.1.vm.findClass nm = some cell.cls := by
    rw [← hnm]
    rcases hty with rfl | rfl <;> exact k4
  have hf : Γ.2.2.2.1.vm.findClass nm = some cell.cls := by rw [hw.alike.findClass]; exact k5
  obtain ⟨vm', X', st⟩ := X.checkcastYes G.2.1 G.2.2.2.2.1 (ax_words G.1 hw hlink _) (by rw [hT]; exact c1) (by rw [hcA]; rfl) hf (va_asg _ _) (g := F0 Γ.2.2.2.2.1 pc L (.ref a :: rest)) rfl rfl (by rw [G.2.2.1]; exact dec)
  obtain ⟨t, a1, b1⟩ := kk H locs cells slots L hR hl hL hn g1 g2 (T.setVm vm') hT X'
  exact ⟨t, st t a1, b1⟩
/-! class objects -/
theorem ax_ldcM (G : ax_C Ω Γ y cc nL ret hh d) {idx mi : Nat} {C : String} (hlink : Cond.classLink y.cls idx C ∈ lw_all) (hM : va_Mi C mi Ω.2.1) (dec : decode cc pc = .ok (.ldc idx, 2))
    (kk : ax_W Ω Γ kb nb h (pc + 2) ls (.ref mi :: rest)) : ax_W Ω Γ kb nb h pc ls rest := by
  intro H locs cells slots L hR hl hL hn g1 g2
  have hw := G.2.2.2.2.2.2.2.2.2.1
  exact va_ldcM G.2.1 G.2.2.1 G.2.2.2.2.1 (ax_words G.1 hw hlink _) (va_Mi.moved hw.alike hM) dec (kk H locs cells slots L hR hl hL hn g1 g2)
abbrev ax_gcN : MethodName := ⟨"java/lang/Object", "getClass", "()Ljava/lang/Class;"⟩
theorem ax_getClassA (G : ax_C Ω Γ y cc nL ret hh d) {idx a n mi : Nat} {C nm : String} {f : Nat → Option Nat} (hnm : "[" ++ (FieldType.object C).toString = nm) (hlink : Cond.methodLink y.cls idx ax_gcN ∈ lw_all) (hdecl : Cond.declares ax_gcN ∈ lw_tbl) (hsel : Cond.selects nm ax_gcN ax_gcN ∈ lw_all) (hinst : Cond.instanceMethod ax_gcN ∈ lw_all) (hnat : Cond.native ax_gcN ∈ lw_all) (hM : va_Mi nm mi Ω.2.1) (ha : Ω.2.1.heap.size ≤ a) (hd : 1 ≤ d) (hr : (rest.map fun v => v.category).sum ≤ 20) (dec : decode cc pc = .ok (.invokevirtual idx, 3)) (he : h.1 a = some (.inl (.object C, n, .inr (.inr (.inr (.inr f))))))
    (kk : ax_W Ω Γ kb nb h (pc + 3) ls (.ref mi :: rest)) : ax_W Ω Γ kb nb h pc ls (.ref a :: rest) := by
  intro H locs cells slots L hR hl hL hn g1 g2
  have hw := G.2.2.2.2.2.2.2.2.2.1
  have hf9 := G.2.2.2.2.2.2.2.2.2.2.2
  obtain ⟨A0, hA0⟩ := G.1.2.2.1
  have hts : ∀ w ∈ lw_all, w.before Γ.2.2.2.2.2.1 Γ.2.2.2.1 = true := fun w hw' => ax_words G.1 hw hw' _
  obtain ⟨cell, c1, c2, c4, c5, c6, c7, c8⟩ := hR.2.2.2 a _ he
  obtain ⟨⟨kA, comp, -, -, -, k4⟩, cA, hcA⟩ := c8 ha
  have hf : Γ.2.2.2.1.vm.findClass nm = some cell.cls := by rw [hw.alike.findClass, ← hnm]; exact k4
  exact va_getC G.2.1 G.2.2.1 (hn.symm.trans hL.1.symm) G.2.2.2.2.1 (hts _ hlink) (va_Dc.use (va_Dc.moved hw.alike (va_Dc.of (hA0 _ hdecl)))) (hts _ hsel) (hts _ hinst) (hts _ hnat) (va_Mi.moved hw.alike hM) ⟨cell, c1, by rw [hcA]; rfl, hf⟩ (by omega) (by omega) dec (kk H locs cells slots L hR hl hL hn g1 g2)
/-- the bits of a float -/
theorem ax_f2i (G : ax_C Ω Γ y cc nL ret hh d) {idx : Nat} {b : UInt32} (hlink : Cond.methodLink y.cls idx ⟨"java/lang/Float", "floatToRawIntBits", "(F)I"⟩ ∈ lw_all) (hnat : Cond.native ⟨"java/lang/Float", "floatToRawIntBits", "(F)I"⟩ ∈ lw_all) (hstat : Cond.static ⟨"java/lang/Float", "floatToRawIntBits", "(F)I"⟩ ∈ lw_all) (hini : Cond.initialized "java/lang/Float" ∈ lw_all) (hd : 1 ≤ d) (hr : (rest.map fun v => v.category).sum ≤ 20) (dec : decode cc pc = .ok (.invokestatic idx, 3))
    (kk : ax_W Ω Γ kb nb h (pc + 3) ls (.int b.toInt32 :: rest)) : ax_W Ω Γ kb nb h pc ls (.float b :: rest) := by
  intro H locs cells slots L hR hl hL hn g1 g2
  have hw := G.2.2.2.2.2.2.2.2.2.1
  have hf := G.2.2.2.2.2.2.2.2.2.2.2
  have hts : ∀ w ∈ lw_all, w.before Γ.2.2.2.2.2.1 Γ.2.2.2.1 = true := fun w hw' => ax_words G.1 hw hw' _
  exact vn_f2i G.2.1 G.2.2.1 (hn.symm.trans hL.1.symm) G.2.2.2.2.1 (hts _ hlink) (hts _ hnat) (hts _ hstat) (hts _ hini) (by omega) (by omega) dec (kk H locs cells slots L hR hl hL hn g1 g2)
/-! System.arraycopy -/
theorem ax_nn {z : Nat} (hz : z < 2 ^ 31) : ¬ nI z < 0 ∧ (nI z).toInt = (z : Int) ∧ (nI z).toNatClampNeg = z := ⟨nI_pos hz, nI_toInt hz, nI_clamp hz⟩
set_option maxHeartbeats 1000000 in
/-- .. of numbers (a0 may be an array of the start; it may be a itself) -/
theorem ax_copyi (G : ax_C Ω Γ y cc nL ret hh d) {idx a0 a n0 n1 sp dp n : Nat} {f g : Nat → Int32} {ty : FieldType} (hlink : Cond.methodLink y.cls idx arraycopyName ∈ lw_all) (hnat : Cond.native arraycopyName ∈ lw_all) (hstat : Cond.static arraycopyName ∈ lw_all) (hini : Cond.initialized "java/lang/System" ∈ lw_all)
    (he0 : h.1 a0 = some (.inl (ty, n0, .inl f))) (he1 : h.1 a = some (.inl (ty, n1, .inl g))) (ha : Ω.2.1.heap.size ≤ a) (hprim : refKind ty = false) (h4 : sp + n ≤ n0) (h5 : dp + n ≤ n1) (h31 : n0 < 2 ^ 31 ∧ n1 < 2 ^ 31) (hfit : ∀ i, i < n → fits ty (.int (f (sp + i))) = true) (hd : 1 ≤ d) (hr : (rest.map fun v => v.category).sum ≤ 20) (dec : decode cc pc = .ok (.invokestatic idx, 3))
    (kk : ax_W Ω Γ kb nb (ax_set h a (.inl (ty, n1, .inl (va_cpy f g sp dp n)))) (pc + 3) ls rest) : ax_W Ω Γ kb nb h pc ls (.int (nI n) :: .int (nI dp) :: .ref a :: .int (nI sp) :: .ref a0 :: rest) := by
  intro H locs cells slots L hR hl hL hn g1 g2 T hT X
  have hw := G.2.2.2.2.2.2.2.2.2.1
  have hf9 := G.2.2.2.2.2.2.2.2.2.2.2
  have hts : ∀ w ∈ lw_all, w.before Γ.2.2.2.2.2.1 Γ.2.2.2.1 = true := fun w hw' => ax_words G.1 hw hw' _
  obtain ⟨s1, s2, s3⟩ := ax_nn (z := sp) (by omega)
  obtain ⟨p1, p2, p3⟩ := ax_nn (z := dp) (by omega)
  obtain ⟨n1', n2, n3⟩ := ax_nn (z := n) (by omega)
  obtain ⟨cs, a1, a2, a3, a4, a5, a6, -⟩ := hR.2.2.2 a0 _ he0
  obtain ⟨cd, b1, b2, b3, b4, b5, b6, b7⟩ := hR.2.2.2 a _ he1
  obtain ⟨-, cA, rfl⟩ := b7 ha
  obtain ⟨a8, k0, hk0, cm0, hkk0⟩ := State.isArrayOf_alike hw.alike a2
  obtain ⟨b8, k1, hk1, cm1, hkk1⟩ := State.isArrayOf_alike hw.alike b2
  obtain ⟨vm', X', step⟩ := X.arraycopy G.2.1 G.2.2.2.2.1 (hts _ hlink) (hts _ hnat) (hts _ hstat) (hts _ hini) (src := a0) (dst := a) (cs := cs) (cd := arrV cA n1 (ax_val (n1, .inl g))) (srcPos := nI sp) (destPos := nI dp) (n := nI n) (by rw [hT]; exact a1) (by rw [hT]; exact b1)
    a8 (fun _ h => by cases h) a3 (fun h => by cases h) hk0 hk1 hkk0 hkk1 (by simp [hprim]) s1 p1 n1'
    (by rw [s2, n2]; have : n0 ≤ cs.slots.size := a4; omega)
    (by rw [p2, n2, arrV_size]; omega)
    (fun vm₁ _ i hi => by
      rw [n3] at hi
      have e : cs.slots.getD ((nI sp).toNatClampNeg + i) .null = .int (f (sp + i)) := by
        rw [s3, Array.getD_eq_getD_getElem?, a6 _ (show sp + i < n0 by omega)]
        rfl
      refine ⟨?_, ?_⟩
      · rw [e]; exact hfit i hi
      · rw [e]; exact trivial)
    (g := F0 Γ.2.2.2.2.1 pc L (.int (nI n) :: .int (nI dp) :: .ref a :: .int (nI sp) :: .ref a0 :: rest)) rfl (hL.1.trans hn) (rest := rest) rfl (by rw [G.2.2.1]; exact dec) (by omega) (by show 2 * 0 + _ + (nativeFrameWords "java/lang/System" "arraycopy" 5 + 11) ≤ _; have hw9 : nativeFrameWords "java/lang/System" "arraycopy" 5 ≤ 20 := (by decide); omega)
  have e1 : copied cs (arrV cA n1 (ax_val (n1, .inl g))) (nI sp) (nI dp) (nI n) = arrV cA n1 (ax_val (n1, .inl (va_cpy f g sp dp n))) := by
    have := va_copiedX (fun z => Value.int z) cs cA (n0 := n0) (n1 := n1) (sp := sp) (dp := dp) (n := n) f g a6 h4
    show (arrV cA n1 (ax_val (n1, .inl g))).storeRun (nI dp).toNatClampNeg (cs.stretch (nI sp).toNatClampNeg (nI n).toNatClampNeg) = _
    rw [s3, p3, n3]
    exact this
  rw [e1] at X' step
  have hlt : a < H.size := (Array.getElem?_eq_some_iff.mp b1).1
  have hheap : ((T.setVm vm').setCell a (arrV cA n1 (ax_val (n1, .inl (va_cpy f g sp dp n))))).heap = H.setIfInBounds a (arrV cA n1 (ax_val (n1, .inl (va_cpy f g sp dp n)))) := by rw [← hT]; rfl
  have oq : ∀ q : Nat, q ≠ a → (H.setIfInBounds a (arrV cA n1 (ax_val (n1, .inl (va_cpy f g sp dp n)))))[q]? = H[q]? := fun q hq => by simp [Array.getElem?_setIfInBounds, Ne.symm hq]
  have hs9 : (arrV cA n1 (ax_val (n1, .inl (va_cpy f g sp dp n)))).slots.size = n1 := arrV_size _ _ _
  have hs8 : (arrV cA n1 (ax_val (n1, .inl g))).slots.size = n1 := arrV_size _ _ _
  obtain ⟨t, u1, u2⟩ := kk _ _ cells slots L (hR.set ha (by simp) oq ⟨arrV cA n1 (ax_val (n1, .inl (va_cpy f g sp dp n))), by simp [Array.getElem?_setIfInBounds, hlt], b2, (fun h => by cases h), by rw [hs9]; exact Nat.le_refl _, by rw [hs9], fun j hj => arrV_read _ _ hj, fun hb => ⟨(b7 hb).1, cA, rfl⟩⟩) (fun z hz => by
      rcases List.mem_append.mp hz with h | h
      · exact hl z h
      · obtain ⟨x, -, hx⟩ := List.mem_map.mp h
        rw [← hx]
        exact ha) hL hn g1 g2 _ hheap X'
  exact ⟨t, step t u1, u2⟩
set_option maxHeartbeats 1000000 in
/-- .. of references (an array of Object, made since the start; its things are objects) -/
theorem ax_copyq (G : ax_C Ω Γ y cc nL ret hh d) {idx a0 a n0 n1 sp dp n : Nat} {f g : Nat → Option Nat} {C : String} (hlink : Cond.methodLink y.cls idx arraycopyName ∈ lw_all) (hnat : Cond.native arraycopyName ∈ lw_all) (hstat : Cond.static arraycopyName ∈ lw_all) (hini : Cond.initialized "java/lang/System" ∈ lw_all)
    (he0 : h.1 a0 = some (.inl (.object C, n0, .inr (.inr (.inr (.inr f)))))) (he1 : h.1 a = some (.inl (.object C, n1, .inr (.inr (.inr (.inr g)))))) (ha : Ω.2.1.heap.size ≤ a) (h4 : sp + n ≤ n0) (h5 : dp + n ≤ n1) (h31 : n0 < 2 ^ 31 ∧ n1 < 2 ^ 31) (hel : ∀ i, i < n → ∀ q, f (sp + i) = some q → ∃ ci fs, h.1 q = some (.inr (ci, fs)) ∧ ax_may ci C) (hd : 1 ≤ d) (hr : (rest.map fun v => v.category).sum ≤ 20) (dec : decode cc pc = .ok (.invokestatic idx, 3))
    (kk : ax_W Ω Γ kb nb (ax_set h a (.inl (.object C, n1, .inr (.inr (.inr (.inr (va_cpy f g sp dp n))))))) (pc + 3) ls rest) : ax_W Ω Γ kb nb h pc ls (.int (nI n) :: .int (nI dp) :: .ref a :: .int (nI sp) :: .ref a0 :: rest) := by
  intro H locs cells slots L hR hl hL hn g1 g2 T hT X
  have hw := G.2.2.2.2.2.2.2.2.2.1
  have hf9 := G.2.2.2.2.2.2.2.2.2.2.2
  have hts : ∀ w ∈ lw_all, w.before Γ.2.2.2.2.2.1 Γ.2.2.2.1 = true := fun w hw' => ax_words G.1 hw hw' _
  obtain ⟨s1, s2, s3⟩ := ax_nn (z := sp) (by omega)
  obtain ⟨p1, p2, p3⟩ := ax_nn (z := dp) (by omega)
  obtain ⟨n1', n2, n3⟩ := ax_nn (z := n) (by omega)
  obtain ⟨cs, a1, a2, a3, a4, a5, a6, -⟩ := hR.2.2.2 a0 _ he0
  obtain ⟨cd, b1, b2, b3, b4, b5, b6, b7⟩ := hR.2.2.2 a _ he1
  obtain ⟨⟨kB, cmB, bb1, bb2, bb3, -⟩, cA, rfl⟩ := b7 ha
  obtain ⟨a8, k0, hk0, cm0, hkk0⟩ := State.isArrayOf_alike hw.alike a2
  obtain ⟨b8, k1, hk1, cm1, hkk1⟩ := State.isArrayOf_alike hw.alike b2
  obtain ⟨kB', hkB', heB⟩ := hw.alike.2.2 _ _ bb1
  have hcomp : Γ.2.2.2.1.vm.findClass C = some cm1 := by
    cases hk1.symm.trans hkB'
    have e1 : kB.kind = .array cm1 (.object C) := by rw [heB] at hkk1; exact hkk1
    have e2 := bb2.symm.trans e1
    cases e2
    rw [hw.alike.findClass]; exact bb3
  obtain ⟨vm', X', step⟩ := X.arraycopy G.2.1 G.2.2.2.2.1 (hts _ hlink) (hts _ hnat) (hts _ hstat) (hts _ hini) (src := a0) (dst := a) (cs := cs) (cd := arrV cA n1 (ax_val (n1, .inr (.inr (.inr (.inr g)))))) (srcPos := nI sp) (destPos := nI dp) (n := nI n) (by rw [hT]; exact a1) (by rw [hT]; exact b1)
    a8 (fun _ h => by cases h) a3 (fun h => by cases h) hk0 hk1 hkk0 hkk1 rfl s1 p1 n1'
    (by rw [s2, n2]; have : n0 ≤ cs.slots.size := a4; omega)
    (by rw [p2, n2, arrV_size]; omega)
    (fun vm₁ hal i hi => by
      rw [n3] at hi
      have e : cs.slots.getD ((nI sp).toNatClampNeg + i) .null = va_rf (f (sp + i)) := by
        rw [s3, Array.getD_eq_getD_getElem?, a6 _ (show sp + i < n0 by omega)]
        rfl
      rw [e]
      cases hy : f (sp + i) with
      | none => exact ⟨rfl, trivial⟩
      | some q =>
        obtain ⟨ci, fs, hq, hm⟩ := hel i hi q hy
        obtain ⟨c0, t0, f1, f2, f3⟩ := ax_mayC G hm
        obtain ⟨r, hc, hm⟩ := hm
        rw [hc] at f1
        obtain ⟨cellV, w1, w2, w3⟩ := ax_recv G hR hq hc
        cases f1.symm.trans w3
        cases hcomp.symm.trans f2
        obtain ⟨kC, hkC, -⟩ := Vm.findClass_spec w3
        obtain ⟨kE, hkE, -⟩ := Vm.findClass_spec f2
        obtain ⟨kC', hkC', -⟩ := hal.2.2 _ _ hkC
        obtain ⟨kE', hkE', -⟩ := hal.2.2 _ _ hkE
        refine ⟨rfl, cellV, (show T.heap[q]? = some cellV by rw [hT]; exact w1), (fun q h => by rw [h] at w2; cases w2), ⟨kC', hkC'⟩, ?_, ?_⟩
        · exact ⟨kE', hkE'⟩
        · show vm₁.assignable _ _ = true
          rw [hal.assignable]
          exact f3)
    (g := F0 Γ.2.2.2.2.1 pc L (.int (nI n) :: .int (nI dp) :: .ref a :: .int (nI sp) :: .ref a0 :: rest)) rfl (hL.1.trans hn) (rest := rest) rfl (by rw [G.2.2.1]; exact dec) (by omega) (by show 2 * 0 + _ + (nativeFrameWords "java/lang/System" "arraycopy" 5 + 11) ≤ _; have hw9 : nativeFrameWords "java/lang/System" "arraycopy" 5 ≤ 20 := (by decide); omega)
  have e1 : copied cs (arrV cA n1 (ax_val (n1, .inr (.inr (.inr (.inr g)))))) (nI sp) (nI dp) (nI n) = arrV cA n1 (ax_val (n1, .inr (.inr (.inr (.inr (va_cpy f g sp dp n)))))) := by
    have := va_copiedX va_rf cs cA (n0 := n0) (n1 := n1) (sp := sp) (dp := dp) (n := n) f g a6 h4
    show (arrV cA n1 (ax_val (n1, .inr (.inr (.inr (.inr g)))))).storeRun (nI dp).toNatClampNeg (cs.stretch (nI sp).toNatClampNeg (nI n).toNatClampNeg) = _
    rw [s3, p3, n3]
    exact this
  rw [e1] at X' step
  have hlt : a < H.size := (Array.getElem?_eq_some_iff.mp b1).1
  have hheap : ((T.setVm vm').setCell a (arrV cA n1 (ax_val (n1, .inr (.inr (.inr (.inr (va_cpy f g sp dp n)))))))).heap = H.setIfInBounds a (arrV cA n1 (ax_val (n1, .inr (.inr (.inr (.inr (va_cpy f g sp dp n))))))) := by rw [← hT]; rfl
  have oq : ∀ q : Nat, q ≠ a → (H.setIfInBounds a (arrV cA n1 (ax_val (n1, .inr (.inr (.inr (.inr (va_cpy f g sp dp n))))))))[q]? = H[q]? := fun q hq => by simp [Array.getElem?_setIfInBounds, Ne.symm hq]
  have hs9 : (arrV cA n1 (ax_val (n1, .inr (.inr (.inr (.inr (va_cpy f g sp dp n))))))).slots.size = n1 := arrV_size _ _ _
  have hs8 : (arrV cA n1 (ax_val (n1, .inr (.inr (.inr (.inr g)))))).slots.size = n1 := arrV_size _ _ _
  obtain ⟨t, u1, u2⟩ := kk _ _ cells slots L (hR.set ha (by simp) oq ⟨arrV cA n1 (ax_val (n1, .inr (.inr (.inr (.inr (va_cpy f g sp dp n)))))), by simp [Array.getElem?_setIfInBounds, hlt], b2, (fun h => by cases h), by rw [hs9]; exact Nat.le_refl _, by rw [hs9], fun j hj => arrV_read _ _ hj, fun hb => ⟨(b7 hb).1, cA, rfl⟩⟩) (fun z hz => by
      rcases List.mem_append.mp hz with h | h
      · exact hl z h
      · obtain ⟨x, -, hx⟩ := List.mem_map.mp h
        rw [← hx]
        exact ha) hL hn g1 g2 _ hheap X'
  exact ⟨t, step t u1, u2⟩
end AXM
