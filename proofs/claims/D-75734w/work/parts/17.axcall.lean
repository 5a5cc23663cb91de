/-! CALLS -/
def ax_Run (Ω : ax_O) (Γ : ax_F) (mc ms : Nat) (o : ax_Out) (h1 : ax_H) (len : Nat) (g : JFrame) (rest : List Value) (a : Array Value) (H : Heap) (locs : List Loc) (cells slots : Nat) : Prop :=
  ∀ T : State, T.heap = H → Stand Γ.1 Ω.1 Γ.2.1 Γ.2.2.1 Γ.2.2.2.1 Γ.2.2.2.2.1 Γ.2.2.2.2.2.1 Γ.2.2.2.2.2.2.1 Γ.2.2.2.2.2.2.2.1 Γ.2.2.2.2.2.2.2.2.1 T locs cells slots →
    (∃ (v : Option Value) (vm₁ : Vm) (B : Pt), Γ.2.2.2.1.WarmedH vm₁ ∧ Stand Γ.1 Ω.1 Γ.2.1 Γ.2.2.1 Γ.2.2.2.1 Γ.2.2.2.2.1 Γ.2.2.2.2.2.1 Γ.2.2.2.2.2.2.1 Γ.2.2.2.2.2.2.2.1 Γ.2.2.2.2.2.2.2.2.1 B.U B.locs B.cells B.slots ∧ ax_Post Ω o h1 mc ms ⟨T.setVm vm₁, locs, cells, slots⟩ a v B ∧
      ∀ target, Steps Γ.1.tables Γ.2.1 Γ.2.2.2.2.2.2.1 (B.U.setTop { g with pc := g.pc + len, stack := v.toList ++ rest }) target → Steps Γ.1.tables Γ.2.1 Γ.2.2.2.2.2.2.1 (T.setTop g) target) ∨
    (∃ (q : Addr) (vm₁ : Vm) (B : Pt), Γ.2.2.2.1.WarmedH vm₁ ∧ Stand Γ.1 Ω.1 Γ.2.1 Γ.2.2.1 Γ.2.2.2.1 Γ.2.2.2.2.1 Γ.2.2.2.2.2.1 Γ.2.2.2.2.2.2.1 Γ.2.2.2.2.2.2.2.1 Γ.2.2.2.2.2.2.2.2.1 B.U B.locs B.cells B.slots ∧ ax_PostX Ω o h1 mc ms ⟨T.setVm vm₁, locs, cells, slots⟩ a q B ∧
      Steps Γ.1.tables Γ.2.1 Γ.2.2.2.2.2.2.1 (T.setTop g) ((B.U.setTop { g with stack := rest }).pushFrame (.throwing q)))
section AXC
variable {Ω : ax_O} {Γ : ax_F} {y : MethodName} {cc : ByteArray} {nL : Nat} {ret : Option FieldType} {hh : List (Nat × Nat × Nat × Nat)} {d d' kb nb mc ms pc : Nat} {h h1 : ax_H} {o : ax_Out} {ls : List (Option Value)} {As rest : List Value}
theorem ax_go {len : Nat} {st : List Value} {a : Array Value} (run : ∀ (H : Heap) (locs : List Loc) (cells slots : Nat) (L : Array Slot), ax_R Ω h H → ax_L L ls → ls.length = Γ.2.2.2.2.2.2.2.2.1.maxLocals → cells + mc ≤ Γ.2.2.1.cells → slots + ms ≤ Γ.2.2.1.slots → ax_Run Ω Γ mc ms o h1 len (F0 Γ.2.2.2.2.1 pc L st) rest a H locs cells slots)
    (kv : ∀ v, o = .inl v → ax_W Ω Γ kb nb h1 (pc + len) ls (v.toList ++ rest)) (kx : ∀ q, o = .inr q → ax_X Ω Γ kb nb h1 pc ls q) : ax_W Ω Γ (kb + mc) (nb + ms) h pc ls st := by
  intro H locs cells slots L hR hl hL hn g1 g2 T hT X
  rcases run H locs cells slots L hR hL hn (by omega) (by omega) T hT X with ⟨v, vm₁, B, hW₁, X', ⟨ho, hR1, L9, e1, hL9, e2, e3⟩, st'⟩ | ⟨q, vm₁, B, hW₁, X', ⟨ho, hR1, L9, e1, hL9, e2, e3⟩, st'⟩
  · obtain ⟨U, l2, c2, s2⟩ := B
    dsimp only [Pt.U, Pt.locs, Pt.cells, Pt.slots] at X' hR1 e1 e2 e3 st'
    subst e1 e2 e3
    obtain ⟨t, a1, b1⟩ := kv v ho U.heap (locs ++ L9) (cells + mc) (slots + ms) L hR1 (t_lL hl hL9) hL hn (by omega) (by omega) U rfl X'
    exact ⟨t, st' t a1, b1⟩
  · obtain ⟨U, l2, c2, s2⟩ := B
    dsimp only [Pt.U, Pt.locs, Pt.cells, Pt.slots] at X' hR1 e1 e2 e3 st'
    subst e1 e2 e3
    obtain ⟨t, a1, b1⟩ := kx q ho U.heap (locs ++ L9) (cells + mc) (slots + ms) L rest hR1 (t_lL hl hL9) hL hn (by omega) (by omega) U rfl X'
    exact ⟨t, st'.trans a1, b1⟩
theorem ax_warm {Ω : ax_O} {s U : State} (h1 : Ω.2.1.WarmedH s.vm) (h2 : s.WarmedH U.vm) : Ω.2.1.WarmedH U.vm := State.WarmedH.trans h1 h2
theorem ax_backM (G : ax_C Ω Γ y cc nL ret hh d) {y' : MethodName} {cc' : ByteArray} {nL' : Nat} {ret' : Option FieldType} {len : Nat} (hd : d' + 1 ≤ d) (hq : Cond.code y' cc' nL' ret' ∈ lw_all) (hini : Cond.initialized y'.cls ∈ lw_all) (hn' : nL' ≤ 100) (hM : ax_Met0 Ω y' (Cond.code y' cc' nL' ret') d' mc ms As h o h1) :
    vx_Back Ω.1 Γ.2.2.1 Γ.1 Γ.2.1 Γ.2.2.2.2.2.2.1 Γ.2.2.2.1 Γ.2.2.2.2.2.1 y' len 20 (ax_Pre Ω Γ.2.2.1 As h mc ms) (ax_Post Ω o h1 mc ms) (ax_PostX Ω o h1 mc ms) := by
  have hf := G.2.2.2.2.2.2.2.2.2.2.2
  have hw := G.2.2.2.2.2.2.2.2.2.1
  refine ax_back (nL := nL') hM (by omega) (by omega) (fun a' U hU => ax_words G.1 (ax_warm hw hU) hq _) (fun a' U mk hU hn hc => ?_) (fun a' U hU => ax_words G.1 (ax_warm hw hU) hini _)
  obtain ⟨meth, c, e1, e2, -, e4, -⟩ := Cond.code_spec hn hc
  exact ⟨meth, c, e1, e2, e4⟩
theorem ax_backW (G : ax_C Ω Γ y cc nL ret hh d) {y' : MethodName} {cc' : ByteArray} {nL' : Nat} {ret' : Option FieldType} {hh' : List (Nat × Nat × Nat × Nat)} {len : Nat} (hd : d' + 1 ≤ d) (hq : Cond.codeWith y' cc' nL' ret' hh' ∈ lw_all) (hini : Cond.initialized y'.cls ∈ lw_all) (hn' : nL' ≤ 100) (hM : ax_Met0 Ω y' (Cond.codeWith y' cc' nL' ret' hh') d' mc ms As h o h1) :
    vx_Back Ω.1 Γ.2.2.1 Γ.1 Γ.2.1 Γ.2.2.2.2.2.2.1 Γ.2.2.2.1 Γ.2.2.2.2.2.1 y' len 20 (ax_Pre Ω Γ.2.2.1 As h mc ms) (ax_Post Ω o h1 mc ms) (ax_PostX Ω o h1 mc ms) := by
  have hf := G.2.2.2.2.2.2.2.2.2.2.2
  have hw := G.2.2.2.2.2.2.2.2.2.1
  refine ax_back (nL := nL') hM (by omega) (by omega) (fun a' U hU => ax_words G.1 (ax_warm hw hU) hq _) (fun a' U mk hU hn hc => ?_) (fun a' U hU => ax_words G.1 (ax_warm hw hU) hini _)
  obtain ⟨m9, meth, c, hn9, e1, e2, e3, e4, -⟩ := Cond.codeWith_spec hc
  cases hn.symm.trans hn9
  exact ⟨meth, c, e1, e2, e4⟩
theorem ax_recv (G : ax_C Ω Γ y cc nL ret hh d) {H : Heap} {b ci : Nat} {fs : List Value} {r : vw_C} (hR : ax_R Ω h H) (hb : h.1 b = some (.inr (ci, fs))) (hc : ax_CL[ci]? = some r) : ∃ cell : Cell, H[b]? = some cell ∧ cell.vm.isStatics = false ∧ Γ.2.2.2.1.vm.findClass r.1 = some cell.cls := by
  obtain ⟨r', hr', cell, w1, w2, w3, -⟩ := hR.2.2.2 b _ hb
  cases Option.some.inj (hr'.symm.trans hc)
  exact ⟨cell, w1, by rw [w3]; rfl, by rw [w2]; exact ((ax_kn G.1 G.2.2.2.2.2.2.2.2.2.1).1 ci r hc).2.1⟩
theorem ax_plen {y' : MethodName} {n : Nat} (hy : ax_yok y' n) (hn : As.length = n) : ∀ sig, parseMethodDescriptor y'.desc = some sig → As.length = sig.parameters.length := by
  intro sig hs
  have h2 := hy.2.2
  rw [hs] at h2
  exact hn.trans (Option.some.inj h2).symm
/-- what a call through an object's own class asks -/
def ax_lV (own : String) (idx ci : Nat) (y' : MethodName) (n : Nat) : Prop := ∃ r : vw_C, ax_CL[ci]? = some r ∧ Cond.methodLink own idx y' ∈ lw_all ∧ Cond.instanceMethod y' ∈ lw_all ∧ Cond.selects r.1 y' y' ∈ lw_all ∧ ax_yok y' n
def ax_lVN (own : String) (idx ci : Nat) (y' : MethodName) (n : Nat) : Prop := ∃ (r : vw_C) (hst : String), ax_CL[ci]? = some r ∧ Cond.methodLinkNest own idx y' hst ∈ lw_tbl ∧ Cond.instanceMethod y' ∈ lw_all ∧ Cond.selects r.1 y' y' ∈ lw_all ∧ ax_yok y' n
def ax_lS (own : String) (idx : Nat) (y' : MethodName) (n : Nat) : Prop := Cond.methodLink own idx y' ∈ lw_all ∧ Cond.static y' ∈ lw_all ∧ ax_yok y' n
def ax_lSN (own : String) (idx : Nat) (y' : MethodName) (n : Nat) : Prop := ∃ hst : String, Cond.methodLinkNest own idx y' hst ∈ lw_tbl ∧ Cond.static y' ∈ lw_all ∧ ax_yok y' n
def ax_lI (own : String) (idx : Nat) (y' : MethodName) (n : Nat) : Prop := Cond.methodLink own idx y' ∈ lw_all ∧ Cond.instanceMethod y' ∈ lw_all ∧ y'.name = "<init>" ∧ (∃ cc' nL', Cond.code y' cc' nL' none ∈ lw_all) ∧ ax_yok y' n
def ax_lIN (own : String) (idx : Nat) (y' : MethodName) (n : Nat) : Prop := ∃ hst : String, Cond.methodLinkNest own idx y' hst ∈ lw_tbl ∧ Cond.instanceMethod y' ∈ lw_all ∧ y'.name = "<init>" ∧ (∃ cc' nL', Cond.code y' cc' nL' none ∈ lw_all) ∧ ax_yok y' n
/-- inherited: the entry names x, owner declares it, y' runs -/
def ax_lVU (own : String) (idx ci : Nat) (x : MethodName) (owner : String) (y' : MethodName) (n : Nat) : Prop := ∃ r : vw_C, ax_CL[ci]? = some r ∧ Cond.methodLink own idx x ∈ lw_all ∧ Cond.sameMethod x.cls owner x.name x.desc ∈ lw_all ∧ ((∃ cc' nL' ret', Cond.code ⟨owner, x.name, x.desc⟩ cc' nL' ret' ∈ lw_all) ∧ Cond.instanceMethod ⟨owner, x.name, x.desc⟩ ∈ lw_all) ∧
  (owner ≠ "java/lang/invoke/MethodHandle" ∧ owner ≠ "java/lang/invoke/VarHandle") ∧ Cond.selects r.1 x y' ∈ lw_all ∧ Cond.instanceMethod y' ∈ lw_all ∧ ax_yok x n
def ax_lSU (own : String) (idx : Nat) (y' : MethodName) (n : Nat) : Prop := Cond.methodLink own idx y' ∈ lw_all ∧ Cond.sameMethod y'.cls y'.cls y'.name y'.desc ∈ lw_all ∧ Cond.superclass own y'.cls ∈ lw_all ∧ Cond.instanceMethod y' ∈ lw_all ∧ y'.name ≠ "<init>" ∧ ax_yok y' n
/-- through an interface -/
def ax_lF (own : String) (idx ci : Nat) (x y' : MethodName) (n : Nat) : Prop := ∃ r : vw_C, ax_CL[ci]? = some r ∧ Cond.methodLink own idx x ∈ lw_all ∧ Cond.selects r.1 x y' ∈ lw_all ∧ Cond.instanceMethod y' ∈ lw_all ∧ Cond.declares x ∈ lw_tbl ∧ Cond.interfaceMethod x.cls x.cls x.name x.desc ∈ lw_tbl ∧ Cond.publicMethod y' ∈ lw_tbl ∧ Cond.unhidden r.1 x.name x.desc ∈ lw_tbl ∧ Cond.castable r.1 x.cls ∈ lw_tbl ∧ ax_yok x n
theorem ax_callV (G : ax_C Ω Γ y cc nL ret hh d) {idx ci b : Nat} {fs : List Value} {y' : MethodName} {n : Nat} (M : ax_Met Ω y' d' mc ms (.ref b :: As) h o h1) (F : ax_lV y.cls idx ci y' n) (dec : decode cc pc = .ok (.invokevirtual idx, 3)) (hb : h.1 b = some (.inr (ci, fs))) (hn9 : As.length = n) (hd : d' + 1 ≤ d) (hr : (rest.map fun v => v.category).sum ≤ 20) {st : List Value} (hst : st = As.reverse ++ .ref b :: rest)
    (kv : ∀ v, o = .inl v → ax_W Ω Γ kb nb h1 (pc + 3) ls (v.toList ++ rest)) (kx : ∀ q, o = .inr q → ax_X Ω Γ kb nb h1 pc ls q) : ax_W Ω Γ (kb + mc) (nb + ms) h pc ls st := by
  obtain ⟨cc', nL', ret', hq, hini, hn', hM⟩ := M
  obtain ⟨r, hc, f1, f2, f3, f4⟩ := F
  have hw := G.2.2.2.2.2.2.2.2.2.1
  have hts : ∀ w ∈ lw_all, w.before Γ.2.2.2.2.2.1 Γ.2.2.2.1 = true := fun w hw' => ax_words G.1 hw hw' _
  refine ax_go (a := (Value.ref b :: As).toArray) (fun H locs cells slots L hR hL hn g1 g2 T hT X => ?_) kv kx
  obtain ⟨cell, w1, w2, w3⟩ := ax_recv G hR hb hc
  exact vx_callV X G.2.1 (C := r.1) (bytes := cc') (maxL := nL') (ret := ret') G.2.2.2.2.1 (hts _ f1) (hts _ f2) (hts _ f3) (hts _ hq) ⟨f4.1, f4.2.1⟩ (ax_backM G hd hq hini hn' hM) (by rw [hT]; exact w1) w2 w3 rfl (hL.1.trans hn) (ax_plen f4 hn9) hst (by show 2 * 0 + _ ≤ 20; omega) (by rw [G.2.2.1]; exact dec)
    (fun vm₁ hW₁ => ⟨g1, g2, rfl, State.WarmedH.trans hw hW₁, by show ax_R Ω h T.heap; rw [hT]; exact hR⟩)
theorem ax_callVN (G : ax_C Ω Γ y cc nL ret hh d) {idx ci b : Nat} {fs : List Value} {y' : MethodName} {n : Nat} (M : ax_Met Ω y' d' mc ms (.ref b :: As) h o h1) (F : ax_lVN y.cls idx ci y' n) (dec : decode cc pc = .ok (.invokevirtual idx, 3)) (hb : h.1 b = some (.inr (ci, fs))) (hn9 : As.length = n) (hd : d' + 1 ≤ d) (hr : (rest.map fun v => v.category).sum ≤ 20) {st : List Value} (hst : st = As.reverse ++ .ref b :: rest)
    (kv : ∀ v, o = .inl v → ax_W Ω Γ kb nb h1 (pc + 3) ls (v.toList ++ rest)) (kx : ∀ q, o = .inr q → ax_X Ω Γ kb nb h1 pc ls q) : ax_W Ω Γ (kb + mc) (nb + ms) h pc ls st := by
  obtain ⟨cc', nL', ret', hq, hini, hn', hM⟩ := M
  obtain ⟨r, host, hc, f1, f2, f3, f4⟩ := F
  have hw := G.2.2.2.2.2.2.2.2.2.1
  have hts : ∀ w ∈ lw_all, w.before Γ.2.2.2.2.2.1 Γ.2.2.2.1 = true := fun w hw' => ax_words G.1 hw hw' _
  refine ax_go (a := (Value.ref b :: As).toArray) (fun H locs cells slots L hR hL hn g1 g2 T hT X => ?_) kv kx
  obtain ⟨cell, w1, w2, w3⟩ := ax_recv G hR hb hc
  exact vx_callVN X G.2.1 (C := r.1) (bytes := cc') (maxL := nL') (ret := ret') G.2.2.2.2.1 (ax_nestM G.1 hw f1 _) (hts _ f2) (hts _ f3) (hts _ hq) ⟨f4.1, f4.2.1⟩ (ax_backM G hd hq hini hn' hM) (by rw [hT]; exact w1) w2 w3 rfl (hL.1.trans hn) (ax_plen f4 hn9) hst (by show 2 * 0 + _ ≤ 20; omega) (by rw [G.2.2.1]; exact dec)
    (fun vm₁ hW₁ => ⟨g1, g2, rfl, State.WarmedH.trans hw hW₁, by show ax_R Ω h T.heap; rw [hT]; exact hR⟩)
theorem ax_callVU (G : ax_C Ω Γ y cc nL ret hh d) {idx ci b : Nat} {fs : List Value} {x y' : MethodName} {owner : String} {n : Nat} (M : ax_Met Ω y' d' mc ms (.ref b :: As) h o h1) (F : ax_lVU y.cls idx ci x owner y' n) (dec : decode cc pc = .ok (.invokevirtual idx, 3)) (hb : h.1 b = some (.inr (ci, fs))) (hn9 : As.length = n) (hd : d' + 1 ≤ d) (hr : (rest.map fun v => v.category).sum ≤ 20) {st : List Value} (hst : st = As.reverse ++ .ref b :: rest)
    (kv : ∀ v, o = .inl v → ax_W Ω Γ kb nb h1 (pc + 3) ls (v.toList ++ rest)) (kx : ∀ q, o = .inr q → ax_X Ω Γ kb nb h1 pc ls q) : ax_W Ω Γ (kb + mc) (nb + ms) h pc ls st := by
  obtain ⟨cc', nL', ret', hq, hini, hn', hM⟩ := M
  obtain ⟨r, hc, f1, f2, ⟨⟨cc9, nL9, ret9, f3⟩, f3'⟩, f4, f5, f6, f7⟩ := F
  have hw := G.2.2.2.2.2.2.2.2.2.1
  have hts : ∀ w ∈ lw_all, w.before Γ.2.2.2.2.2.1 Γ.2.2.2.1 = true := fun w hw' => ax_words G.1 hw hw' _
  refine ax_go (a := (Value.ref b :: As).toArray) (fun H locs cells slots L hR hL hn g1 g2 T hT X => ?_) kv kx
  obtain ⟨cell, w1, w2, w3⟩ := ax_recv G hR hb hc
  exact vx_callVU X G.2.1 (C := r.1) (bytes := cc') (maxL := nL') (ret := ret') G.2.2.2.2.1 (hts _ f1) (hts _ f2) (va_Decl.of (hts _ f3') (hts _ f3)) f4 (hts _ f5) (hts _ f6) (hts _ hq) (ax_backM G hd hq hini hn' hM) (by rw [hT]; exact w1) w2 w3 rfl (hL.1.trans hn) (ax_plen f7 hn9) hst (by show 2 * 0 + _ ≤ 20; omega) (by rw [G.2.2.1]; exact dec)
    (fun vm₁ hW₁ => ⟨g1, g2, rfl, State.WarmedH.trans hw hW₁, by show ax_R Ω h T.heap; rw [hT]; exact hR⟩)
theorem ax_callSU (G : ax_C Ω Γ y cc nL ret hh d) {idx ci b : Nat} {fs : List Value} {r : vw_C} {y' : MethodName} {n : Nat} (M : ax_Met Ω y' d' mc ms (.ref b :: As) h o h1) (F : ax_lSU y.cls idx y' n) (dec : decode cc pc = .ok (.invokespecial idx, 3)) (hb : h.1 b = some (.inr (ci, fs))) (hc : ax_CL[ci]? = some r) (hn9 : As.length = n) (hd : d' + 1 ≤ d) (hr : (rest.map fun v => v.category).sum ≤ 20) {st : List Value} (hst : st = As.reverse ++ .ref b :: rest)
    (kv : ∀ v, o = .inl v → ax_W Ω Γ kb nb h1 (pc + 3) ls (v.toList ++ rest)) (kx : ∀ q, o = .inr q → ax_X Ω Γ kb nb h1 pc ls q) : ax_W Ω Γ (kb + mc) (nb + ms) h pc ls st := by
  obtain ⟨cc', nL', ret', hq, hini, hn', hM⟩ := M
  obtain ⟨f1, f2, f3, f4, f5, f7⟩ := F
  have hw := G.2.2.2.2.2.2.2.2.2.1
  have hts : ∀ w ∈ lw_all, w.before Γ.2.2.2.2.2.1 Γ.2.2.2.1 = true := fun w hw' => ax_words G.1 hw hw' _
  refine ax_go (a := (Value.ref b :: As).toArray) (fun H locs cells slots L hR hL hn g1 g2 T hT X => ?_) kv kx
  obtain ⟨cell, w1, w2, w3⟩ := ax_recv G hR hb hc
  obtain ⟨kB, hkB, -⟩ := Vm.findClass_spec w3
  exact vx_callSU X G.2.1 (bytes := cc') (maxL := nL') (ret := ret') G.2.2.2.2.1 (hts _ f1) (hts _ f2) (hts _ f3) (hts _ f4) (hts _ hq) f5 (ax_backM G hd hq hini hn' hM) (by rw [hT]; exact w1) w2 hkB rfl (hL.1.trans hn) (ax_plen f7 hn9) hst (by show 2 * 0 + _ ≤ 20; omega) (by rw [G.2.2.1]; exact dec)
    (fun vm₁ hW₁ => ⟨g1, g2, rfl, State.WarmedH.trans hw hW₁, by show ax_R Ω h T.heap; rw [hT]; exact hR⟩)
theorem ax_callF (G : ax_C Ω Γ y cc nL ret hh d) {idx cnt ci b : Nat} {fs : List Value} {x y' : MethodName} {n : Nat} (M : ax_Met Ω y' d' mc ms (.ref b :: As) h o h1) (F : ax_lF y.cls idx ci x y' n) (dec : decode cc pc = .ok (.invokeinterface idx cnt, 5)) (hb : h.1 b = some (.inr (ci, fs))) (hn9 : As.length = n) (hd : d' + 1 ≤ d) (hr : (rest.map fun v => v.category).sum ≤ 20) {st : List Value} (hst : st = As.reverse ++ .ref b :: rest)
    (kv : ∀ v, o = .inl v → ax_W Ω Γ kb nb h1 (pc + 5) ls (v.toList ++ rest)) (kx : ∀ q, o = .inr q → ax_X Ω Γ kb nb h1 pc ls q) : ax_W Ω Γ (kb + mc) (nb + ms) h pc ls st := by
  obtain ⟨cc', nL', ret', hq, hini, hn', hM⟩ := M
  obtain ⟨r, hc, f1, f2, f3, f4, f5, f6, f7, f8, f9⟩ := F
  have hw := G.2.2.2.2.2.2.2.2.2.1
  have hts : ∀ w ∈ lw_all, w.before Γ.2.2.2.2.2.1 Γ.2.2.2.1 = true := fun w hw' => ax_words G.1 hw hw' _
  obtain ⟨A0, hA0⟩ := G.1.2.2.1
  have hF : va_Fw r.1 x y' Γ.2.2.2.1 := va_Fw.moved ⟨f9.1, f9.2.1⟩ hw.alike (va_Fw.of (hA0 _ f4) (hA0 _ f5) (hA0 _ f6) (hA0 _ f7) (hA0 _ f8))
  refine ax_go (a := (Value.ref b :: As).toArray) (fun H locs cells slots L hR hL hn g1 g2 T hT X => ?_) kv kx
  obtain ⟨cell, w1, w2, w3⟩ := ax_recv G hR hb hc
  obtain ⟨kB, hkB, -⟩ := Vm.findClass_spec w3
  exact vx_callIF X G.2.1 (C := r.1) (bytes := cc') (maxL := nL') (ret := ret') G.2.2.2.2.1 (hts _ f1) (va_any rfl hF.1) (va_any rfl hF.2.1) (hts _ f2) (hts _ f3) (va_any rfl hF.2.2.1) (va_any rfl hF.2.2.2.1) (va_any rfl hF.2.2.2.2) (hts _ hq) ⟨f9.1, f9.2.1⟩ (ax_backM G hd hq hini hn' hM) (by rw [hT]; exact w1) w2 w3 hkB rfl (hL.1.trans hn) (ax_plen f9 hn9) hst (by show 2 * 0 + _ ≤ 20; omega) (by rw [G.2.2.1]; exact dec)
    (fun vm₁ hW₁ => ⟨g1, g2, rfl, State.WarmedH.trans hw hW₁, by show ax_R Ω h T.heap; rw [hT]; exact hR⟩)
theorem ax_callS (G : ax_C Ω Γ y cc nL ret hh d) {idx : Nat} {y' : MethodName} {n : Nat} (M : ax_Met Ω y' d' mc ms As h o h1) (F : ax_lS y.cls idx y' n) (dec : decode cc pc = .ok (.invokestatic idx, 3)) (hn9 : As.length = n) (hd : d' + 1 ≤ d) (hr : (rest.map fun v => v.category).sum ≤ 20) {st : List Value} (hst : st = As.reverse ++ rest)
    (kv : ∀ v, o = .inl v → ax_W Ω Γ kb nb h1 (pc + 3) ls (v.toList ++ rest)) (kx : ∀ q, o = .inr q → ax_X Ω Γ kb nb h1 pc ls q) : ax_W Ω Γ (kb + mc) (nb + ms) h pc ls st := by
  obtain ⟨cc', nL', ret', hq, hini, hn', hM⟩ := M
  obtain ⟨f1, f2, f3⟩ := F
  have hw := G.2.2.2.2.2.2.2.2.2.1
  have hts : ∀ w ∈ lw_all, w.before Γ.2.2.2.2.2.1 Γ.2.2.2.1 = true := fun w hw' => ax_words G.1 hw hw' _
  refine ax_go (a := As.toArray) (fun H locs cells slots L hR hL hn g1 g2 T hT X => ?_) kv kx
  exact vx_callS X G.2.1 (bytes := cc') (maxL := nL') (ret := ret') G.2.2.2.2.1 (hts _ f1) (hts _ f2) (hts _ hini) (hts _ hq) ⟨f3.1, f3.2.1⟩ (ax_backM G hd hq hini hn' hM) rfl (hL.1.trans hn) (ax_plen f3 hn9) hst (by show 2 * 0 + _ ≤ 20; omega) (by rw [G.2.2.1]; exact dec)
    (fun vm₁ hW₁ => ⟨g1, g2, rfl, State.WarmedH.trans hw hW₁, by show ax_R Ω h T.heap; rw [hT]; exact hR⟩)
theorem ax_callSN (G : ax_C Ω Γ y cc nL ret hh d) {idx : Nat} {y' : MethodName} {n : Nat} (M : ax_Met Ω y' d' mc ms As h o h1) (F : ax_lSN y.cls idx y' n) (dec : decode cc pc = .ok (.invokestatic idx, 3)) (hn9 : As.length = n) (hd : d' + 1 ≤ d) (hr : (rest.map fun v => v.category).sum ≤ 20) {st : List Value} (hst : st = As.reverse ++ rest)
    (kv : ∀ v, o = .inl v → ax_W Ω Γ kb nb h1 (pc + 3) ls (v.toList ++ rest)) (kx : ∀ q, o = .inr q → ax_X Ω Γ kb nb h1 pc ls q) : ax_W Ω Γ (kb + mc) (nb + ms) h pc ls st := by
  obtain ⟨cc', nL', ret', hq, hini, hn', hM⟩ := M
  obtain ⟨host, f1, f2, f3⟩ := F
  have hw := G.2.2.2.2.2.2.2.2.2.1
  have hts : ∀ w ∈ lw_all, w.before Γ.2.2.2.2.2.1 Γ.2.2.2.1 = true := fun w hw' => ax_words G.1 hw hw' _
  refine ax_go (a := As.toArray) (fun H locs cells slots L hR hL hn g1 g2 T hT X => ?_) kv kx
  exact vx_callSN X G.2.1 (bytes := cc') (maxL := nL') (ret := ret') G.2.2.2.2.1 (ax_nestM G.1 hw f1 _) (hts _ f2) (hts _ hini) (hts _ hq) ⟨f3.1, f3.2.1⟩ (ax_backM G hd hq hini hn' hM) rfl (hL.1.trans hn) (ax_plen f3 hn9) hst (by show 2 * 0 + _ ≤ 20; omega) (by rw [G.2.2.1]; exact dec)
    (fun vm₁ hW₁ => ⟨g1, g2, rfl, State.WarmedH.trans hw hW₁, by show ax_R Ω h T.heap; rw [hT]; exact hR⟩)
theorem ax_callI (G : ax_C Ω Γ y cc nL ret hh d) {idx b : Nat} {y' : MethodName} {n : Nat} (M : ax_Met Ω y' d' mc ms (.ref b :: As) h o h1) (F : ax_lI y.cls idx y' n) (dec : decode cc pc = .ok (.invokespecial idx, 3)) (hn9 : As.length = n) (hd : d' + 1 ≤ d) (hr : (rest.map fun v => v.category).sum ≤ 20) {st : List Value} (hst : st = As.reverse ++ .ref b :: rest)
    (kv : ∀ v, o = .inl v → ax_W Ω Γ kb nb h1 (pc + 3) ls (v.toList ++ rest)) (kx : ∀ q, o = .inr q → ax_X Ω Γ kb nb h1 pc ls q) : ax_W Ω Γ (kb + mc) (nb + ms) h pc ls st := by
  obtain ⟨cc', nL', ret', hq, hini, hn', hM⟩ := M
  obtain ⟨f1, f2, f3, ⟨cc9, nL9, f4⟩, f5⟩ := F
  have hw := G.2.2.2.2.2.2.2.2.2.1
  have hts : ∀ w ∈ lw_all, w.before Γ.2.2.2.2.2.1 Γ.2.2.2.1 = true := fun w hw' => ax_words G.1 hw hw' _
  refine ax_go (a := (Value.ref b :: As).toArray) (fun H locs cells slots L hR hL hn g1 g2 T hT X => ?_) kv kx
  exact vx_callI X G.2.1 (bytes := cc9) (maxL := nL9) G.2.2.2.2.1 f3 (hts _ f1) (hts _ f2) (hts _ f4) ⟨f5.1, f5.2.1⟩ (ax_backM G hd hq hini hn' hM) rfl (hL.1.trans hn) (ax_plen f5 hn9) hst (by show 2 * 0 + _ ≤ 20; omega) (by rw [G.2.2.1]; exact dec)
    (fun vm₁ hW₁ => ⟨g1, g2, rfl, State.WarmedH.trans hw hW₁, by show ax_R Ω h T.heap; rw [hT]; exact hR⟩)
theorem ax_callIN (G : ax_C Ω Γ y cc nL ret hh d) {idx b : Nat} {y' : MethodName} {n : Nat} (M : ax_Met Ω y' d' mc ms (.ref b :: As) h o h1) (F : ax_lIN y.cls idx y' n) (dec : decode cc pc = .ok (.invokespecial idx, 3)) (hn9 : As.length = n) (hd : d' + 1 ≤ d) (hr : (rest.map fun v => v.category).sum ≤ 20) {st : List Value} (hst : st = As.reverse ++ .ref b :: rest)
    (kv : ∀ v, o = .inl v → ax_W Ω Γ kb nb h1 (pc + 3) ls (v.toList ++ rest)) (kx : ∀ q, o = .inr q → ax_X Ω Γ kb nb h1 pc ls q) : ax_W Ω Γ (kb + mc) (nb + ms) h pc ls st := by
  obtain ⟨cc', nL', ret', hq, hini, hn', hM⟩ := M
  obtain ⟨host, f1, f2, f3, ⟨cc9, nL9, f4⟩, f5⟩ := F
  have hw := G.2.2.2.2.2.2.2.2.2.1
  have hts : ∀ w ∈ lw_all, w.before Γ.2.2.2.2.2.1 Γ.2.2.2.1 = true := fun w hw' => ax_words G.1 hw hw' _
  refine ax_go (a := (Value.ref b :: As).toArray) (fun H locs cells slots L hR hL hn g1 g2 T hT X => ?_) kv kx
  exact vx_callIN X G.2.1 (bytes := cc9) (maxL := nL9) G.2.2.2.2.1 f3 (ax_nestM G.1 hw f1 _) (hts _ f2) (hts _ f4) ⟨f5.1, f5.2.1⟩ (ax_backM G hd hq hini hn' hM) rfl (hL.1.trans hn) (ax_plen f5 hn9) hst (by show 2 * 0 + _ ≤ 20; omega) (by rw [G.2.2.1]; exact dec)
    (fun vm₁ hW₁ => ⟨g1, g2, rfl, State.WarmedH.trans hw hW₁, by show ax_R Ω h T.heap; rw [hT]; exact hR⟩)
theorem ax_callVX (G : ax_C Ω Γ y cc nL ret hh d) {idx ci b : Nat} {fs : List Value} {y' : MethodName} {n : Nat} (M : ax_MetW Ω y' d' mc ms (.ref b :: As) h o h1) (F : ax_lV y.cls idx ci y' n) (dec : decode cc pc = .ok (.invokevirtual idx, 3)) (hb : h.1 b = some (.inr (ci, fs))) (hn9 : As.length = n) (hd : d' + 1 ≤ d) (hr : (rest.map fun v => v.category).sum ≤ 20) {st : List Value} (hst : st = As.reverse ++ .ref b :: rest)
    (kv : ∀ v, o = .inl v → ax_W Ω Γ kb nb h1 (pc + 3) ls (v.toList ++ rest)) (kx : ∀ q, o = .inr q → ax_X Ω Γ kb nb h1 pc ls q) : ax_W Ω Γ (kb + mc) (nb + ms) h pc ls st := by
  obtain ⟨cc', nL', ret', hh', hq, hini, hn', hM⟩ := M
  obtain ⟨r, hc, f1, f2, f3, f4⟩ := F
  have hw := G.2.2.2.2.2.2.2.2.2.1
  have hts : ∀ w ∈ lw_all, w.before Γ.2.2.2.2.2.1 Γ.2.2.2.1 = true := fun w hw' => ax_words G.1 hw hw' _
  refine ax_go (a := (Value.ref b :: As).toArray) (fun H locs cells slots L hR hL hn g1 g2 T hT X => ?_) kv kx
  obtain ⟨cell, w1, w2, w3⟩ := ax_recv G hR hb hc
  exact vx_callVX X G.2.1 (C := r.1) (bytes := cc') (maxL := nL') (ret := ret') (hh := hh') G.2.2.2.2.1 (hts _ f1) (hts _ f2) (hts _ f3) (hts _ hq) ⟨f4.1, f4.2.1⟩ (ax_backW G hd hq hini hn' hM) (by rw [hT]; exact w1) w2 w3 rfl (hL.1.trans hn) (ax_plen f4 hn9) hst (by show 2 * 0 + _ ≤ 20; omega) (by rw [G.2.2.1]; exact dec)
    (fun vm₁ hW₁ => ⟨g1, g2, rfl, State.WarmedH.trans hw hW₁, by show ax_R Ω h T.heap; rw [hT]; exact hR⟩)
theorem ax_callSX (G : ax_C Ω Γ y cc nL ret hh d) {idx : Nat} {y' : MethodName} {n : Nat} (M : ax_MetW Ω y' d' mc ms As h o h1) (F : ax_lS y.cls idx y' n) (dec : decode cc pc = .ok (.invokestatic idx, 3)) (hn9 : As.length = n) (hd : d' + 1 ≤ d) (hr : (rest.map fun v => v.category).sum ≤ 20) {st : List Value} (hst : st = As.reverse ++ rest)
    (kv : ∀ v, o = .inl v → ax_W Ω Γ kb nb h1 (pc + 3) ls (v.toList ++ rest)) (kx : ∀ q, o = .inr q → ax_X Ω Γ kb nb h1 pc ls q) : ax_W Ω Γ (kb + mc) (nb + ms) h pc ls st := by
  obtain ⟨cc', nL', ret', hh', hq, hini, hn', hM⟩ := M
  obtain ⟨f1, f2, f3⟩ := F
  have hw := G.2.2.2.2.2.2.2.2.2.1
  have hts : ∀ w ∈ lw_all, w.before Γ.2.2.2.2.2.1 Γ.2.2.2.1 = true := fun w hw' => ax_words G.1 hw hw' _
  refine ax_go (a := As.toArray) (fun H locs cells slots L hR hL hn g1 g2 T hT X => ?_) kv kx
  exact vx_callSX X G.2.1 (bytes := cc') (maxL := nL') (ret := ret') (hh := hh') G.2.2.2.2.1 (hts _ f1) (hts _ f2) (hts _ hini) (hts _ hq) ⟨f3.1, f3.2.1⟩ (ax_backW G hd hq hini hn' hM) rfl (hL.1.trans hn) (ax_plen f3 hn9) hst (by show 2 * 0 + _ ≤ 20; omega) (by rw [G.2.2.1]; exact dec)
    (fun vm₁ hW₁ => ⟨g1, g2, rfl, State.WarmedH.trans hw hW₁, by show ax_R Ω h T.heap; rw [hT]; exact hR⟩)
end AXC
