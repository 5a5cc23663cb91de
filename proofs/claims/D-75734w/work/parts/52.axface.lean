/-! CALLS THROUGH INTERFACES: methods that a superinterface declares, default methods; private methods of a superclass -/
section AXIF
variable {p : Program} {l : Launch} {e : Env} {R : Room} {s : State} {m : MethodId} {args : Array Value} {below : List Frame} {meth : Method} {c : Code} {locs : List Loc} {cells slots : Nat}
/-- what is selected in class C for the method x (as it is declared), and that nothing hides it -/
def ax_Sel (s : State) (C : String) (x y : MethodName) : Prop := ∃ (c : ClassId) (r0 : MethodId) (r : Method) (mk : MethodId), s.vm.findClass C = some c ∧ s.methodNamed? x = some r0 ∧ s.vm.method? r0 = some r ∧ s.methodNamed? y = some mk ∧ selectMethod {} s.vm c r0 = .method mk ∧
  ((c :: s.vm.superclasses c).any fun k => (declaredIn s.vm r.name r.desc k).any fun (_, z) => z.isPrivate || z.isStatic) = false
theorem ax_Sel.of {C : String} {x y : MethodName} (hx : x.cls ≠ "java/lang/invoke/MethodHandle" ∧ x.cls ≠ "java/lang/invoke/VarHandle") (hdecl : (Cond.declares x).before args s = true) (hsel : (Cond.selects C x y).before args s = true) (hunh : (Cond.unhidden C x.name x.desc).before args s = true) : ax_Sel s C x y := by
  obtain ⟨r0, r, hn, hrm, hstR, hsigR⟩ := Cond.declares_spec hdecl
  obtain ⟨hnameR, hdescR⟩ := name_of_methodNamed hn hrm
  obtain ⟨c2, r2, m2, q1, q2, q3, q4, -⟩ := Cond.selects_spec hsel
  cases q2.symm.trans (State.methodFound?_of_named hn hx)
  refine ⟨c2, r0, r, m2, q1, hn, hrm, q3, q4, ?_⟩
  rw [hnameR, hdescR]; exact Cond.unhidden_spec q1 hunh
theorem ax_Sel.ofD {C : String} {x y : MethodName} (hx : x.cls ≠ "java/lang/invoke/MethodHandle" ∧ x.cls ≠ "java/lang/invoke/VarHandle") (hdecl : (Cond.declares x).before args s = true) (hsel : (Cond.landsInDefault C x y).before args s = true) : ax_Sel s C x y := by
  obtain ⟨r0, r, hn, hrm, hstR, hsigR⟩ := Cond.declares_spec hdecl
  obtain ⟨c2, r2, m2, rm, q1, q2, q3, q5, q4, -, q6, -⟩ := Cond.landsInDefault_spec hsel
  cases q2.symm.trans (State.methodFound?_of_named hn hx)
  cases hrm.symm.trans q5
  exact ⟨c2, r0, r, m2, q1, hn, hrm, q3, q4, q6⟩
abbrev ax_IFend (p : Program) (l : Launch) (e : Env) (R : Room) (s : State) (m : MethodId) (args : Array Value) (below : List Frame) (meth : Method) (c : Code) (locs : List Loc) (cells slots : Nat) (T : State) (g : JFrame) (rest : List Value) (a : Array Value) (Post : Pt → Array Value → Option Value → Pt → Prop) (PostX : Pt → Array Value → Addr → Pt → Prop) : Prop :=
    (∃ (v : Option Value) (vm₁ : Vm) (B : Pt), s.WarmedH vm₁ ∧ Stand p l e R s m args below meth c B.U B.locs B.cells B.slots ∧ Post ⟨T.setVm vm₁, locs, cells, slots⟩ a v B ∧
      ∀ target, Steps p.tables e below (B.U.setTop { g with pc := g.pc + 5, stack := v.toList ++ rest }) target → Steps p.tables e below (T.setTop g) target) ∨
    (∃ (q : Addr) (vm₁ : Vm) (B : Pt), s.WarmedH vm₁ ∧ Stand p l e R s m args below meth c B.U B.locs B.cells B.slots ∧ PostX ⟨T.setVm vm₁, locs, cells, slots⟩ a q B ∧
      Steps p.tables e below (T.setTop g) ((B.U.setTop { g with stack := rest }).pushFrame (.throwing q)))
theorem ax_vIF {T : State} (X : Stand p l e R s m args below meth c T locs cells slots) (hexec : p.tables.exec = Jvm.exec) {own C J : String} {index count : Nat} {x y : MethodName}
    (hown : s.vm.findClass own = some m.cls) (hlink : (Cond.methodLink own index x).before args s = true) (hdecl : (Cond.declares ⟨J, x.name, x.desc⟩).before args s = true) (hJ : x.cls = J ∨ (x.cls ≠ J ∧ (Cond.publicMethod ⟨J, x.name, x.desc⟩).before args s = true)) (hface : (Cond.interfaceMethod x.cls J x.name x.desc).before args s = true)
    (hsel : ax_Sel s C ⟨J, x.name, x.desc⟩ y) (hinst : (Cond.instanceMethod y).before args s = true) (hpub : (Cond.publicMethod y).before args s = true)
    (hcast : (Cond.castable C x.cls).before args s = true) (hx : x.cls ≠ "java/lang/invoke/MethodHandle" ∧ x.cls ≠ "java/lang/invoke/VarHandle")
    {W9 : Nat} {Pre : Pt → Array Value → Prop} {Post : Pt → Array Value → Option Value → Pt → Prop} {PostX : Pt → Array Value → Addr → Pt → Prop} (hK : vx_Back l R p e below s args y 5 W9 Pre Post PostX)
    {b : Addr} {cellB : Cell} {kB : Class} (hcell : T.heap[b]? = some cellB) (hobj : cellB.vm.isStatics = false) (hcls : s.vm.findClass C = some cellB.cls) (hkB : s.vm.classes[cellB.cls]? = some kB)
    {g : JFrame} (hg : g.method = m) (hsize : g.locals.size = c.maxLocals) {argsL rest : List Value} (hlen : ∀ sig, parseMethodDescriptor x.desc = some sig → argsL.length = sig.parameters.length)
    (hstack : g.stack = argsL.reverse ++ .ref b :: rest) (hW : 2 * g.monitorRoom + (rest.map fun v => v.category).sum ≤ W9) (hdg : decode c.code g.pc = .ok (.invokeinterface index count, 5))
    (hpre : ∀ vm₁, s.WarmedH vm₁ → Pre ⟨T.setVm vm₁, locs, cells, slots⟩ (Value.ref b :: argsL).toArray) : ax_IFend p l e R s m args below meth c locs cells slots T g rest (Value.ref b :: argsL).toArray Post PostX := by
  obtain ⟨r0, r, hn, hrm, hstR, hsigR⟩ := Cond.declares_spec hdecl
  obtain ⟨cL, kL, r1, hcL, hkL, hiL, hfoundL, hn1⟩ := Cond.interfaceMethod_spec hface
  cases hn.symm.trans hn1
  obtain ⟨hnameR, hdescR⟩ := name_of_methodNamed hn hrm
  obtain ⟨mk, methM, hnamed, hmethM, -, habM⟩ := Cond.instanceMethod_spec hinst
  obtain ⟨c2, r2, rm, m2, q1, q2, q5, q3, q4, hway⟩ := hsel
  cases hcls.symm.trans q1
  cases hn.symm.trans q2
  cases hnamed.symm.trans q3
  cases hrm.symm.trans q5
  have hselP : selectMethod e.platform s.vm cellB.cls r0 = .method mk := by rw [Launch.admits_selectMethod X.admits]; exact q4
  have hpubM : hasFlag methM.accessFlags Acc.public_ = true := Cond.publicMethod_spec hnamed hmethM hpub
  obtain ⟨c3, t3, w1, w2, w3⟩ := Cond.castable_spec hcast
  cases hcls.symm.trans w1
  cases hcL.symm.trans w2
  have fin : (∃ vm₁, ∃ X₁ : Stand p l e R s m args below meth c (T.setVm vm₁) locs cells slots, ∀ target, (∀ acts, Steps p.tables e below (doInvoke e ((T.setVm vm₁).setTop { g with stack := rest }) acts mk (Value.ref b :: argsL).toArray).1 target) → Steps p.tables e below (T.setTop g) target) → ax_IFend p l e R s m args below meth c locs cells slots T g rest (Value.ref b :: argsL).toArray Post PostX := by
    rintro ⟨vm₁, X₁, hstep₁⟩
    rcases hK m meth c ⟨T.setVm vm₁, locs, cells, slots⟩ { g with stack := rest } (.invokeinterface index count) mk (Value.ref b :: argsL).toArray X₁ hg hsize hdg hW (X₁.named hnamed) (hpre vm₁ X₁.warmed) with ⟨v, B, X', hpost, hsteps⟩ | ⟨q, B, X', hpost, hsteps⟩
    · exact Or.inl ⟨v, vm₁, B, X₁.warmed, X', hpost, fun target h => hstep₁ _ fun acts => by rw [doInvoke_state]; exact hsteps.trans h⟩
    · exact Or.inr ⟨q, vm₁, B, X₁.warmed, X', hpost, hstep₁ _ fun acts => by rw [doInvoke_state]; exact hsteps⟩
  rcases hJ with rfl | ⟨hxo, hpubJ⟩
  · have hr0cls : r0.cls = cL := Option.some.inj ((findClass_of_methodNamed hn).symm.trans hcL)
    obtain ⟨vm₁, X₁, hstep₁⟩ := X.invokeinterface hexec hown hlink hn hrm hstR (by rw [hr0cls]; exact hkL) hiL hx (a := b) (cell := cellB) (kcell := kB) hcell
      (fun z h => by rw [h] at hobj; cases hobj) hkB (by rw [hr0cls]; exact w3) hselP hmethM hway hpubM habM (g := g) hg (argsL := argsL) (rest := rest) (hlen _ hsigR) hstack hdg
    exact fin ⟨vm₁, X₁, hstep₁⟩
  · obtain ⟨vm₁, X₁, hstep₁⟩ := X.invokeinterfaceUp hexec (J := J) hown hlink hface hdecl hpubJ hxo hx (a := b) (cell := cellB) (kcell := kB) hcL hcell
      (fun z h => by rw [h] at hobj; cases hobj) hkB w3 hn hrm hselP hmethM hway hpubM habM (g := g) hg (argsL := argsL) (rest := rest) (hlen _ hsigR) hstack hdg
    exact fin ⟨vm₁, X₁, hstep₁⟩
end AXIF
/-- a word of the tables, or of what the Statement gives of the start -/
def ax_any (w : Cond) : Prop := w ∈ lw_all ∨ (goodWord w = true ∧ w ∈ flatC (Jvm.Cond.and given_1 narrow_1))
theorem ax_any.at {Ω : ax_O} (hA : ax_Amb Ω) {s : State} (hw : Ω.2.1.WarmedH s.vm) {w : Cond} (h : ax_any w) (a : Array Value) : w.before a s = true := by
  rcases h with h | ⟨hg, h⟩
  · exact ax_words hA hw h a
  · obtain ⟨A, h1⟩ := ax_nar hA h
    exact word_at hw (good_of_word hg) h1
/-- 'interfaceMethod' of the tables or of the start -/
theorem ax_face {Ω : ax_O} (hA : ax_Amb Ω) {s : State} (hw : Ω.2.1.WarmedH s.vm) {ref owner name desc : String} (h : Cond.interfaceMethod ref owner name desc ∈ lw_tbl ∨ Cond.interfaceMethod ref owner name desc ∈ flatC (Jvm.Cond.and given_1 narrow_1)) (a : Array Value) : (Cond.interfaceMethod ref owner name desc).before a s = true := by
  have h0 : ∃ A, (Cond.interfaceMethod ref owner name desc).before A Ω.2.1 = true := by
    rcases h with h | h
    · obtain ⟨A0, hA0⟩ := hA.2.2.1
      exact ⟨A0, hA0 _ h⟩
    · exact ax_nar hA h
  obtain ⟨A, h0⟩ := h0
  have hal := hw.alike
  have h1 : (Cond.interfaceMethod ref owner name desc).before a (Ω.2.1.setVm s.vm) = (Cond.interfaceMethod ref owner name desc).before A Ω.2.1 := by
    simp only [Cond.before, Cond.holds, Cond.value, State.vm_setVm, hal.findClass, State.methodFound?_setVm hal, State.methodNamed?_setVm hal, arm_isInterface_setVm hal]
  have h2 : (Cond.interfaceMethod ref owner name desc).before a s = (Cond.interfaceMethod ref owner name desc).before a (Ω.2.1.setVm s.vm) := rfl
  rw [h2, h1]; exact h0
theorem ax_tblw {Ω : ax_O} (hA : ax_Amb Ω) {w : Cond} (h : w ∈ lw_tbl) : ∃ A, w.before A Ω.2.1 = true := by
  obtain ⟨A0, hA0⟩ := hA.2.2.1
  exact ⟨A0, hA0 _ h⟩
theorem ax_declW {Ω : ax_O} (hA : ax_Amb Ω) {s : State} (hw : Ω.2.1.WarmedH s.vm) {x : MethodName} (h : Cond.declares x ∈ lw_tbl) (a : Array Value) : (Cond.declares x).before a s = true := by
  obtain ⟨A, h0⟩ := ax_tblw hA h
  exact va_Nw.use rfl (va_Nw.warmD hw (va_Nw.of rfl h0))
theorem ax_pubW {Ω : ax_O} (hA : ax_Amb Ω) {s : State} (hw : Ω.2.1.WarmedH s.vm) {x : MethodName} (h : Cond.publicMethod x ∈ lw_tbl) (a : Array Value) : (Cond.publicMethod x).before a s = true := by
  obtain ⟨A, h0⟩ := ax_tblw hA h
  have hal := hw.alike
  have e1 : s.methodNamed? x = Ω.2.1.methodNamed? x := by rw [State.methodNamed?_of_vm (show s.vm = (Ω.2.1.setVm s.vm).vm from rfl), State.methodNamed?_setVm hal]
  have e2 : s.vm.method? = Ω.2.1.vm.method? := funext hal.method?
  simp only [Cond.before, Cond.holds, Cond.value] at h0 ⊢
  rw [e1, e2]; exact h0
theorem ax_unhW {Ω : ax_O} (hA : ax_Amb Ω) {s : State} (hw : Ω.2.1.WarmedH s.vm) {C n de : String} (h : Cond.unhidden C n de ∈ lw_tbl) (a : Array Value) : (Cond.unhidden C n de).before a s = true := by
  obtain ⟨A, h0⟩ := ax_tblw hA h
  have e := Cond.unhidden_setVm (args := a) (s := Ω.2.1) hw.alike C n de
  have h2 : (Cond.unhidden C n de).before a s = (Cond.unhidden C n de).before a (Ω.2.1.setVm s.vm) := rfl
  rw [h2, e]
  exact va_any rfl h0
theorem ax_landW {Ω : ax_O} (hA : ax_Amb Ω) {s : State} (hw : Ω.2.1.WarmedH s.vm) {C : String} {x y : MethodName} (h : Cond.landsInDefault C x y ∈ flatC (Jvm.Cond.and given_1 narrow_1)) (a : Array Value) : (Cond.landsInDefault C x y).before a s = true := by
  obtain ⟨A, h0⟩ := ax_nar hA h
  have e := Cond.landsInDefault_setVm (args := A) (args' := a) (s := Ω.2.1) hw.alike (cls := C) (x := x) (y := y) (State.methodFound?_setVm hw.alike _ _ _)
  have h2 : (Cond.landsInDefault C x y).before a s = (Cond.landsInDefault C x y).before a (Ω.2.1.setVm s.vm) := rfl
  rw [h2, e]; exact h0
/-- a call through an interface: x is named, J declares it, y' runs -/
def ax_lJ (own : String) (idx ci : Nat) (x : MethodName) (J : String) (y' : MethodName) (n : Nat) : Prop := ∃ r : vw_C, ax_CL[ci]? = some r ∧ ax_any (Cond.methodLink own idx x) ∧ Cond.declares ⟨J, x.name, x.desc⟩ ∈ lw_tbl ∧ (x.cls = J ∨ (x.cls ≠ J ∧ Cond.publicMethod ⟨J, x.name, x.desc⟩ ∈ lw_tbl)) ∧
  (Cond.interfaceMethod x.cls J x.name x.desc ∈ lw_tbl ∨ Cond.interfaceMethod x.cls J x.name x.desc ∈ flatC (Jvm.Cond.and given_1 narrow_1)) ∧
  ((Cond.selects r.1 ⟨J, x.name, x.desc⟩ y' ∈ lw_all ∧ Cond.unhidden r.1 x.name x.desc ∈ lw_tbl) ∨ Cond.landsInDefault r.1 ⟨J, x.name, x.desc⟩ y' ∈ flatC (Jvm.Cond.and given_1 narrow_1)) ∧
  Cond.instanceMethod y' ∈ lw_all ∧ Cond.publicMethod y' ∈ lw_tbl ∧ Cond.castable r.1 x.cls ∈ lw_tbl ∧ ax_yok x n ∧ (J ≠ "java/lang/invoke/MethodHandle" ∧ J ≠ "java/lang/invoke/VarHandle")
section AXJ
variable {Ω : ax_O} {Γ : ax_F} {y : MethodName} {cc : ByteArray} {nL : Nat} {ret : Option FieldType} {hh : List (Nat × Nat × Nat × Nat)} {d d' kb nb mc ms pc : Nat} {h : ax_H} {Q : ax_PQ} {N : Option Value → ax_H → Prop} {ls : List (Option Value)} {As rest : List Value}
theorem ax_pJ (G : ax_C Ω Γ y cc nL ret hh d) {idx cnt ci b : Nat} {fs : List Value} {x y' : MethodName} {J : String} {n : Nat} (M : ax_MetP Ω y' d' mc ms (.ref b :: As) h Q) (F : ax_lJ y.cls idx ci x J y' n) (dec : decode cc pc = .ok (.invokeinterface idx cnt, 5)) (hb : h.1 b = some (.inr (ci, fs))) (hn9 : As.length = n) (hd : d' + 1 ≤ d) (hr : (rest.map fun v => v.category).sum ≤ 20) {st : List Value} (hst : st = As.reverse ++ .ref b :: rest)
    (kv : ∀ v h1, Q (.inl v) h1 → ax_W Ω Γ kb nb h1 (pc + 5) ls (v.toList ++ rest)) (kx : ∀ q h1, Q (.inr q) h1 → ax_X Ω Γ kb nb h1 pc ls q) : ax_W Ω Γ (kb + mc) (nb + ms) h pc ls st := by
  obtain ⟨cc', nL', ret', hq, hini, hn', hM⟩ := M
  obtain ⟨r, hc, f1, f2, f3, f4, f5, f6, f7, f8, f9, f10⟩ := F
  have hw := G.2.2.2.2.2.2.2.2.2.1
  have hts : ∀ w ∈ lw_all, w.before Γ.2.2.2.2.2.1 Γ.2.2.2.1 = true := fun w hw' => ax_words G.1 hw hw' _
  refine ax_goP (a := (Value.ref b :: As).toArray) (fun H locs cells slots L hR hL hn g1 g2 T hT X => ?_) kv kx
  obtain ⟨cell, w1, w2, w3⟩ := ax_recv G hR hb hc
  obtain ⟨kB, hkB, -⟩ := Vm.findClass_spec w3
  have hdecl := ax_declW G.1 hw f2 Γ.2.2.2.2.2.1
  have hsel : ax_Sel Γ.2.2.2.1 r.1 ⟨J, x.name, x.desc⟩ y' := by
    rcases f5 with ⟨q1, q2⟩ | q1
    · exact ax_Sel.of f10 hdecl (hts _ q1) (ax_unhW G.1 hw q2 _)
    · exact ax_Sel.ofD f10 hdecl (ax_landW G.1 hw q1 _)
  exact ax_vIF X G.2.1 (C := r.1) G.2.2.2.2.1 (f1.at G.1 hw _) hdecl (f3.imp id fun z => ⟨z.1, ax_pubW G.1 hw z.2 _⟩) (ax_face G.1 hw f4 _) hsel (hts _ f6) (ax_pubW G.1 hw f7 _) (va_Nw.use rfl (ax_cast G.1 hw f8)) ⟨f9.1, f9.2.1⟩ (ax_backMP G hd hq hini hn' hM) (by rw [hT]; exact w1) w2 w3 hkB rfl (hL.1.trans hn) (ax_plen f9 hn9) hst (by show 2 * 0 + _ ≤ 20; omega) (by rw [G.2.2.1]; exact dec)
    (fun vm₁ hW₁ => ⟨g1, g2, rfl, State.WarmedH.trans hw hW₁, by show ax_R Ω h T.heap; rw [hT]; exact hR⟩)
theorem ax_nJ (G : ax_C Ω Γ y cc nL ret hh d) {idx cnt ci b : Nat} {fs : List Value} {x y' : MethodName} {J : String} {n : Nat} (M : ax_MetP Ω y' d' mc ms (.ref b :: As) h (ax_Nm N)) (F : ax_lJ y.cls idx ci x J y' n) (dec : decode cc pc = .ok (.invokeinterface idx cnt, 5)) (hb : h.1 b = some (.inr (ci, fs))) (hn9 : As.length = n) (hd : d' + 1 ≤ d) (hr : (rest.map fun v => v.category).sum ≤ 20) {st : List Value} (hst : st = As.reverse ++ .ref b :: rest)
    (kk : ∀ v h1, N v h1 → ax_W Ω Γ kb nb h1 (pc + 5) ls (v.toList ++ rest)) : ax_W Ω Γ (kb + mc) (nb + ms) h pc ls st := ax_pJ G M F dec hb hn9 hd hr hst (fun v h1 q => by obtain ⟨v', e, q⟩ := q; cases e; exact kk _ h1 q) (fun q h1 e => by obtain ⟨v', e, -⟩ := e; cases e)
theorem ax_cJ1 (G : ax_C Ω Γ y cc nL ret hh d) {idx cnt ci b : Nat} {fs : List Value} {x y' : MethodName} {J : String} {n : Nat} {v : Value} {h1 : ax_H} (M : ax_Met Ω y' d' mc ms (.ref b :: As) h (.inl (some v)) h1) (F : ax_lJ y.cls idx ci x J y' n) (dec : decode cc pc = .ok (.invokeinterface idx cnt, 5)) (hb : h.1 b = some (.inr (ci, fs))) (hn9 : As.length = n) (hd : d' + 1 ≤ d) (hr : (rest.map fun v => v.category).sum ≤ 20) {st : List Value} (hst : st = As.reverse ++ .ref b :: rest)
    (kk : ax_W Ω Γ kb nb h1 (pc + 5) ls (v :: rest)) : ax_W Ω Γ (kb + mc) (nb + ms) h pc ls st :=
  ax_pJ (Q := fun o' h' => o' = .inl (some v) ∧ h' = h1) G (M.P ⟨rfl, rfl⟩) F dec hb hn9 hd hr hst (fun v' h' q => by obtain ⟨e, rfl⟩ := q; cases e; exact kk) (fun q h' e => by cases e.1)
theorem ax_cJ0 (G : ax_C Ω Γ y cc nL ret hh d) {idx cnt ci b : Nat} {fs : List Value} {x y' : MethodName} {J : String} {n : Nat} {h1 : ax_H} (M : ax_Met Ω y' d' mc ms (.ref b :: As) h (.inl none) h1) (F : ax_lJ y.cls idx ci x J y' n) (dec : decode cc pc = .ok (.invokeinterface idx cnt, 5)) (hb : h.1 b = some (.inr (ci, fs))) (hn9 : As.length = n) (hd : d' + 1 ≤ d) (hr : (rest.map fun v => v.category).sum ≤ 20) {st : List Value} (hst : st = As.reverse ++ .ref b :: rest)
    (kk : ax_W Ω Γ kb nb h1 (pc + 5) ls rest) : ax_W Ω Γ (kb + mc) (nb + ms) h pc ls st :=
  ax_pJ (Q := fun o' h' => o' = .inl none ∧ h' = h1) G (M.P ⟨rfl, rfl⟩) F dec hb hn9 hd hr hst (fun v' h' q => by obtain ⟨e, rfl⟩ := q; cases e; exact kk) (fun q h' e => by cases e.1)
/-- a private method of a superclass, by invokevirtual -/
def ax_lVP (own : String) (idx ci : Nat) (y' : MethodName) (n : Nat) : Prop := ∃ (r : vw_C) (z : MethodName), ax_CL[ci]? = some r ∧ Cond.methodLink own idx y' ∈ lw_all ∧ Cond.instanceMethod y' ∈ lw_all ∧ Cond.privateMethod y' ∈ lw_tbl ∧ z.cls = y'.cls ∧ Cond.instanceMethod z ∈ lw_all ∧ Cond.selects r.1 z z ∈ lw_all ∧ ax_yok y' n
theorem ax_selP (G : ax_C Ω Γ y cc nL ret hh d) {ci : Nat} {r : vw_C} {y' z : MethodName} {n : Nat} (hc : ax_CL[ci]? = some r) (hinst : Cond.instanceMethod y' ∈ lw_all) (hpriv : Cond.privateMethod y' ∈ lw_tbl) (hz : z.cls = y'.cls) (hzi : Cond.instanceMethod z ∈ lw_all) (hsel : Cond.selects r.1 z z ∈ lw_all) (hy : ax_yok y' n) : (Cond.selects r.1 y' y').before Γ.2.2.2.2.2.1 Γ.2.2.2.1 = true := by
  have hw := G.2.2.2.2.2.2.2.2.2.1
  have hts : ∀ w ∈ lw_all, w.before Γ.2.2.2.2.2.1 Γ.2.2.2.1 = true := fun w hw' => ax_words G.1 hw hw' _
  obtain ⟨A, h0⟩ := ax_tblw G.1 hpriv
  have hp : (Cond.privateMethod y').before Γ.2.2.2.2.2.1 Γ.2.2.2.1 = true := Cond.privateMethod_warm hw h0
  obtain ⟨mk, methM, hnamed, hmethM, -, -⟩ := Cond.instanceMethod_spec (hts _ hinst)
  obtain ⟨mz, methZ, hnamedz, -, -, -⟩ := Cond.instanceMethod_spec (hts _ hzi)
  obtain ⟨kr, hkr, hni⟩ := notFace_of_selects (hts _ hsel) _ hnamedz
  have hcls : mz.cls = mk.cls := by
    have h9 := findClass_of_methodNamed hnamedz
    rw [hz] at h9
    exact Option.some.inj (h9.symm.trans (findClass_of_methodNamed hnamed))
  rw [hcls] at hkr
  have hfound : Γ.2.2.2.1.methodFound? y'.cls y'.name y'.desc = some mk := State.methodFound?_of_named hnamed ⟨hy.1, hy.2.1⟩
  have hcC := ((ax_kn G.1 hw).1 ci r hc).2.1
  have hsl : selectMethod {} Γ.2.2.2.1.vm (Ω.2.2.1.1 ci) mk = .method mk := selectMethod_private hmethM (Cond.privateMethod_at hp mk methM hnamed hmethM)
  simp only [Cond.before, Cond.holds, Cond.value, hcC, hfound, hnamed, hsl, hkr]
  simp; exact hni
theorem ax_pVP (G : ax_C Ω Γ y cc nL ret hh d) {idx ci b : Nat} {fs : List Value} {y' : MethodName} {n : Nat} (M : ax_MetP Ω y' d' mc ms (.ref b :: As) h Q) (F : ax_lVP y.cls idx ci y' n) (dec : decode cc pc = .ok (.invokevirtual idx, 3)) (hb : h.1 b = some (.inr (ci, fs))) (hn9 : As.length = n) (hd : d' + 1 ≤ d) (hr : (rest.map fun v => v.category).sum ≤ 20) {st : List Value} (hst : st = As.reverse ++ .ref b :: rest)
    (kv : ∀ v h1, Q (.inl v) h1 → ax_W Ω Γ kb nb h1 (pc + 3) ls (v.toList ++ rest)) (kx : ∀ q h1, Q (.inr q) h1 → ax_X Ω Γ kb nb h1 pc ls q) : ax_W Ω Γ (kb + mc) (nb + ms) h pc ls st := by
  obtain ⟨cc', nL', ret', hq, hini, hn', hM⟩ := M
  obtain ⟨r, z, hc, f1, f2, f3, f4, f5, f6, f7⟩ := F
  have hw := G.2.2.2.2.2.2.2.2.2.1
  have hts : ∀ w ∈ lw_all, w.before Γ.2.2.2.2.2.1 Γ.2.2.2.1 = true := fun w hw' => ax_words G.1 hw hw' _
  refine ax_goP (a := (Value.ref b :: As).toArray) (fun H locs cells slots L hR hL hn g1 g2 T hT X => ?_) kv kx
  obtain ⟨cell, w1, w2, w3⟩ := ax_recv G hR hb hc
  exact vx_callV X G.2.1 (C := r.1) (bytes := cc') (maxL := nL') (ret := ret') G.2.2.2.2.1 (hts _ f1) (hts _ f2) (ax_selP G hc f2 f3 f4 f5 f6 f7) (hts _ hq) ⟨f7.1, f7.2.1⟩ (ax_backMP G hd hq hini hn' hM) (by rw [hT]; exact w1) w2 w3 rfl (hL.1.trans hn) (ax_plen f7 hn9) hst (by show 2 * 0 + _ ≤ 20; omega) (by rw [G.2.2.1]; exact dec)
    (fun vm₁ hW₁ => ⟨g1, g2, rfl, State.WarmedH.trans hw hW₁, by show ax_R Ω h T.heap; rw [hT]; exact hR⟩)
theorem ax_nVP (G : ax_C Ω Γ y cc nL ret hh d) {idx ci b : Nat} {fs : List Value} {y' : MethodName} {n : Nat} (M : ax_MetP Ω y' d' mc ms (.ref b :: As) h (ax_Nm N)) (F : ax_lVP y.cls idx ci y' n) (dec : decode cc pc = .ok (.invokevirtual idx, 3)) (hb : h.1 b = some (.inr (ci, fs))) (hn9 : As.length = n) (hd : d' + 1 ≤ d) (hr : (rest.map fun v => v.category).sum ≤ 20) {st : List Value} (hst : st = As.reverse ++ .ref b :: rest)
    (kk : ∀ v h1, N v h1 → ax_W Ω Γ kb nb h1 (pc + 3) ls (v.toList ++ rest)) : ax_W Ω Γ (kb + mc) (nb + ms) h pc ls st := ax_pVP G M F dec hb hn9 hd hr hst (fun v h1 q => by obtain ⟨v', e, q⟩ := q; cases e; exact kk _ h1 q) (fun q h1 e => by obtain ⟨v', e, -⟩ := e; cases e)
end AXJ
