/-! METHODS of classes some of whose methods are natives (Math ..), by program out of parts 14, 50 -/
theorem ax_of0F {Ω : ax_O} {y : MethodName} {cc : ByteArray} {nL : Nat} {ret : Option FieldType} {w : Cond} {hh : List (Nat × Nat × Nat × Nat)} {d mc ms : Nat} {As : List Value} {h h' : ax_H} {o : ax_Out} (hy : plainFor y = true) (hA : ax_Amb Ω) (hlen : (ax_ent As).length ≤ nL)
    (his : ∀ args (s : State) m, w.before args s = true → s.methodNamed? y = some m → ∃ meth c, s.vm.method? m = some meth ∧ meth.code = some c ∧ c.code = cc ∧ c.maxLocals = nL ∧ meth.sig.returnType = ret ∧ meth.locks = false ∧ c.exceptionTable.toList = tableOf hh)
    (body : ∀ Γ : ax_F, ax_C Ω Γ y cc nL ret hh d → ax_Done Ω Γ o h' → ax_W Ω Γ mc ms h 0 (ax_ls As nL) []) : ax_Met0 Ω y w d mc ms As h o h' := by
  refine MetFree.of_bodySF (code := cc) (maxLocals := nL) (ret := ret) hy ?_ ?_
  · intro args s m hw hn
    obtain ⟨meth, c, h1, h2, h3, h4, h5, h6, -⟩ := his args s m (atoms_spec (ws := [w]) hw _ List.mem_cons_self) hn
    exact ⟨meth, c, h1, h2, h3, h4, h5, h6⟩
  · intro p e s m args below meth c s₁ B hml hP _
    obtain ⟨rfl, hW0, hR0⟩ := hP
    have hh0 : s₁.heap = s.heap := by rw [B.state]; rfl
    have htab : c.exceptionTable.toList = tableOf hh := by
      obtain ⟨meth9, c9, h1, h2, -, -, -, -, h7⟩ := his As.toArray s m (atoms_spec (ws := [w]) B.pre _ List.mem_cons_self) B.named
      cases Option.some.inj (h1.symm.trans B.method)
      cases Option.some.inj (h2.symm.trans (Stand.of_body B).code)
      exact h7
    have K := body (p, e, (headSpec [w] (ax_rm d mc ms)).room, s, m, As.toArray, below, meth, c, ax_MQ Ω o h' mc ms below s)
      ⟨hA, B.exec, B.bytes, hml, findClass_of_methodNamed B.named, (name_of_methodNamed B.named B.method).1, B.returns, B.notSynchronized, htab, hW0, ⟨by rw [hR0.1]; exact hR0.2.1, hR0.2.2.1⟩, Nat.le_refl _, Nat.le_refl _⟩ rfl
    have K2 := K s.heap [] 0 0 _ hR0 (fun z hz => by cases hz) (ax_Lent hlen) ((ax_ls_len hlen).trans hml.symm) (Nat.le_of_eq (Nat.zero_add _)) (Nat.le_of_eq (Nat.zero_add _))
    obtain ⟨t, a1, oc, b1, b2, b3⟩ := K2 s₁ hh0 (Stand.of_body B)
    refine ⟨t, oc, ?_, b1, b2, b3⟩
    rw [lg_entry_eq]
    exact a1
theorem ax_metF {Ω : ax_O} {y : MethodName} {cc : ByteArray} {nL : Nat} {ret : Option FieldType} {d mc ms : Nat} {As : List Value} {h h' : ax_H} {o : ax_Out} (hcode : Cond.code y cc nL ret ∈ lw_all) (hini : Cond.initialized y.cls ∈ lw_all) (hy : plainFor y = true) (hnL : nL ≤ 100) (hA : ax_Amb Ω) (hlen : (ax_ent As).length ≤ nL)
    (body : ∀ Γ : ax_F, ax_C Ω Γ y cc nL ret [] d → ax_Done Ω Γ o h' → ax_W Ω Γ mc ms h 0 (ax_ls As nL) []) : ax_Met Ω y d mc ms As h o h' := by
  refine ⟨cc, nL, ret, hcode, hini, hnL, ax_of0F hy hA hlen (fun args s m hw hn => ?_) body⟩
  obtain ⟨meth, c, h1, h2, h3, h4, h5, h6, h7, -⟩ := Cond.code_spec hn hw
  refine ⟨meth, c, h1, h2, h3, h4, h5, h6, ?_⟩
  rw [Array.isEmpty_iff.mp h7]
  rfl
theorem ax_metFW {Ω : ax_O} {y : MethodName} {cc : ByteArray} {nL : Nat} {ret : Option FieldType} {hh : List (Nat × Nat × Nat × Nat)} {d mc ms : Nat} {As : List Value} {h h' : ax_H} {o : ax_Out} (hcode : Cond.codeWith y cc nL ret hh ∈ lw_all) (hini : Cond.initialized y.cls ∈ lw_all) (hy : plainFor y = true) (hnL : nL ≤ 100) (hA : ax_Amb Ω) (hlen : (ax_ent As).length ≤ nL)
    (body : ∀ Γ : ax_F, ax_C Ω Γ y cc nL ret hh d → ax_Done Ω Γ o h' → ax_W Ω Γ mc ms h 0 (ax_ls As nL) []) : ax_MetW Ω y d mc ms As h o h' := by
  refine ⟨cc, nL, ret, hh, hcode, hini, hnL, ax_of0F hy hA hlen (fun args s m hw hn => ?_) body⟩
  obtain ⟨m9, meth, c, hn9, h1, h2, h3, h4, h6, h5, hl, -⟩ := Cond.codeWith_spec hw
  cases hn.symm.trans hn9
  exact ⟨meth, c, h1, h2, h3, h4, h5, hl, by rw [← h6, table_eq]⟩
theorem ax_of0PF {Ω : ax_O} {y : MethodName} {cc : ByteArray} {nL : Nat} {ret : Option FieldType} {w : Cond} {hh : List (Nat × Nat × Nat × Nat)} {d mc ms : Nat} {As : List Value} {h : ax_H} {Q : ax_PQ} (hy : plainFor y = true) (hA : ax_Amb Ω) (hlen : (ax_ent As).length ≤ nL)
    (his : ∀ args (s : State) m, w.before args s = true → s.methodNamed? y = some m → ∃ meth c, s.vm.method? m = some meth ∧ meth.code = some c ∧ c.code = cc ∧ c.maxLocals = nL ∧ meth.sig.returnType = ret ∧ meth.locks = false ∧ c.exceptionTable.toList = tableOf hh)
    (body : ∀ Γ : ax_F, ax_C Ω Γ y cc nL ret hh d → ax_DoneP Ω Γ Q → ax_W Ω Γ mc ms h 0 (ax_ls As nL) []) : ax_Met0P Ω y w d mc ms As h Q := by
  refine MetFree.of_bodySF (code := cc) (maxLocals := nL) (ret := ret) hy ?_ ?_
  · intro args s m hw hn
    obtain ⟨meth, c, h1, h2, h3, h4, h5, h6, -⟩ := his args s m (atoms_spec (ws := [w]) hw _ List.mem_cons_self) hn
    exact ⟨meth, c, h1, h2, h3, h4, h5, h6⟩
  · intro p e s m args below meth c s₁ B hml hP _
    obtain ⟨rfl, hW0, hR0⟩ := hP
    have hh0 : s₁.heap = s.heap := by rw [B.state]; rfl
    have htab : c.exceptionTable.toList = tableOf hh := by
      obtain ⟨meth9, c9, h1, h2, -, -, -, -, h7⟩ := his As.toArray s m (atoms_spec (ws := [w]) B.pre _ List.mem_cons_self) B.named
      cases Option.some.inj (h1.symm.trans B.method)
      cases Option.some.inj (h2.symm.trans (Stand.of_body B).code)
      exact h7
    have K := body (p, e, (headSpec [w] (ax_rm d mc ms)).room, s, m, As.toArray, below, meth, c, ax_MQP Ω Q mc ms below s)
      ⟨hA, B.exec, B.bytes, hml, findClass_of_methodNamed B.named, (name_of_methodNamed B.named B.method).1, B.returns, B.notSynchronized, htab, hW0, ⟨by rw [hR0.1]; exact hR0.2.1, hR0.2.2.1⟩, Nat.le_refl _, Nat.le_refl _⟩ rfl
    have K2 := K s.heap [] 0 0 _ hR0 (fun z hz => by cases hz) (ax_Lent hlen) ((ax_ls_len hlen).trans hml.symm) (Nat.le_of_eq (Nat.zero_add _)) (Nat.le_of_eq (Nat.zero_add _))
    obtain ⟨t, a1, oc, b1, b2, b3⟩ := K2 s₁ hh0 (Stand.of_body B)
    refine ⟨t, oc, ?_, b1, b2, b3⟩
    rw [lg_entry_eq]
    exact a1
theorem ax_metPF {Ω : ax_O} {y : MethodName} {cc : ByteArray} {nL : Nat} {ret : Option FieldType} {d mc ms : Nat} {As : List Value} {h : ax_H} {Q : ax_PQ} (hcode : Cond.code y cc nL ret ∈ lw_all) (hini : Cond.initialized y.cls ∈ lw_all) (hy : plainFor y = true) (hnL : nL ≤ 100) (hA : ax_Amb Ω) (hlen : (ax_ent As).length ≤ nL)
    (body : ∀ Γ : ax_F, ax_C Ω Γ y cc nL ret [] d → ax_DoneP Ω Γ Q → ax_W Ω Γ mc ms h 0 (ax_ls As nL) []) : ax_MetP Ω y d mc ms As h Q := by
  refine ⟨cc, nL, ret, hcode, hini, hnL, ax_of0PF hy hA hlen (fun args s m hw hn => ?_) body⟩
  obtain ⟨meth, c, h1, h2, h3, h4, h5, h6, h7, -⟩ := Cond.code_spec hn hw
  refine ⟨meth, c, h1, h2, h3, h4, h5, h6, ?_⟩
  rw [Array.isEmpty_iff.mp h7]
  rfl
theorem ax_metPFW {Ω : ax_O} {y : MethodName} {cc : ByteArray} {nL : Nat} {ret : Option FieldType} {hh : List (Nat × Nat × Nat × Nat)} {d mc ms : Nat} {As : List Value} {h : ax_H} {Q : ax_PQ} (hcode : Cond.codeWith y cc nL ret hh ∈ lw_all) (hini : Cond.initialized y.cls ∈ lw_all) (hy : plainFor y = true) (hnL : nL ≤ 100) (hA : ax_Amb Ω) (hlen : (ax_ent As).length ≤ nL)
    (body : ∀ Γ : ax_F, ax_C Ω Γ y cc nL ret hh d → ax_DoneP Ω Γ Q → ax_W Ω Γ mc ms h 0 (ax_ls As nL) []) : ax_MetPW Ω y d mc ms As h Q := by
  refine ⟨cc, nL, ret, hh, hcode, hini, hnL, ax_of0PF hy hA hlen (fun args s m hw hn => ?_) body⟩
  obtain ⟨m9, meth, c, hn9, h1, h2, h3, h4, h6, h5, hl, -⟩ := Cond.codeWith_spec hw
  cases hn.symm.trans hn9
  exact ⟨meth, c, h1, h2, h3, h4, h5, hl, by rw [← h6, table_eq]⟩
