/-! CONTRACTS WITH A POSTCONDITION: a call ends with some outcome o over some heap h1 with Q o h1; rows by program (mk/metp.py) out of parts 13, 17 -/
abbrev ax_PQ : Type := ax_Out → ax_H → Prop
def ax_MQP (Ω : ax_O) (Q : ax_PQ) (mc ms : Nat) (below : List Frame) (s : State) : State → Prop := fun t => ∃ oc, t.status = .running ∧ Ended t below oc ∧ ∃ (o : ax_Out) (h' : ax_H), Q o h' ∧ ax_Q Ω o h' mc ms s oc t
def ax_DoneP (Ω : ax_O) (Γ : ax_F) (Q : ax_PQ) : Prop := Γ.2.2.2.2.2.2.2.2.2 = ax_MQP Ω Q Γ.2.2.1.cells Γ.2.2.1.slots Γ.2.2.2.2.2.2.1 Γ.2.2.2.1
def ax_Met0P (Ω : ax_O) (y : MethodName) (w : Cond) (d mc ms : Nat) (As : List Value) (h : ax_H) (Q : ax_PQ) : Prop :=
  MetFree Ω.1 y (headSpec [w] (ax_rm d mc ms)) (ax_Pc Ω As h) (fun _ _ _ _ _ => True) (fun _ st oc t => ∃ (o : ax_Out) (h' : ax_H), Q o h' ∧ ax_Q Ω o h' mc ms st oc t)
def ax_MetP (Ω : ax_O) (y : MethodName) (d mc ms : Nat) (As : List Value) (h : ax_H) (Q : ax_PQ) : Prop :=
  ∃ (cc : ByteArray) (nL : Nat) (ret : Option FieldType), Cond.code y cc nL ret ∈ lw_all ∧ Cond.initialized y.cls ∈ lw_all ∧ nL ≤ 100 ∧ ax_Met0P Ω y (Cond.code y cc nL ret) d mc ms As h Q
def ax_MetPW (Ω : ax_O) (y : MethodName) (d mc ms : Nat) (As : List Value) (h : ax_H) (Q : ax_PQ) : Prop :=
  ∃ (cc : ByteArray) (nL : Nat) (ret : Option FieldType) (hh : List (Nat × Nat × Nat × Nat)), Cond.codeWith y cc nL ret hh ∈ lw_all ∧ Cond.initialized y.cls ∈ lw_all ∧ nL ≤ 100 ∧ ax_Met0P Ω y (Cond.codeWith y cc nL ret hh) d mc ms As h Q
/-- a normal end: the answer and the heap -/
abbrev ax_Nm (N : Option Value → ax_H → Prop) : ax_PQ := fun o h' => ∃ v, o = .inl v ∧ N v h'
theorem ax_Met0P.mono {Ω : ax_O} {y : MethodName} {w : Cond} {d mc ms : Nat} {As : List Value} {h : ax_H} {Q Q' : ax_PQ} (M : ax_Met0P Ω y w d mc ms As h Q) (hq : ∀ o h', Q o h' → Q' o h') : ax_Met0P Ω y w d mc ms As h Q' := by
  intro p e a1 a2 a3 s m args below b1 b2 b3 b4
  obtain ⟨n, oc, c1, c2, c3, o, h', c4, c5⟩ := M p e a1 a2 a3 s m args below b1 b2 b3 b4
  exact ⟨n, oc, c1, c2, c3, o, h', hq o h' c4, c5⟩
theorem ax_MetP.mono {Ω : ax_O} {y : MethodName} {d mc ms : Nat} {As : List Value} {h : ax_H} {Q Q' : ax_PQ} (M : ax_MetP Ω y d mc ms As h Q) (hq : ∀ o h', Q o h' → Q' o h') : ax_MetP Ω y d mc ms As h Q' := by
  obtain ⟨cc, nL, ret, a, b, c, M⟩ := M
  exact ⟨cc, nL, ret, a, b, c, M.mono hq⟩
theorem ax_MetPW.mono {Ω : ax_O} {y : MethodName} {d mc ms : Nat} {As : List Value} {h : ax_H} {Q Q' : ax_PQ} (M : ax_MetPW Ω y d mc ms As h Q) (hq : ∀ o h', Q o h' → Q' o h') : ax_MetPW Ω y d mc ms As h Q' := by
  obtain ⟨cc, nL, ret, hh, a, b, c, M⟩ := M
  exact ⟨cc, nL, ret, hh, a, b, c, M.mono hq⟩
theorem ax_Met.P {Ω : ax_O} {y : MethodName} {d mc ms : Nat} {As : List Value} {h h1 : ax_H} {o : ax_Out} {Q : ax_PQ} (M : ax_Met Ω y d mc ms As h o h1) (hq : Q o h1) : ax_MetP Ω y d mc ms As h Q := by
  obtain ⟨cc, nL, ret, a, b, c, M⟩ := M
  refine ⟨cc, nL, ret, a, b, c, fun p e a1 a2 a3 s m args below b1 b2 b3 b4 => ?_⟩
  obtain ⟨n, oc, c1, c2, c3, c4⟩ := M p e a1 a2 a3 s m args below b1 b2 b3 b4
  exact ⟨n, oc, c1, c2, c3, o, h1, hq, c4⟩
theorem ax_Q_le {Ω : ax_O} {o : ax_Out} {h h' : ax_H} {mc ms : Nat} {st : State} {oc : Outcome} {t : State} (hl : ax_le h h') (hq : ax_Q Ω o h mc ms st oc t) : ax_Q Ω o h' mc ms st oc t := ⟨ax_R_le hl hq.1, hq.2⟩
theorem ax_Q_more {Ω : ax_O} {o : ax_Out} {h : ax_H} {mc ms mc' ms' : Nat} {st : State} {oc : Outcome} {t : State} (h1 : mc ≤ mc') (h2 : ms ≤ ms') (hq : ax_Q Ω o h mc ms st oc t) : ax_Q Ω o h mc' ms' st oc t := by
  obtain ⟨hR, L, hL, q⟩ := hq
  refine ⟨hR, L, hL, ?_⟩
  rcases q with ⟨v, a, b, c, d⟩ | ⟨v, a, b, c, d⟩
  · exact Or.inl ⟨v, a, b, c, d.mono h1 h2⟩
  · exact Or.inr ⟨v, a, b, c, d.mono h1 h2⟩
/-- a postcondition that tells all gives the contract of one heap -/
theorem ax_MetP.one {Ω : ax_O} {y : MethodName} {d mc ms : Nat} {As : List Value} {h h1 : ax_H} {o : ax_Out} {Q : ax_PQ} (M : ax_MetP Ω y d mc ms As h Q) (hq : ∀ o' h', Q o' h' → o' = o ∧ ax_le h' h1) : ax_Met Ω y d mc ms As h o h1 := by
  obtain ⟨cc, nL, ret, a, b, c, M⟩ := M
  refine ⟨cc, nL, ret, a, b, c, fun p e a1 a2 a3 s m args below b1 b2 b3 b4 => ?_⟩
  obtain ⟨n, oc, c1, c2, c3, o', h', c4, c5⟩ := M p e a1 a2 a3 s m args below b1 b2 b3 b4
  obtain ⟨rfl, hl⟩ := hq o' h' c4
  exact ⟨n, oc, c1, c2, c3, ax_Q_le hl c5⟩
/-- a heap that says more may be called with the contract of a heap that says less -/
theorem ax_MetP.le {Ω : ax_O} {y : MethodName} {d mc ms : Nat} {As : List Value} {h h0 : ax_H} {Q : ax_PQ} (hl : ax_le h h0) (M : ax_MetP Ω y d mc ms As h0 Q) : ax_MetP Ω y d mc ms As h Q := by
  obtain ⟨cc, nL, ret, a, b, c, M⟩ := M
  refine ⟨cc, nL, ret, a, b, c, fun p e a1 a2 a3 s m args below b1 b2 b3 b4 => ?_⟩
  exact M p e a1 a2 a3 s m args below b1 b2 ⟨b3.1, b3.2.1, ax_R_le hl b3.2.2⟩ b4
theorem ax_of0P {Ω : ax_O} {y : MethodName} {cc : ByteArray} {nL : Nat} {ret : Option FieldType} {w : Cond} {hh : List (Nat × Nat × Nat × Nat)} {d mc ms : Nat} {As : List Value} {h : ax_H} {Q : ax_PQ} (hy : plainName y.cls = true) (hA : ax_Amb Ω) (hlen : (ax_ent As).length ≤ nL)
    (his : ∀ args (s : State) m, w.before args s = true → s.methodNamed? y = some m → ∃ meth c, s.vm.method? m = some meth ∧ meth.code = some c ∧ c.code = cc ∧ c.maxLocals = nL ∧ meth.sig.returnType = ret ∧ meth.locks = false ∧ c.exceptionTable.toList = tableOf hh)
    (body : ∀ Γ : ax_F, ax_C Ω Γ y cc nL ret hh d → ax_DoneP Ω Γ Q → ax_W Ω Γ mc ms h 0 (ax_ls As nL) []) : ax_Met0P Ω y w d mc ms As h Q := by
  refine MetFree.of_bodyS (code := cc) (maxLocals := nL) (ret := ret) hy ?_ ?_
  · intro args s m hw hn
    obtain ⟨meth, c, h1, h2, h3, h4, h5, h6, -⟩ := his args s m (atoms_spec (ws := [w]) hw _ List.mem_cons_self) hn
    exact ⟨meth, c, h1, h2, h3, h4, h5, h6⟩
  · intro p e s m args below meth c s₁ B hml hP _
    obtain ⟨rfl, hW0, hR0⟩ := hP
    have hh0 : s₁.heap = s.heap := by rw [B.state]; rfl
    have htab : c.exceptionTable.toList = tableOf hh := by
      obtain ⟨meth9, c9, h1, h2, -, -, -, -, h7⟩ := his As.toArray s m (atoms_spec (ws := [w]) B.pre _ List.mem_cons_self) B.named
      cases Option.some.inj (h1.symm.trans B.method)
      cases Option.some.inj (h2.symm.trans (Stand.of_body B).code)
      exact h7
    have K := body (p, e, (headSpec [w] (ax_rm d mc ms)).room, s, m, As.toArray, below, meth, c, ax_MQP Ω Q mc ms below s)
      ⟨hA, B.exec, B.bytes, hml, findClass_of_methodNamed B.named, (name_of_methodNamed B.named B.method).1, B.returns, B.notSynchronized, htab, hW0, ⟨by rw [hR0.1]; exact hR0.2.1, hR0.2.2.1⟩, Nat.le_refl _, Nat.le_refl _⟩ rfl
    have K2 := K s.heap [] 0 0 _ hR0 (fun z hz => by cases hz) (ax_Lent hlen) ((ax_ls_len hlen).trans hml.symm) (Nat.le_of_eq (Nat.zero_add _)) (Nat.le_of_eq (Nat.zero_add _))
    obtain ⟨t, a1, oc, b1, b2, b3⟩ := K2 s₁ hh0 (Stand.of_body B)
    refine ⟨t, oc, ?_, b1, b2, b3⟩
    rw [lg_entry_eq]
    exact a1
theorem ax_metP {Ω : ax_O} {y : MethodName} {cc : ByteArray} {nL : Nat} {ret : Option FieldType} {d mc ms : Nat} {As : List Value} {h : ax_H} {Q : ax_PQ} (hcode : Cond.code y cc nL ret ∈ lw_all) (hini : Cond.initialized y.cls ∈ lw_all) (hy : plainName y.cls = true) (hnL : nL ≤ 100) (hA : ax_Amb Ω) (hlen : (ax_ent As).length ≤ nL)
    (body : ∀ Γ : ax_F, ax_C Ω Γ y cc nL ret [] d → ax_DoneP Ω Γ Q → ax_W Ω Γ mc ms h 0 (ax_ls As nL) []) : ax_MetP Ω y d mc ms As h Q := by
  refine ⟨cc, nL, ret, hcode, hini, hnL, ax_of0P hy hA hlen (fun args s m hw hn => ?_) body⟩
  obtain ⟨meth, c, h1, h2, h3, h4, h5, h6, h7, -⟩ := Cond.code_spec hn hw
  refine ⟨meth, c, h1, h2, h3, h4, h5, h6, ?_⟩
  rw [Array.isEmpty_iff.mp h7]
  rfl
theorem ax_metPW {Ω : ax_O} {y : MethodName} {cc : ByteArray} {nL : Nat} {ret : Option FieldType} {hh : List (Nat × Nat × Nat × Nat)} {d mc ms : Nat} {As : List Value} {h : ax_H} {Q : ax_PQ} (hcode : Cond.codeWith y cc nL ret hh ∈ lw_all) (hini : Cond.initialized y.cls ∈ lw_all) (hy : plainName y.cls = true) (hnL : nL ≤ 100) (hA : ax_Amb Ω) (hlen : (ax_ent As).length ≤ nL)
    (body : ∀ Γ : ax_F, ax_C Ω Γ y cc nL ret hh d → ax_DoneP Ω Γ Q → ax_W Ω Γ mc ms h 0 (ax_ls As nL) []) : ax_MetPW Ω y d mc ms As h Q := by
  refine ⟨cc, nL, ret, hh, hcode, hini, hnL, ax_of0P hy hA hlen (fun args s m hw hn => ?_) body⟩
  obtain ⟨m9, meth, c, hn9, h1, h2, h3, h4, h6, h5, hl, -⟩ := Cond.codeWith_spec hw
  cases hn.symm.trans hn9
  exact ⟨meth, c, h1, h2, h3, h4, h5, hl, by rw [← h6, table_eq]⟩
/-! ends -/
section AXPE
variable {Ω : ax_O} {Γ : ax_F} {y : MethodName} {cc : ByteArray} {nL : Nat} {ret : Option FieldType} {hh : List (Nat × Nat × Nat × Nat)} {d kb nb pc : Nat} {h : ax_H} {ls : List (Option Value)} {st : List Value} {Q : ax_PQ}
/-- a frame with another thing to be shown -/
def ax_to (Γ : ax_F) (g : State → Prop) : ax_F := (Γ.1, Γ.2.1, Γ.2.2.1, Γ.2.2.2.1, Γ.2.2.2.2.1, Γ.2.2.2.2.2.1, Γ.2.2.2.2.2.2.1, Γ.2.2.2.2.2.2.2.1, Γ.2.2.2.2.2.2.2.2.1, g)
theorem ax_P (G : ax_C Ω Γ y cc nL ret hh d) (E : ax_DoneP Ω Γ Q) {o : ax_Out} {h' : ax_H} (hq : Q o h') (k : ∀ Γ' : ax_F, ax_C Ω Γ' y cc nL ret hh d → ax_Done Ω Γ' o h' → ax_W Ω Γ' kb nb h pc ls st) : ax_W Ω Γ kb nb h pc ls st := by
  intro H locs cells slots L hR hl hL hn g1 g2 T hT X
  obtain ⟨t, a, oc, b1, b2, b3⟩ := k (ax_to Γ (ax_MQ Ω o h' Γ.2.2.1.cells Γ.2.2.1.slots Γ.2.2.2.2.2.2.1 Γ.2.2.2.1)) G rfl H locs cells slots L hR hl hL hn g1 g2 T hT X
  unfold ax_DoneP at E
  rw [E]
  exact ⟨t, a, oc, b1, b2, o, h', hq, b3⟩
theorem ax_PX (G : ax_C Ω Γ y cc nL ret hh d) (E : ax_DoneP Ω Γ Q) {o : ax_Out} {h' : ax_H} {q : Nat} (hq : Q o h') (k : ∀ Γ' : ax_F, ax_C Ω Γ' y cc nL ret hh d → ax_Done Ω Γ' o h' → ax_X Ω Γ' kb nb h pc ls q) : ax_X Ω Γ kb nb h pc ls q := by
  intro H locs cells slots L st hR hl hL hn g1 g2 T hT X
  obtain ⟨t, a, oc, b1, b2, b3⟩ := k (ax_to Γ (ax_MQ Ω o h' Γ.2.2.1.cells Γ.2.2.1.slots Γ.2.2.2.2.2.2.1 Γ.2.2.2.1)) G rfl H locs cells slots L st hR hl hL hn g1 g2 T hT X
  unfold ax_DoneP at E
  rw [E]
  exact ⟨t, a, oc, b1, b2, o, h', hq, b3⟩
theorem ax_iretP (G : ax_C Ω Γ y cc nL ret hh d) {v : Int32} {ty : FieldType} (E : ax_DoneP Ω Γ Q) (hr : ret = some ty) (hn : narrow ty (.int v) = .int v) (dec : decode cc pc = .ok (.ireturn, 1)) (hq : Q (.inl (some (.int v))) h) : ax_W Ω Γ kb nb h pc ls [.int v] := ax_P G E hq fun _ G' E' => ax_ireturn G' E' hr hn dec
theorem ax_lretP (G : ax_C Ω Γ y cc nL ret hh d) {v : Int64} (E : ax_DoneP Ω Γ Q) (hr : ret = some .long) (dec : decode cc pc = .ok (.lreturn, 1)) (hq : Q (.inl (some (.long v))) h) : ax_W Ω Γ kb nb h pc ls [.long v] := ax_P G E hq fun _ G' E' => ax_lreturn G' E' hr dec
theorem ax_fretP (G : ax_C Ω Γ y cc nL ret hh d) {v : UInt32} (E : ax_DoneP Ω Γ Q) (hr : ret = some .float) (dec : decode cc pc = .ok (.freturn, 1)) (hq : Q (.inl (some (.float v))) h) : ax_W Ω Γ kb nb h pc ls [.float v] := ax_P G E hq fun _ G' E' => ax_freturn G' E' hr dec
theorem ax_aretP (G : ax_C Ω Γ y cc nL ret hh d) {v : Value} {ty : FieldType} (E : ax_DoneP Ω Γ Q) (hr : ret = some ty) (ht : (∃ n, ty = .object n) ∨ ∃ t, ty = .array t) (hv : v = .null ∨ ∃ a, v = .ref a) (dec : decode cc pc = .ok (.areturn, 1)) (hq : Q (.inl (some v)) h) : ax_W Ω Γ kb nb h pc ls [v] := ax_P G E hq fun _ G' E' => ax_areturn G' E' hr ht hv dec
theorem ax_vretP (G : ax_C Ω Γ y cc nL ret hh d) (E : ax_DoneP Ω Γ Q) (hr : ret = none) (dec : decode cc pc = .ok (.return_, 1)) (hq : Q (.inl none) h) : ax_W Ω Γ kb nb h pc ls [] := ax_P G E hq fun _ G' E' => ax_return G' E' hr dec
theorem ax_outP (G : ax_C Ω Γ y cc nL ret hh d) (E : ax_DoneP Ω Γ Q) {q : Nat} (hout : ∀ x ∈ tableOf hh, covers x pc = false) (hq : Q (.inr q) h) : ax_X Ω Γ kb nb h pc ls q := ax_PX G E hq fun _ G' E' => ax_out G' E' hout
end AXPE
def ax_PostXP (Ω : ax_O) (Q : ax_PQ) (mc ms : Nat) : Pt → Array Value → Addr → Pt → Prop := fun A _ q B =>
  ∃ h' : ax_H, Q (.inr q) h' ∧ ax_R Ω h' B.U.heap ∧ ∃ L : List Loc, B.locs = A.locs ++ L ∧ (∀ z ∈ L, ax_A Ω z.base) ∧ B.cells = A.cells + mc ∧ B.slots = A.slots + ms
def ax_PostP (Ω : ax_O) (Q : ax_PQ) (mc ms : Nat) : Pt → Array Value → Option Value → Pt → Prop := fun A _ v B =>
  ∃ h' : ax_H, Q (.inl v) h' ∧ ax_R Ω h' B.U.heap ∧ ∃ L : List Loc, B.locs = A.locs ++ L ∧ (∀ z ∈ L, ax_A Ω z.base) ∧ B.cells = A.cells + mc ∧ B.slots = A.slots + ms
set_option maxHeartbeats 1000000 in
theorem ax_backP {Ω : ax_O} {R : Room} {p : Program} {e : Env} {below : List Frame} {s : State} {sargs : Array Value} {y : MethodName} {len d mc ms nL : Nat} {As : List Value} {h : ax_H} {Q : ax_PQ} {w : Cond}
    (hM : ax_Met0P Ω y w d mc ms As h Q) (hframes : d + 1 ≤ R.frames) (hlocals : 20 + (nL + 11) + 200 * d ≤ R.locals)
    (hws : ∀ a' U, s.WarmedH U.vm → w.before a' U = true) (hcode : ∀ a' U mk, s.WarmedH U.vm → U.methodNamed? y = some mk → w.before a' U = true → ∃ (meth : Method) (c : Code), U.vm.method? mk = some meth ∧ meth.code = some c ∧ c.maxLocals = nL) (hinit : ∀ a' U, s.WarmedH U.vm → (Cond.initialized y.cls).before a' U = true) :
    vx_Back Ω.1 R p e below s sargs y len 20 (ax_Pre Ω R As h mc ms) (ax_PostP Ω Q mc ms) (ax_PostXP Ω Q mc ms) := by
  intro m meth c A g ig mk a X hg hsize hdg hW hn hp
  have h1 : (headSpec [w] (ax_rm d mc ms)).pre.before a A.U = true := atoms_intro fun w' hw' => by rw [List.mem_singleton.mp hw']; exact hws _ _ X.warmed
  have h2 : w.before a A.U = true := hws _ _ X.warmed
  have h3 : (Cond.initialized y.cls).before a A.U = true := hinit _ _ X.warmed
  have h4 : A.cells + (headSpec [w] (ax_rm d mc ms)).room.cells ≤ R.cells := hp.1
  have h5 : A.slots + (headSpec [w] (ax_rm d mc ms)).room.slots ≤ R.slots := hp.2.1
  have hPc : ax_Pc Ω As h a (A.U.calling g mk a) := hp.2.2
  obtain ⟨methY, cY, hmY, hcY, hlY⟩ := hcode a A.U mk X.warmed hn h2
  obtain ⟨U, Ls, c0, s0⟩ := A
  dsimp only [Pt.U, Pt.locs, Pt.cells, Pt.slots] at h1 h2 h3 h4 h5 X hn hPc hmY ⊢
  obtain ⟨kY, hkY, -⟩ := className_of_methodNamed hn
  have hinitY : kY.init = .initialized := Cond.initialized_spec (findClass_of_methodNamed hn) hkY h3
  have hAt : At U g.method c below := by rw [hg]; exact X.here
  have hlocals9 : 20 + (nL + 11) + (headSpec [w] (ax_rm d mc ms)).room.locals ≤ R.locals := hlocals
  have happ : (headSpec [w] (ax_rm d mc ms)).appliesLoose y e.platform (U.calling g mk a) = true :=
    Spec.appliesLoose_calling (g := g) hAt hdg hn hkY hinitY
      (X.room_calling (g := g) (R' := (headSpec [w] (ax_rm d mc ms)).room) hsize hmY hcY hframes (by rw [hlY]; omega) h4 h5) h1
  obtain ⟨mid, hmid⟩ := hAt.above
  have hfr : (U.setTop g).frames = (.java g :: mid) ++ below := by rw [State.frames_setTop' g hAt.top, hmid]; rfl
  obtain ⟨oc, s₂, hsteps, -, hend, hq⟩ := Steps.callFree hM p X.admits X.cas X.clock (acts := []) hfr happ hPc trivial
  obtain ⟨o, h', hQ, hq0⟩ := hq
  have hq' : ax_Q Ω o h' mc ms (U.calling g mk a) oc s₂ := hq0
  rw [State.frames_setTop' g hAt.top] at hend
  obtain ⟨g₀, hg0⟩ := Option.isSome_iff_exists.mp hAt.top
  obtain ⟨r, hr⟩ := State.topJava?_eq_some.mp hg0
  have hr' : (({ U with heap := s₂.heap, slotsUsed := s₂.slotsUsed } : State).setVm s₂.vm).frames = .java g₀ :: r := hr
  obtain ⟨hR2, L, hL, hq'⟩ := hq'
  rcases hq' with ⟨v, rfl, rfl, hW₂, e2, q2, q3, q4, q5, q6⟩ | ⟨q, rfl, rfl, hW₂, e2, q2, q3, q4, q5, q6⟩
  · have e3 : s₂ = ({ (U.calling g mk a).setFrames s₂.frames with heap := s₂.heap, slotsUsed := s₂.slotsUsed } : State).setVm s₂.vm := by
      have : s₂ = ({ s₂ with vm := (U.calling g mk a).vm } : State).setVm s₂.vm := rfl
      rw [e2] at this
      exact this
    obtain ⟨c₂, i₂, len₂, hc₂, hd₂, hf₂⟩ := hend
    have hW' : U.WarmedH s₂.vm := hW₂
    have hcc : c₂ = c := by
      have h1 : s₂.code? g.method = U.code? g.method := by
        rw [State.code?_eq, State.code?_eq, hW'.alike.method?]
      exact Option.some.inj (hc₂.symm.trans (h1.trans hAt.code))
    subst hcc
    have hlen : len₂ = len := by rw [hdg] at hd₂; cases hd₂; rfl
    subst hlen
    have hs₂ : s₂ = (({ U with heap := s₂.heap, slotsUsed := s₂.slotsUsed } : State).setVm s₂.vm).setTop { g with pc := g.pc + len₂, stack := v.toList ++ g.stack } := by
      refine e3.trans ?_
      rw [hf₂, State.calling_eq hAt.top, State.setFrames_setFrames, State.setTop_of_frames _ hr', hr]
      rfl
    have hsame : U.sameButNew ({ U with heap := s₂.heap, slotsUsed := s₂.slotsUsed } : State) L mc ms := by
      refine ⟨?_, q2, q3, q4, q5, q6⟩
      obtain ⟨t, ht, -⟩ := State.frames_cons hr
      show ({ U with heap := s₂.heap, slotsUsed := s₂.slotsUsed } : State) = { U.setFrames U.frames with heap := s₂.heap, slotsUsed := s₂.slotsUsed }
      rw [State.setFrames_self ht]
    subst hg
    refine Or.inl ⟨v, ⟨(({ U with heap := s₂.heap, slotsUsed := s₂.slotsUsed } : State).setVm s₂.vm), Ls ++ L, c0 + mc, s0 + ms⟩,
      ⟨X.admits, X.cas, X.clock, X.frames, X.room, X.hears, X.method, X.code, (X.here.setHeapUsed s₂.heap s₂.slotsUsed).setVm hW'.alike, X.tail, State.WarmedH.trans X.warmed hW', X.limits, X.bytes, X.same.trans (hsame.setVm s.vm)⟩,
      ⟨h', hQ, hR2, L, rfl, hL, rfl, rfl⟩, ?_⟩
    show Steps p.tables e below _ ((({ U with heap := s₂.heap, slotsUsed := s₂.slotsUsed } : State).setVm s₂.vm).setTop { g with pc := g.pc + len₂, stack := v.toList ++ g.stack })
    rw [← hs₂]
    exact hsteps
  · have e3 : s₂ = ({ (U.calling g mk a).setFrames s₂.frames with heap := s₂.heap, slotsUsed := s₂.slotsUsed } : State).setVm s₂.vm := by
      have : s₂ = ({ s₂ with vm := (U.calling g mk a).vm } : State).setVm s₂.vm := rfl
      rw [e2] at this
      exact this
    have hf₂ : s₂.frames = .throwing q :: .java g :: U.frames.tail := hend
    have hW' : U.WarmedH s₂.vm := hW₂
    have hs₂ : s₂ = ((({ U with heap := s₂.heap, slotsUsed := s₂.slotsUsed } : State).setVm s₂.vm).setTop g).pushFrame (.throwing q) := by
      refine e3.trans ?_
      rw [hf₂, State.calling_eq hAt.top, State.setFrames_setFrames, State.pushFrame, State.frames_setTop _ hr', State.setTop_of_frames _ hr', State.setFrames_setFrames, hr]
      rfl
    have hsame : U.sameButNew ({ U with heap := s₂.heap, slotsUsed := s₂.slotsUsed } : State) L mc ms := by
      refine ⟨?_, q2, q3, q4, q5, q6⟩
      obtain ⟨t, ht, -⟩ := State.frames_cons hr
      show ({ U with heap := s₂.heap, slotsUsed := s₂.slotsUsed } : State) = { U.setFrames U.frames with heap := s₂.heap, slotsUsed := s₂.slotsUsed }
      rw [State.setFrames_self ht]
    subst hg
    refine Or.inr ⟨q, ⟨(({ U with heap := s₂.heap, slotsUsed := s₂.slotsUsed } : State).setVm s₂.vm), Ls ++ L, c0 + mc, s0 + ms⟩,
      ⟨X.admits, X.cas, X.clock, X.frames, X.room, X.hears, X.method, X.code, (X.here.setHeapUsed s₂.heap s₂.slotsUsed).setVm hW'.alike, X.tail, State.WarmedH.trans X.warmed hW', X.limits, X.bytes, X.same.trans (hsame.setVm s.vm)⟩,
      ⟨h', hQ, hR2, L, rfl, hL, rfl, rfl⟩, ?_⟩
    show Steps p.tables e below _ (((({ U with heap := s₂.heap, slotsUsed := s₂.slotsUsed } : State).setVm s₂.vm).setTop g).pushFrame (.throwing q))
    rw [← hs₂]
    exact hsteps
def ax_RunP (Ω : ax_O) (Γ : ax_F) (mc ms : Nat) (Q : ax_PQ) (len : Nat) (g : JFrame) (rest : List Value) (a : Array Value) (H : Heap) (locs : List Loc) (cells slots : Nat) : Prop :=
  ∀ T : State, T.heap = H → Stand Γ.1 Ω.1 Γ.2.1 Γ.2.2.1 Γ.2.2.2.1 Γ.2.2.2.2.1 Γ.2.2.2.2.2.1 Γ.2.2.2.2.2.2.1 Γ.2.2.2.2.2.2.2.1 Γ.2.2.2.2.2.2.2.2.1 T locs cells slots →
    (∃ (v : Option Value) (vm₁ : Vm) (B : Pt), Γ.2.2.2.1.WarmedH vm₁ ∧ Stand Γ.1 Ω.1 Γ.2.1 Γ.2.2.1 Γ.2.2.2.1 Γ.2.2.2.2.1 Γ.2.2.2.2.2.1 Γ.2.2.2.2.2.2.1 Γ.2.2.2.2.2.2.2.1 Γ.2.2.2.2.2.2.2.2.1 B.U B.locs B.cells B.slots ∧ ax_PostP Ω Q mc ms ⟨T.setVm vm₁, locs, cells, slots⟩ a v B ∧
      ∀ target, Steps Γ.1.tables Γ.2.1 Γ.2.2.2.2.2.2.1 (B.U.setTop { g with pc := g.pc + len, stack := v.toList ++ rest }) target → Steps Γ.1.tables Γ.2.1 Γ.2.2.2.2.2.2.1 (T.setTop g) target) ∨
    (∃ (q : Addr) (vm₁ : Vm) (B : Pt), Γ.2.2.2.1.WarmedH vm₁ ∧ Stand Γ.1 Ω.1 Γ.2.1 Γ.2.2.1 Γ.2.2.2.1 Γ.2.2.2.2.1 Γ.2.2.2.2.2.1 Γ.2.2.2.2.2.2.1 Γ.2.2.2.2.2.2.2.1 Γ.2.2.2.2.2.2.2.2.1 B.U B.locs B.cells B.slots ∧ ax_PostXP Ω Q mc ms ⟨T.setVm vm₁, locs, cells, slots⟩ a q B ∧
      Steps Γ.1.tables Γ.2.1 Γ.2.2.2.2.2.2.1 (T.setTop g) ((B.U.setTop { g with stack := rest }).pushFrame (.throwing q)))
section AXCP
variable {Ω : ax_O} {Γ : ax_F} {y : MethodName} {cc : ByteArray} {nL : Nat} {ret : Option FieldType} {hh : List (Nat × Nat × Nat × Nat)} {d d' kb nb mc ms pc : Nat} {h : ax_H} {Q : ax_PQ} {ls : List (Option Value)} {As rest : List Value}
theorem ax_goP {len : Nat} {st : List Value} {a : Array Value} (run : ∀ (H : Heap) (locs : List Loc) (cells slots : Nat) (L : Array Slot), ax_R Ω h H → ax_L L ls → ls.length = Γ.2.2.2.2.2.2.2.2.1.maxLocals → cells + mc ≤ Γ.2.2.1.cells → slots + ms ≤ Γ.2.2.1.slots → ax_RunP Ω Γ mc ms Q len (F0 Γ.2.2.2.2.1 pc L st) rest a H locs cells slots)
    (kv : ∀ v h1, Q (.inl v) h1 → ax_W Ω Γ kb nb h1 (pc + len) ls (v.toList ++ rest)) (kx : ∀ q h1, Q (.inr q) h1 → ax_X Ω Γ kb nb h1 pc ls q) : ax_W Ω Γ (kb + mc) (nb + ms) h pc ls st := by
  intro H locs cells slots L hR hl hL hn g1 g2 T hT X
  rcases run H locs cells slots L hR hL hn (by omega) (by omega) T hT X with ⟨v, vm₁, B, hW₁, X', ⟨h1, ho, hR1, L9, e1, hL9, e2, e3⟩, st'⟩ | ⟨q, vm₁, B, hW₁, X', ⟨h1, ho, hR1, L9, e1, hL9, e2, e3⟩, st'⟩
  · obtain ⟨U, l2, c2, s2⟩ := B
    dsimp only [Pt.U, Pt.locs, Pt.cells, Pt.slots] at X' hR1 e1 e2 e3 st'
    subst e1 e2 e3
    obtain ⟨t, a1, b1⟩ := kv v h1 ho U.heap (locs ++ L9) (cells + mc) (slots + ms) L hR1 (t_lL hl hL9) hL hn (by omega) (by omega) U rfl X'
    exact ⟨t, st' t a1, b1⟩
  · obtain ⟨U, l2, c2, s2⟩ := B
    dsimp only [Pt.U, Pt.locs, Pt.cells, Pt.slots] at X' hR1 e1 e2 e3 st'
    subst e1 e2 e3
    obtain ⟨t, a1, b1⟩ := kx q h1 ho U.heap (locs ++ L9) (cells + mc) (slots + ms) L rest hR1 (t_lL hl hL9) hL hn (by omega) (by omega) U rfl X'
    exact ⟨t, st'.trans a1, b1⟩
theorem ax_backMP (G : ax_C Ω Γ y cc nL ret hh d) {y' : MethodName} {cc' : ByteArray} {nL' : Nat} {ret' : Option FieldType} {len : Nat} (hd : d' + 1 ≤ d) (hq : Cond.code y' cc' nL' ret' ∈ lw_all) (hini : Cond.initialized y'.cls ∈ lw_all) (hn' : nL' ≤ 100) (hM : ax_Met0P Ω y' (Cond.code y' cc' nL' ret') d' mc ms As h Q) :
    vx_Back Ω.1 Γ.2.2.1 Γ.1 Γ.2.1 Γ.2.2.2.2.2.2.1 Γ.2.2.2.1 Γ.2.2.2.2.2.1 y' len 20 (ax_Pre Ω Γ.2.2.1 As h mc ms) (ax_PostP Ω Q mc ms) (ax_PostXP Ω Q mc ms) := by
  have hf := G.2.2.2.2.2.2.2.2.2.2.2
  have hw := G.2.2.2.2.2.2.2.2.2.1
  refine ax_backP (nL := nL') hM (by omega) (by omega) (fun a' U hU => ax_words G.1 (ax_warm hw hU) hq _) (fun a' U mk hU hn hc => ?_) (fun a' U hU => ax_words G.1 (ax_warm hw hU) hini _)
  obtain ⟨meth, c, e1, e2, -, e4, -⟩ := Cond.code_spec hn hc
  exact ⟨meth, c, e1, e2, e4⟩
theorem ax_backWP (G : ax_C Ω Γ y cc nL ret hh d) {y' : MethodName} {cc' : ByteArray} {nL' : Nat} {ret' : Option FieldType} {hh' : List (Nat × Nat × Nat × Nat)} {len : Nat} (hd : d' + 1 ≤ d) (hq : Cond.codeWith y' cc' nL' ret' hh' ∈ lw_all) (hini : Cond.initialized y'.cls ∈ lw_all) (hn' : nL' ≤ 100) (hM : ax_Met0P Ω y' (Cond.codeWith y' cc' nL' ret' hh') d' mc ms As h Q) :
    vx_Back Ω.1 Γ.2.2.1 Γ.1 Γ.2.1 Γ.2.2.2.2.2.2.1 Γ.2.2.2.1 Γ.2.2.2.2.2.1 y' len 20 (ax_Pre Ω Γ.2.2.1 As h mc ms) (ax_PostP Ω Q mc ms) (ax_PostXP Ω Q mc ms) := by
  have hf := G.2.2.2.2.2.2.2.2.2.2.2
  have hw := G.2.2.2.2.2.2.2.2.2.1
  refine ax_backP (nL := nL') hM (by omega) (by omega) (fun a' U hU => ax_words G.1 (ax_warm hw hU) hq _) (fun a' U mk hU hn hc => ?_) (fun a' U hU => ax_words G.1 (ax_warm hw hU) hini _)
  obtain ⟨m9, meth, c, hn9, e1, e2, e3, e4, -⟩ := Cond.codeWith_spec hc
  cases hn.symm.trans hn9
  exact ⟨meth, c, e1, e2, e4⟩
theorem ax_pV (G : ax_C Ω Γ y cc nL ret hh d) {idx ci b : Nat} {fs : List Value} {y' : MethodName} {n : Nat} (M : ax_MetP Ω y' d' mc ms (.ref b :: As) h Q) (F : ax_lV y.cls idx ci y' n) (dec : decode cc pc = .ok (.invokevirtual idx, 3)) (hb : h.1 b = some (.inr (ci, fs))) (hn9 : As.length = n) (hd : d' + 1 ≤ d) (hr : (rest.map fun v => v.category).sum ≤ 20) {st : List Value} (hst : st = As.reverse ++ .ref b :: rest)
    (kv : ∀ v h1, Q (.inl v) h1 → ax_W Ω Γ kb nb h1 (pc + 3) ls (v.toList ++ rest)) (kx : ∀ q h1, Q (.inr q) h1 → ax_X Ω Γ kb nb h1 pc ls q) : ax_W Ω Γ (kb + mc) (nb + ms) h pc ls st := by
  obtain ⟨cc', nL', ret', hq, hini, hn', hM⟩ := M
  obtain ⟨r, hc, f1, f2, f3, f4⟩ := F
  have hw := G.2.2.2.2.2.2.2.2.2.1
  have hts : ∀ w ∈ lw_all, w.before Γ.2.2.2.2.2.1 Γ.2.2.2.1 = true := fun w hw' => ax_words G.1 hw hw' _
  refine ax_goP (a := (Value.ref b :: As).toArray) (fun H locs cells slots L hR hL hn g1 g2 T hT X => ?_) kv kx
  obtain ⟨cell, w1, w2, w3⟩ := ax_recv G hR hb hc
  exact vx_callV X G.2.1 (C := r.1) (bytes := cc') (maxL := nL') (ret := ret') G.2.2.2.2.1 (hts _ f1) (hts _ f2) (hts _ f3) (hts _ hq) ⟨f4.1, f4.2.1⟩ (ax_backMP G hd hq hini hn' hM) (by rw [hT]; exact w1) w2 w3 rfl (hL.1.trans hn) (ax_plen f4 hn9) hst (by show 2 * 0 + _ ≤ 20; omega) (by rw [G.2.2.1]; exact dec)
    (fun vm₁ hW₁ => ⟨g1, g2, rfl, State.WarmedH.trans hw hW₁, by show ax_R Ω h T.heap; rw [hT]; exact hR⟩)
theorem ax_pVN (G : ax_C Ω Γ y cc nL ret hh d) {idx ci b : Nat} {fs : List Value} {y' : MethodName} {n : Nat} (M : ax_MetP Ω y' d' mc ms (.ref b :: As) h Q) (F : ax_lVN y.cls idx ci y' n) (dec : decode cc pc = .ok (.invokevirtual idx, 3)) (hb : h.1 b = some (.inr (ci, fs))) (hn9 : As.length = n) (hd : d' + 1 ≤ d) (hr : (rest.map fun v => v.category).sum ≤ 20) {st : List Value} (hst : st = As.reverse ++ .ref b :: rest)
    (kv : ∀ v h1, Q (.inl v) h1 → ax_W Ω Γ kb nb h1 (pc + 3) ls (v.toList ++ rest)) (kx : ∀ q h1, Q (.inr q) h1 → ax_X Ω Γ kb nb h1 pc ls q) : ax_W Ω Γ (kb + mc) (nb + ms) h pc ls st := by
  obtain ⟨cc', nL', ret', hq, hini, hn', hM⟩ := M
  obtain ⟨r, host, hc, f1, f2, f3, f4⟩ := F
  have hw := G.2.2.2.2.2.2.2.2.2.1
  have hts : ∀ w ∈ lw_all, w.before Γ.2.2.2.2.2.1 Γ.2.2.2.1 = true := fun w hw' => ax_words G.1 hw hw' _
  refine ax_goP (a := (Value.ref b :: As).toArray) (fun H locs cells slots L hR hL hn g1 g2 T hT X => ?_) kv kx
  obtain ⟨cell, w1, w2, w3⟩ := ax_recv G hR hb hc
  exact vx_callVN X G.2.1 (C := r.1) (bytes := cc') (maxL := nL') (ret := ret') G.2.2.2.2.1 (ax_nestM G.1 hw f1 _) (hts _ f2) (hts _ f3) (hts _ hq) ⟨f4.1, f4.2.1⟩ (ax_backMP G hd hq hini hn' hM) (by rw [hT]; exact w1) w2 w3 rfl (hL.1.trans hn) (ax_plen f4 hn9) hst (by show 2 * 0 + _ ≤ 20; omega) (by rw [G.2.2.1]; exact dec)
    (fun vm₁ hW₁ => ⟨g1, g2, rfl, State.WarmedH.trans hw hW₁, by show ax_R Ω h T.heap; rw [hT]; exact hR⟩)
theorem ax_pVU (G : ax_C Ω Γ y cc nL ret hh d) {idx ci b : Nat} {fs : List Value} {x y' : MethodName} {owner : String} {n : Nat} (M : ax_MetP Ω y' d' mc ms (.ref b :: As) h Q) (F : ax_lVU y.cls idx ci x owner y' n) (dec : decode cc pc = .ok (.invokevirtual idx, 3)) (hb : h.1 b = some (.inr (ci, fs))) (hn9 : As.length = n) (hd : d' + 1 ≤ d) (hr : (rest.map fun v => v.category).sum ≤ 20) {st : List Value} (hst : st = As.reverse ++ .ref b :: rest)
    (kv : ∀ v h1, Q (.inl v) h1 → ax_W Ω Γ kb nb h1 (pc + 3) ls (v.toList ++ rest)) (kx : ∀ q h1, Q (.inr q) h1 → ax_X Ω Γ kb nb h1 pc ls q) : ax_W Ω Γ (kb + mc) (nb + ms) h pc ls st := by
  obtain ⟨cc', nL', ret', hq, hini, hn', hM⟩ := M
  obtain ⟨r, hc, f1, f2, ⟨⟨cc9, nL9, ret9, f3⟩, f3'⟩, f4, f5, f6, f7⟩ := F
  have hw := G.2.2.2.2.2.2.2.2.2.1
  have hts : ∀ w ∈ lw_all, w.before Γ.2.2.2.2.2.1 Γ.2.2.2.1 = true := fun w hw' => ax_words G.1 hw hw' _
  refine ax_goP (a := (Value.ref b :: As).toArray) (fun H locs cells slots L hR hL hn g1 g2 T hT X => ?_) kv kx
  obtain ⟨cell, w1, w2, w3⟩ := ax_recv G hR hb hc
  exact vx_callVU X G.2.1 (C := r.1) (bytes := cc') (maxL := nL') (ret := ret') G.2.2.2.2.1 (hts _ f1) (hts _ f2) (va_Decl.of (hts _ f3') (hts _ f3)) f4 (hts _ f5) (hts _ f6) (hts _ hq) (ax_backMP G hd hq hini hn' hM) (by rw [hT]; exact w1) w2 w3 rfl (hL.1.trans hn) (ax_plen f7 hn9) hst (by show 2 * 0 + _ ≤ 20; omega) (by rw [G.2.2.1]; exact dec)
    (fun vm₁ hW₁ => ⟨g1, g2, rfl, State.WarmedH.trans hw hW₁, by show ax_R Ω h T.heap; rw [hT]; exact hR⟩)
theorem ax_pSU (G : ax_C Ω Γ y cc nL ret hh d) {idx ci b : Nat} {fs : List Value} {r : vw_C} {y' : MethodName} {n : Nat} (M : ax_MetP Ω y' d' mc ms (.ref b :: As) h Q) (F : ax_lSU y.cls idx y' n) (dec : decode cc pc = .ok (.invokespecial idx, 3)) (hb : h.1 b = some (.inr (ci, fs))) (hc : ax_CL[ci]? = some r) (hn9 : As.length = n) (hd : d' + 1 ≤ d) (hr : (rest.map fun v => v.category).sum ≤ 20) {st : List Value} (hst : st = As.reverse ++ .ref b :: rest)
    (kv : ∀ v h1, Q (.inl v) h1 → ax_W Ω Γ kb nb h1 (pc + 3) ls (v.toList ++ rest)) (kx : ∀ q h1, Q (.inr q) h1 → ax_X Ω Γ kb nb h1 pc ls q) : ax_W Ω Γ (kb + mc) (nb + ms) h pc ls st := by
  obtain ⟨cc', nL', ret', hq, hini, hn', hM⟩ := M
  obtain ⟨f1, f2, f3, f4, f5, f7⟩ := F
  have hw := G.2.2.2.2.2.2.2.2.2.1
  have hts : ∀ w ∈ lw_all, w.before Γ.2.2.2.2.2.1 Γ.2.2.2.1 = true := fun w hw' => ax_words G.1 hw hw' _
  refine ax_goP (a := (Value.ref b :: As).toArray) (fun H locs cells slots L hR hL hn g1 g2 T hT X => ?_) kv kx
  obtain ⟨cell, w1, w2, w3⟩ := ax_recv G hR hb hc
  obtain ⟨kB, hkB, -⟩ := Vm.findClass_spec w3
  exact vx_callSU X G.2.1 (bytes := cc') (maxL := nL') (ret := ret') G.2.2.2.2.1 (hts _ f1) (hts _ f2) (hts _ f3) (hts _ f4) (hts _ hq) f5 (ax_backMP G hd hq hini hn' hM) (by rw [hT]; exact w1) w2 hkB rfl (hL.1.trans hn) (ax_plen f7 hn9) hst (by show 2 * 0 + _ ≤ 20; omega) (by rw [G.2.2.1]; exact dec)
    (fun vm₁ hW₁ => ⟨g1, g2, rfl, State.WarmedH.trans hw hW₁, by show ax_R Ω h T.heap; rw [hT]; exact hR⟩)
theorem ax_pF (G : ax_C Ω Γ y cc nL ret hh d) {idx cnt ci b : Nat} {fs : List Value} {x y' : MethodName} {n : Nat} (M : ax_MetP Ω y' d' mc ms (.ref b :: As) h Q) (F : ax_lF y.cls idx ci x y' n) (dec : decode cc pc = .ok (.invokeinterface idx cnt, 5)) (hb : h.1 b = some (.inr (ci, fs))) (hn9 : As.length = n) (hd : d' + 1 ≤ d) (hr : (rest.map fun v => v.category).sum ≤ 20) {st : List Value} (hst : st = As.reverse ++ .ref b :: rest)
    (kv : ∀ v h1, Q (.inl v) h1 → ax_W Ω Γ kb nb h1 (pc + 5) ls (v.toList ++ rest)) (kx : ∀ q h1, Q (.inr q) h1 → ax_X Ω Γ kb nb h1 pc ls q) : ax_W Ω Γ (kb + mc) (nb + ms) h pc ls st := by
  obtain ⟨cc', nL', ret', hq, hini, hn', hM⟩ := M
  obtain ⟨r, hc, f1, f2, f3, f4, f5, f6, f7, f8, f9⟩ := F
  have hw := G.2.2.2.2.2.2.2.2.2.1
  have hts : ∀ w ∈ lw_all, w.before Γ.2.2.2.2.2.1 Γ.2.2.2.1 = true := fun w hw' => ax_words G.1 hw hw' _
  obtain ⟨A0, hA0⟩ := G.1.2.2.1
  have hF : va_Fw r.1 x y' Γ.2.2.2.1 := va_Fw.moved ⟨f9.1, f9.2.1⟩ hw.alike (va_Fw.of (hA0 _ f4) (hA0 _ f5) (hA0 _ f6) (hA0 _ f7) (hA0 _ f8))
  refine ax_goP (a := (Value.ref b :: As).toArray) (fun H locs cells slots L hR hL hn g1 g2 T hT X => ?_) kv kx
  obtain ⟨cell, w1, w2, w3⟩ := ax_recv G hR hb hc
  obtain ⟨kB, hkB, -⟩ := Vm.findClass_spec w3
  exact vx_callIF X G.2.1 (C := r.1) (bytes := cc') (maxL := nL') (ret := ret') G.2.2.2.2.1 (hts _ f1) (va_any rfl hF.1) (va_any rfl hF.2.1) (hts _ f2) (hts _ f3) (va_any rfl hF.2.2.1) (va_any rfl hF.2.2.2.1) (va_any rfl hF.2.2.2.2) (hts _ hq) ⟨f9.1, f9.2.1⟩ (ax_backMP G hd hq hini hn' hM) (by rw [hT]; exact w1) w2 w3 hkB rfl (hL.1.trans hn) (ax_plen f9 hn9) hst (by show 2 * 0 + _ ≤ 20; omega) (by rw [G.2.2.1]; exact dec)
    (fun vm₁ hW₁ => ⟨g1, g2, rfl, State.WarmedH.trans hw hW₁, by show ax_R Ω h T.heap; rw [hT]; exact hR⟩)
theorem ax_pS (G : ax_C Ω Γ y cc nL ret hh d) {idx : Nat} {y' : MethodName} {n : Nat} (M : ax_MetP Ω y' d' mc ms As h Q) (F : ax_lS y.cls idx y' n) (dec : decode cc pc = .ok (.invokestatic idx, 3)) (hn9 : As.length = n) (hd : d' + 1 ≤ d) (hr : (rest.map fun v => v.category).sum ≤ 20) {st : List Value} (hst : st = As.reverse ++ rest)
    (kv : ∀ v h1, Q (.inl v) h1 → ax_W Ω Γ kb nb h1 (pc + 3) ls (v.toList ++ rest)) (kx : ∀ q h1, Q (.inr q) h1 → ax_X Ω Γ kb nb h1 pc ls q) : ax_W Ω Γ (kb + mc) (nb + ms) h pc ls st := by
  obtain ⟨cc', nL', ret', hq, hini, hn', hM⟩ := M
  obtain ⟨f1, f2, f3⟩ := F
  have hw := G.2.2.2.2.2.2.2.2.2.1
  have hts : ∀ w ∈ lw_all, w.before Γ.2.2.2.2.2.1 Γ.2.2.2.1 = true := fun w hw' => ax_words G.1 hw hw' _
  refine ax_goP (a := As.toArray) (fun H locs cells slots L hR hL hn g1 g2 T hT X => ?_) kv kx
  exact vx_callS X G.2.1 (bytes := cc') (maxL := nL') (ret := ret') G.2.2.2.2.1 (hts _ f1) (hts _ f2) (hts _ hini) (hts _ hq) ⟨f3.1, f3.2.1⟩ (ax_backMP G hd hq hini hn' hM) rfl (hL.1.trans hn) (ax_plen f3 hn9) hst (by show 2 * 0 + _ ≤ 20; omega) (by rw [G.2.2.1]; exact dec)
    (fun vm₁ hW₁ => ⟨g1, g2, rfl, State.WarmedH.trans hw hW₁, by show ax_R Ω h T.heap; rw [hT]; exact hR⟩)
theorem ax_pSN (G : ax_C Ω Γ y cc nL ret hh d) {idx : Nat} {y' : MethodName} {n : Nat} (M : ax_MetP Ω y' d' mc ms As h Q) (F : ax_lSN y.cls idx y' n) (dec : decode cc pc = .ok (.invokestatic idx, 3)) (hn9 : As.length = n) (hd : d' + 1 ≤ d) (hr : (rest.map fun v => v.category).sum ≤ 20) {st : List Value} (hst : st = As.reverse ++ rest)
    (kv : ∀ v h1, Q (.inl v) h1 → ax_W Ω Γ kb nb h1 (pc + 3) ls (v.toList ++ rest)) (kx : ∀ q h1, Q (.inr q) h1 → ax_X Ω Γ kb nb h1 pc ls q) : ax_W Ω Γ (kb + mc) (nb + ms) h pc ls st := by
  obtain ⟨cc', nL', ret', hq, hini, hn', hM⟩ := M
  obtain ⟨host, f1, f2, f3⟩ := F
  have hw := G.2.2.2.2.2.2.2.2.2.1
  have hts : ∀ w ∈ lw_all, w.before Γ.2.2.2.2.2.1 Γ.2.2.2.1 = true := fun w hw' => ax_words G.1 hw hw' _
  refine ax_goP (a := As.toArray) (fun H locs cells slots L hR hL hn g1 g2 T hT X => ?_) kv kx
  exact vx_callSN X G.2.1 (bytes := cc') (maxL := nL') (ret := ret') G.2.2.2.2.1 (ax_nestM G.1 hw f1 _) (hts _ f2) (hts _ hini) (hts _ hq) ⟨f3.1, f3.2.1⟩ (ax_backMP G hd hq hini hn' hM) rfl (hL.1.trans hn) (ax_plen f3 hn9) hst (by show 2 * 0 + _ ≤ 20; omega) (by rw [G.2.2.1]; exact dec)
    (fun vm₁ hW₁ => ⟨g1, g2, rfl, State.WarmedH.trans hw hW₁, by show ax_R Ω h T.heap; rw [hT]; exact hR⟩)
theorem ax_pI (G : ax_C Ω Γ y cc nL ret hh d) {idx b : Nat} {y' : MethodName} {n : Nat} (M : ax_MetP Ω y' d' mc ms (.ref b :: As) h Q) (F : ax_lI y.cls idx y' n) (dec : decode cc pc = .ok (.invokespecial idx, 3)) (hn9 : As.length = n) (hd : d' + 1 ≤ d) (hr : (rest.map fun v => v.category).sum ≤ 20) {st : List Value} (hst : st = As.reverse ++ .ref b :: rest)
    (kv : ∀ v h1, Q (.inl v) h1 → ax_W Ω Γ kb nb h1 (pc + 3) ls (v.toList ++ rest)) (kx : ∀ q h1, Q (.inr q) h1 → ax_X Ω Γ kb nb h1 pc ls q) : ax_W Ω Γ (kb + mc) (nb + ms) h pc ls st := by
  obtain ⟨cc', nL', ret', hq, hini, hn', hM⟩ := M
  obtain ⟨f1, f2, f3, ⟨cc9, nL9, f4⟩, f5⟩ := F
  have hw := G.2.2.2.2.2.2.2.2.2.1
  have hts : ∀ w ∈ lw_all, w.before Γ.2.2.2.2.2.1 Γ.2.2.2.1 = true := fun w hw' => ax_words G.1 hw hw' _
  refine ax_goP (a := (Value.ref b :: As).toArray) (fun H locs cells slots L hR hL hn g1 g2 T hT X => ?_) kv kx
  exact vx_callI X G.2.1 (bytes := cc9) (maxL := nL9) G.2.2.2.2.1 f3 (hts _ f1) (hts _ f2) (hts _ f4) ⟨f5.1, f5.2.1⟩ (ax_backMP G hd hq hini hn' hM) rfl (hL.1.trans hn) (ax_plen f5 hn9) hst (by show 2 * 0 + _ ≤ 20; omega) (by rw [G.2.2.1]; exact dec)
    (fun vm₁ hW₁ => ⟨g1, g2, rfl, State.WarmedH.trans hw hW₁, by show ax_R Ω h T.heap; rw [hT]; exact hR⟩)
theorem ax_pIN (G : ax_C Ω Γ y cc nL ret hh d) {idx b : Nat} {y' : MethodName} {n : Nat} (M : ax_MetP Ω y' d' mc ms (.ref b :: As) h Q) (F : ax_lIN y.cls idx y' n) (dec : decode cc pc = .ok (.invokespecial idx, 3)) (hn9 : As.length = n) (hd : d' + 1 ≤ d) (hr : (rest.map fun v => v.category).sum ≤ 20) {st : List Value} (hst : st = As.reverse ++ .ref b :: rest)
    (kv : ∀ v h1, Q (.inl v) h1 → ax_W Ω Γ kb nb h1 (pc + 3) ls (v.toList ++ rest)) (kx : ∀ q h1, Q (.inr q) h1 → ax_X Ω Γ kb nb h1 pc ls q) : ax_W Ω Γ (kb + mc) (nb + ms) h pc ls st := by
  obtain ⟨cc', nL', ret', hq, hini, hn', hM⟩ := M
  obtain ⟨host, f1, f2, f3, ⟨cc9, nL9, f4⟩, f5⟩ := F
  have hw := G.2.2.2.2.2.2.2.2.2.1
  have hts : ∀ w ∈ lw_all, w.before Γ.2.2.2.2.2.1 Γ.2.2.2.1 = true := fun w hw' => ax_words G.1 hw hw' _
  refine ax_goP (a := (Value.ref b :: As).toArray) (fun H locs cells slots L hR hL hn g1 g2 T hT X => ?_) kv kx
  exact vx_callIN X G.2.1 (bytes := cc9) (maxL := nL9) G.2.2.2.2.1 f3 (ax_nestM G.1 hw f1 _) (hts _ f2) (hts _ f4) ⟨f5.1, f5.2.1⟩ (ax_backMP G hd hq hini hn' hM) rfl (hL.1.trans hn) (ax_plen f5 hn9) hst (by show 2 * 0 + _ ≤ 20; omega) (by rw [G.2.2.1]; exact dec)
    (fun vm₁ hW₁ => ⟨g1, g2, rfl, State.WarmedH.trans hw hW₁, by show ax_R Ω h T.heap; rw [hT]; exact hR⟩)
theorem ax_pVX (G : ax_C Ω Γ y cc nL ret hh d) {idx ci b : Nat} {fs : List Value} {y' : MethodName} {n : Nat} (M : ax_MetPW Ω y' d' mc ms (.ref b :: As) h Q) (F : ax_lV y.cls idx ci y' n) (dec : decode cc pc = .ok (.invokevirtual idx, 3)) (hb : h.1 b = some (.inr (ci, fs))) (hn9 : As.length = n) (hd : d' + 1 ≤ d) (hr : (rest.map fun v => v.category).sum ≤ 20) {st : List Value} (hst : st = As.reverse ++ .ref b :: rest)
    (kv : ∀ v h1, Q (.inl v) h1 → ax_W Ω Γ kb nb h1 (pc + 3) ls (v.toList ++ rest)) (kx : ∀ q h1, Q (.inr q) h1 → ax_X Ω Γ kb nb h1 pc ls q) : ax_W Ω Γ (kb + mc) (nb + ms) h pc ls st := by
  obtain ⟨cc', nL', ret', hh', hq, hini, hn', hM⟩ := M
  obtain ⟨r, hc, f1, f2, f3, f4⟩ := F
  have hw := G.2.2.2.2.2.2.2.2.2.1
  have hts : ∀ w ∈ lw_all, w.before Γ.2.2.2.2.2.1 Γ.2.2.2.1 = true := fun w hw' => ax_words G.1 hw hw' _
  refine ax_goP (a := (Value.ref b :: As).toArray) (fun H locs cells slots L hR hL hn g1 g2 T hT X => ?_) kv kx
  obtain ⟨cell, w1, w2, w3⟩ := ax_recv G hR hb hc
  exact vx_callVX X G.2.1 (C := r.1) (bytes := cc') (maxL := nL') (ret := ret') (hh := hh') G.2.2.2.2.1 (hts _ f1) (hts _ f2) (hts _ f3) (hts _ hq) ⟨f4.1, f4.2.1⟩ (ax_backWP G hd hq hini hn' hM) (by rw [hT]; exact w1) w2 w3 rfl (hL.1.trans hn) (ax_plen f4 hn9) hst (by show 2 * 0 + _ ≤ 20; omega) (by rw [G.2.2.1]; exact dec)
    (fun vm₁ hW₁ => ⟨g1, g2, rfl, State.WarmedH.trans hw hW₁, by show ax_R Ω h T.heap; rw [hT]; exact hR⟩)
theorem ax_pSX (G : ax_C Ω Γ y cc nL ret hh d) {idx : Nat} {y' : MethodName} {n : Nat} (M : ax_MetPW Ω y' d' mc ms As h Q) (F : ax_lS y.cls idx y' n) (dec : decode cc pc = .ok (.invokestatic idx, 3)) (hn9 : As.length = n) (hd : d' + 1 ≤ d) (hr : (rest.map fun v => v.category).sum ≤ 20) {st : List Value} (hst : st = As.reverse ++ rest)
    (kv : ∀ v h1, Q (.inl v) h1 → ax_W Ω Γ kb nb h1 (pc + 3) ls (v.toList ++ rest)) (kx : ∀ q h1, Q (.inr q) h1 → ax_X Ω Γ kb nb h1 pc ls q) : ax_W Ω Γ (kb + mc) (nb + ms) h pc ls st := by
  obtain ⟨cc', nL', ret', hh', hq, hini, hn', hM⟩ := M
  obtain ⟨f1, f2, f3⟩ := F
  have hw := G.2.2.2.2.2.2.2.2.2.1
  have hts : ∀ w ∈ lw_all, w.before Γ.2.2.2.2.2.1 Γ.2.2.2.1 = true := fun w hw' => ax_words G.1 hw hw' _
  refine ax_goP (a := As.toArray) (fun H locs cells slots L hR hL hn g1 g2 T hT X => ?_) kv kx
  exact vx_callSX X G.2.1 (bytes := cc') (maxL := nL') (ret := ret') (hh := hh') G.2.2.2.2.1 (hts _ f1) (hts _ f2) (hts _ hini) (hts _ hq) ⟨f3.1, f3.2.1⟩ (ax_backWP G hd hq hini hn' hM) rfl (hL.1.trans hn) (ax_plen f3 hn9) hst (by show 2 * 0 + _ ≤ 20; omega) (by rw [G.2.2.1]; exact dec)
    (fun vm₁ hW₁ => ⟨g1, g2, rfl, State.WarmedH.trans hw hW₁, by show ax_R Ω h T.heap; rw [hT]; exact hR⟩)
end AXCP
/-! calls of methods that return -/
section AXCN
variable {Ω : ax_O} {Γ : ax_F} {y : MethodName} {cc : ByteArray} {nL : Nat} {ret : Option FieldType} {hh : List (Nat × Nat × Nat × Nat)} {d d' kb nb mc ms pc : Nat} {h : ax_H} {N : Option Value → ax_H → Prop} {ls : List (Option Value)} {As rest : List Value}
theorem ax_nV (G : ax_C Ω Γ y cc nL ret hh d) {idx ci b : Nat} {fs : List Value} {y' : MethodName} {n : Nat} (M : ax_MetP Ω y' d' mc ms (.ref b :: As) h (ax_Nm N)) (F : ax_lV y.cls idx ci y' n) (dec : decode cc pc = .ok (.invokevirtual idx, 3)) (hb : h.1 b = some (.inr (ci, fs))) (hn9 : As.length = n) (hd : d' + 1 ≤ d) (hr : (rest.map fun v => v.category).sum ≤ 20) {st : List Value} (hst : st = As.reverse ++ .ref b :: rest)
    (kk : ∀ v h1, N v h1 → ax_W Ω Γ kb nb h1 (pc + 3) ls (v.toList ++ rest)) : ax_W Ω Γ (kb + mc) (nb + ms) h pc ls st := ax_pV G M F dec hb hn9 hd hr hst (fun v h1 q => by obtain ⟨v', e, q⟩ := q; cases e; exact kk _ h1 q) (fun q h1 e => by obtain ⟨v', e, -⟩ := e; cases e)
theorem ax_nVN (G : ax_C Ω Γ y cc nL ret hh d) {idx ci b : Nat} {fs : List Value} {y' : MethodName} {n : Nat} (M : ax_MetP Ω y' d' mc ms (.ref b :: As) h (ax_Nm N)) (F : ax_lVN y.cls idx ci y' n) (dec : decode cc pc = .ok (.invokevirtual idx, 3)) (hb : h.1 b = some (.inr (ci, fs))) (hn9 : As.length = n) (hd : d' + 1 ≤ d) (hr : (rest.map fun v => v.category).sum ≤ 20) {st : List Value} (hst : st = As.reverse ++ .ref b :: rest)
    (kk : ∀ v h1, N v h1 → ax_W Ω Γ kb nb h1 (pc + 3) ls (v.toList ++ rest)) : ax_W Ω Γ (kb + mc) (nb + ms) h pc ls st := ax_pVN G M F dec hb hn9 hd hr hst (fun v h1 q => by obtain ⟨v', e, q⟩ := q; cases e; exact kk _ h1 q) (fun q h1 e => by obtain ⟨v', e, -⟩ := e; cases e)
theorem ax_nVU (G : ax_C Ω Γ y cc nL ret hh d) {idx ci b : Nat} {fs : List Value} {x y' : MethodName} {owner : String} {n : Nat} (M : ax_MetP Ω y' d' mc ms (.ref b :: As) h (ax_Nm N)) (F : ax_lVU y.cls idx ci x owner y' n) (dec : decode cc pc = .ok (.invokevirtual idx, 3)) (hb : h.1 b = some (.inr (ci, fs))) (hn9 : As.length = n) (hd : d' + 1 ≤ d) (hr : (rest.map fun v => v.category).sum ≤ 20) {st : List Value} (hst : st = As.reverse ++ .ref b :: rest)
    (kk : ∀ v h1, N v h1 → ax_W Ω Γ kb nb h1 (pc + 3) ls (v.toList ++ rest)) : ax_W Ω Γ (kb + mc) (nb + ms) h pc ls st := ax_pVU G M F dec hb hn9 hd hr hst (fun v h1 q => by obtain ⟨v', e, q⟩ := q; cases e; exact kk _ h1 q) (fun q h1 e => by obtain ⟨v', e, -⟩ := e; cases e)
theorem ax_nSU (G : ax_C Ω Γ y cc nL ret hh d) {idx ci b : Nat} {fs : List Value} {r : vw_C} {y' : MethodName} {n : Nat} (M : ax_MetP Ω y' d' mc ms (.ref b :: As) h (ax_Nm N)) (F : ax_lSU y.cls idx y' n) (dec : decode cc pc = .ok (.invokespecial idx, 3)) (hb : h.1 b = some (.inr (ci, fs))) (hc : ax_CL[ci]? = some r) (hn9 : As.length = n) (hd : d' + 1 ≤ d) (hr : (rest.map fun v => v.category).sum ≤ 20) {st : List Value} (hst : st = As.reverse ++ .ref b :: rest)
    (kk : ∀ v h1, N v h1 → ax_W Ω Γ kb nb h1 (pc + 3) ls (v.toList ++ rest)) : ax_W Ω Γ (kb + mc) (nb + ms) h pc ls st := ax_pSU G M F dec hb hc hn9 hd hr hst (fun v h1 q => by obtain ⟨v', e, q⟩ := q; cases e; exact kk _ h1 q) (fun q h1 e => by obtain ⟨v', e, -⟩ := e; cases e)
theorem ax_nF (G : ax_C Ω Γ y cc nL ret hh d) {idx cnt ci b : Nat} {fs : List Value} {x y' : MethodName} {n : Nat} (M : ax_MetP Ω y' d' mc ms (.ref b :: As) h (ax_Nm N)) (F : ax_lF y.cls idx ci x y' n) (dec : decode cc pc = .ok (.invokeinterface idx cnt, 5)) (hb : h.1 b = some (.inr (ci, fs))) (hn9 : As.length = n) (hd : d' + 1 ≤ d) (hr : (rest.map fun v => v.category).sum ≤ 20) {st : List Value} (hst : st = As.reverse ++ .ref b :: rest)
    (kk : ∀ v h1, N v h1 → ax_W Ω Γ kb nb h1 (pc + 5) ls (v.toList ++ rest)) : ax_W Ω Γ (kb + mc) (nb + ms) h pc ls st := ax_pF G M F dec hb hn9 hd hr hst (fun v h1 q => by obtain ⟨v', e, q⟩ := q; cases e; exact kk _ h1 q) (fun q h1 e => by obtain ⟨v', e, -⟩ := e; cases e)
theorem ax_nS (G : ax_C Ω Γ y cc nL ret hh d) {idx : Nat} {y' : MethodName} {n : Nat} (M : ax_MetP Ω y' d' mc ms As h (ax_Nm N)) (F : ax_lS y.cls idx y' n) (dec : decode cc pc = .ok (.invokestatic idx, 3)) (hn9 : As.length = n) (hd : d' + 1 ≤ d) (hr : (rest.map fun v => v.category).sum ≤ 20) {st : List Value} (hst : st = As.reverse ++ rest)
    (kk : ∀ v h1, N v h1 → ax_W Ω Γ kb nb h1 (pc + 3) ls (v.toList ++ rest)) : ax_W Ω Γ (kb + mc) (nb + ms) h pc ls st := ax_pS G M F dec hn9 hd hr hst (fun v h1 q => by obtain ⟨v', e, q⟩ := q; cases e; exact kk _ h1 q) (fun q h1 e => by obtain ⟨v', e, -⟩ := e; cases e)
theorem ax_nSN (G : ax_C Ω Γ y cc nL ret hh d) {idx : Nat} {y' : MethodName} {n : Nat} (M : ax_MetP Ω y' d' mc ms As h (ax_Nm N)) (F : ax_lSN y.cls idx y' n) (dec : decode cc pc = .ok (.invokestatic idx, 3)) (hn9 : As.length = n) (hd : d' + 1 ≤ d) (hr : (rest.map fun v => v.category).sum ≤ 20) {st : List Value} (hst : st = As.reverse ++ rest)
    (kk : ∀ v h1, N v h1 → ax_W Ω Γ kb nb h1 (pc + 3) ls (v.toList ++ rest)) : ax_W Ω Γ (kb + mc) (nb + ms) h pc ls st := ax_pSN G M F dec hn9 hd hr hst (fun v h1 q => by obtain ⟨v', e, q⟩ := q; cases e; exact kk _ h1 q) (fun q h1 e => by obtain ⟨v', e, -⟩ := e; cases e)
theorem ax_nI (G : ax_C Ω Γ y cc nL ret hh d) {idx b : Nat} {y' : MethodName} {n : Nat} (M : ax_MetP Ω y' d' mc ms (.ref b :: As) h (ax_Nm N)) (F : ax_lI y.cls idx y' n) (dec : decode cc pc = .ok (.invokespecial idx, 3)) (hn9 : As.length = n) (hd : d' + 1 ≤ d) (hr : (rest.map fun v => v.category).sum ≤ 20) {st : List Value} (hst : st = As.reverse ++ .ref b :: rest)
    (kk : ∀ v h1, N v h1 → ax_W Ω Γ kb nb h1 (pc + 3) ls (v.toList ++ rest)) : ax_W Ω Γ (kb + mc) (nb + ms) h pc ls st := ax_pI G M F dec hn9 hd hr hst (fun v h1 q => by obtain ⟨v', e, q⟩ := q; cases e; exact kk _ h1 q) (fun q h1 e => by obtain ⟨v', e, -⟩ := e; cases e)
theorem ax_nIN (G : ax_C Ω Γ y cc nL ret hh d) {idx b : Nat} {y' : MethodName} {n : Nat} (M : ax_MetP Ω y' d' mc ms (.ref b :: As) h (ax_Nm N)) (F : ax_lIN y.cls idx y' n) (dec : decode cc pc = .ok (.invokespecial idx, 3)) (hn9 : As.length = n) (hd : d' + 1 ≤ d) (hr : (rest.map fun v => v.category).sum ≤ 20) {st : List Value} (hst : st = As.reverse ++ .ref b :: rest)
    (kk : ∀ v h1, N v h1 → ax_W Ω Γ kb nb h1 (pc + 3) ls (v.toList ++ rest)) : ax_W Ω Γ (kb + mc) (nb + ms) h pc ls st := ax_pIN G M F dec hn9 hd hr hst (fun v h1 q => by obtain ⟨v', e, q⟩ := q; cases e; exact kk _ h1 q) (fun q h1 e => by obtain ⟨v', e, -⟩ := e; cases e)
theorem ax_nVX (G : ax_C Ω Γ y cc nL ret hh d) {idx ci b : Nat} {fs : List Value} {y' : MethodName} {n : Nat} (M : ax_MetPW Ω y' d' mc ms (.ref b :: As) h (ax_Nm N)) (F : ax_lV y.cls idx ci y' n) (dec : decode cc pc = .ok (.invokevirtual idx, 3)) (hb : h.1 b = some (.inr (ci, fs))) (hn9 : As.length = n) (hd : d' + 1 ≤ d) (hr : (rest.map fun v => v.category).sum ≤ 20) {st : List Value} (hst : st = As.reverse ++ .ref b :: rest)
    (kk : ∀ v h1, N v h1 → ax_W Ω Γ kb nb h1 (pc + 3) ls (v.toList ++ rest)) : ax_W Ω Γ (kb + mc) (nb + ms) h pc ls st := ax_pVX G M F dec hb hn9 hd hr hst (fun v h1 q => by obtain ⟨v', e, q⟩ := q; cases e; exact kk _ h1 q) (fun q h1 e => by obtain ⟨v', e, -⟩ := e; cases e)
theorem ax_nSX (G : ax_C Ω Γ y cc nL ret hh d) {idx : Nat} {y' : MethodName} {n : Nat} (M : ax_MetPW Ω y' d' mc ms As h (ax_Nm N)) (F : ax_lS y.cls idx y' n) (dec : decode cc pc = .ok (.invokestatic idx, 3)) (hn9 : As.length = n) (hd : d' + 1 ≤ d) (hr : (rest.map fun v => v.category).sum ≤ 20) {st : List Value} (hst : st = As.reverse ++ rest)
    (kk : ∀ v h1, N v h1 → ax_W Ω Γ kb nb h1 (pc + 3) ls (v.toList ++ rest)) : ax_W Ω Γ (kb + mc) (nb + ms) h pc ls st := ax_pSX G M F dec hn9 hd hr hst (fun v h1 q => by obtain ⟨v', e, q⟩ := q; cases e; exact kk _ h1 q) (fun q h1 e => by obtain ⟨v', e, -⟩ := e; cases e)
end AXCN
