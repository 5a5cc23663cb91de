/-! locals by place -/
def ax_ll (ls : List (Option Value)) : List (Nat × Value) := (List.range ls.length).filterMap fun i => (ls[i]?.join).map fun v => (i, v)
theorem ax_ll_mem {ls : List (Option Value)} {q : Nat × Value} : q ∈ ax_ll ls ↔ ls[q.1]? = some (some q.2) := by
  constructor
  · intro h
    obtain ⟨i, hi, he⟩ := List.mem_filterMap.mp h
    cases hj : ls[i]?.join with
    | none => rw [hj] at he; cases he
    | some v =>
      rw [hj] at he
      cases he
      cases hk : ls[i]? with
      | none => rw [hk] at hj; cases hj
      | some o => rw [hk] at hj; exact congrArg some hj
  · intro h
    refine List.mem_filterMap.mpr ⟨q.1, List.mem_range.mpr (List.getElem?_eq_some_iff.mp h).1, ?_⟩
    rw [h]
    rfl
theorem ax_Lhas {L : Array Slot} {ls : List (Option Value)} (h : ax_L L ls) : lv_has L ls.length (ax_ll ls) := ⟨h.1, h.2.1, fun q hq => h.2.2 q.1 q.2 (ax_ll_mem.mp hq)⟩
/-- no long lies just ahead of the place i -/
def ax_ok (ls : List (Option Value)) (i : Nat) : Bool := match i with
  | 0 => true
  | k + 1 => match ls[k]? with
    | some (some v) => v.category != 2
    | _ => true
theorem ax_Lset1 {L' : Array Slot} {ls : List (Option Value)} {i : Nat} {v : Value} (hi : i < ls.length) (hp : ax_ok ls i = true)
    (h : lv_has L' ls.length ((i, v) :: (ax_ll ls).filter (fun q => !(q.1 == i) && !(q.1 + 1 == i && q.2.category == 2)))) : ax_L L' (ls.set i (some v)) := by
  refine ⟨by rw [List.length_set]; exact h.1, h.2.1, fun j w hj => ?_⟩
  by_cases e : j = i
  · subst e
    rw [List.getElem?_set_self hi] at hj
    cases hj
    exact h.2.2 _ List.mem_cons_self
  · rw [List.getElem?_set_ne (Ne.symm e)] at hj
    refine h.2.2 (j, w) (List.mem_cons_of_mem _ (List.mem_filter.mpr ⟨ax_ll_mem.mpr hj, ?_⟩))
    simp only [Bool.and_eq_true, Bool.not_eq_true', beq_eq_false_iff_ne, Bool.and_eq_false_iff]
    refine ⟨e, ?_⟩
    by_cases e2 : j + 1 = i
    · subst e2
      simp only [ax_ok, hj, bne_iff_ne] at hp
      exact Or.inr hp
    · exact Or.inl e2
theorem ax_Lset2 {L' : Array Slot} {ls : List (Option Value)} {i : Nat} {v : Value} (hi : i + 1 < ls.length) (hp : ax_ok ls i = true)
    (h : lv_has L' ls.length ((i, v) :: (ax_ll ls).filter (fun q => !(q.1 == i) && (!(q.1 == i + 1) && !(q.1 + 1 == i && q.2.category == 2))))) : ax_L L' ((ls.set i (some v)).set (i + 1) none) := by
  refine ⟨by rw [List.length_set, List.length_set]; exact h.1, h.2.1, fun j w hj => ?_⟩
  by_cases e1 : j = i + 1
  · subst e1
    rw [List.getElem?_set_self (by rw [List.length_set]; exact hi)] at hj
    cases hj
  · rw [List.getElem?_set_ne (Ne.symm e1)] at hj
    by_cases e : j = i
    · subst e
      rw [List.getElem?_set_self (by omega)] at hj
      cases hj
      exact h.2.2 _ List.mem_cons_self
    · rw [List.getElem?_set_ne (Ne.symm e)] at hj
      refine h.2.2 (j, w) (List.mem_cons_of_mem _ (List.mem_filter.mpr ⟨ax_ll_mem.mpr hj, ?_⟩))
      simp only [Bool.and_eq_true, Bool.not_eq_true', beq_eq_false_iff_ne, Bool.and_eq_false_iff]
      refine ⟨e, e1, ?_⟩
      by_cases e2 : j + 1 = i
      · subst e2
        simp only [ax_ok, hj, bne_iff_ne] at hp
        exact Or.inr hp
      · exact Or.inl e2
/-- the locals with which a method begins -/
def ax_ent : List Value → List (Option Value)
  | [] => []
  | v :: vs => if v.category = 2 then some v :: none :: ax_ent vs else some v :: ax_ent vs
def ax_ls (vs : List Value) (n : Nat) : List (Option Value) := ax_ent vs ++ List.replicate (n - (ax_ent vs).length) none
theorem ax_ent_len : ∀ vs : List Value, (lg_sl vs).length = (ax_ent vs).length
  | [] => rfl
  | v :: vs => by
    have h := ax_ent_len vs
    unfold lg_sl at h ⊢
    rw [List.flatMap_cons, List.length_append, h, show ax_ent (v :: vs) = if v.category = 2 then some v :: none :: ax_ent vs else some v :: ax_ent vs from rfl]
    by_cases hc : v.category = 2
    · rw [if_pos hc, if_pos hc]; simp; omega
    · rw [if_neg hc, if_neg hc]; simp; omega
theorem ax_ent_at : ∀ (vs : List Value) (k i : Nat) (v : Value), (ax_ent vs)[i]? = some (some v) → (k + i, v) ∈ lv_args k vs
  | [], k, i, v, h => by simp [ax_ent] at h
  | w :: vs, k, i, v, h => by
    unfold ax_ent at h
    unfold lv_args
    by_cases hc : w.category = 2
    · rw [if_pos hc] at h
      rw [if_pos hc]
      match i, h with
      | 0, h => cases h; exact List.mem_cons_self
      | 1, h => cases h
      | i + 2, h =>
        have := ax_ent_at vs (k + 2) i v h
        rw [show k + 2 + i = k + (i + 2) by omega] at this
        exact List.mem_cons_of_mem _ this
    · rw [if_neg hc] at h
      rw [if_neg hc]
      match i, h with
      | 0, h => cases h; exact List.mem_cons_self
      | i + 1, h =>
        have := ax_ent_at vs (k + 1) i v h
        rw [show k + 1 + i = k + (i + 1) by omega] at this
        exact List.mem_cons_of_mem _ this
theorem ax_Lent {vs : List Value} {n : Nat} (hn : (ax_ent vs).length ≤ n) : ax_L ((lg_sl vs ++ List.replicate (n - (lg_sl vs).length) Slot.unset).toArray) (ax_ls vs n) := by
  obtain ⟨h1, h2, h3⟩ := lv_entry vs (n := n) (by rw [ax_ent_len]; exact hn)
  refine ⟨h1.trans (by simp [ax_ls]; omega), h2, fun i v hi => ?_⟩
  unfold ax_ls at hi
  by_cases hl : i < (ax_ent vs).length
  · rw [List.getElem?_append_left hl] at hi
    have := ax_ent_at vs 0 i v hi
    rw [Nat.zero_add] at this
    exact h3 _ this
  · rw [List.getElem?_append_right (by omega), List.getElem?_replicate] at hi
    split at hi <;> cases hi
theorem ax_ls_len {vs : List Value} {n : Nat} (hn : (ax_ent vs).length ≤ n) : (ax_ls vs n).length = n := by simp [ax_ls]; omega
/-! a method out of its body -/
theorem ax_of0 {Ω : ax_O} {y : MethodName} {cc : ByteArray} {nL : Nat} {ret : Option FieldType} {w : Cond} {hh : List (Nat × Nat × Nat × Nat)} {d mc ms : Nat} {As : List Value} {h h' : ax_H} {o : ax_Out} (hy : plainName y.cls = true) (hA : ax_Amb Ω) (hlen : (ax_ent As).length ≤ nL)
    (his : ∀ args (s : State) m, w.before args s = true → s.methodNamed? y = some m → ∃ meth c, s.vm.method? m = some meth ∧ meth.code = some c ∧ c.code = cc ∧ c.maxLocals = nL ∧ meth.sig.returnType = ret ∧ meth.locks = false ∧ c.exceptionTable.toList = tableOf hh)
    (body : ∀ Γ : ax_F, ax_C Ω Γ y cc nL ret hh d → ax_Done Ω Γ o h' → ax_W Ω Γ mc ms h 0 (ax_ls As nL) []) : ax_Met0 Ω y w d mc ms As h o h' := by
  refine MetFree.of_bodyS (code := cc) (maxLocals := nL) (ret := ret) hy ?_ ?_
  · intro args s m hw hn
    obtain ⟨meth, c, h1, h2, h3, h4, h5, h6, -⟩ := his args s m (atoms_spec (ws := [w]) hw _ List.mem_cons_self) hn
    exact ⟨meth, c, h1, h2, h3, h4, h5, h6⟩
  · intro p e s m args below meth c s₁ B hml hP _
    obtain ⟨rfl, hW0, hR0⟩ := hP
    have hh0 : s₁.heap = s.heap := by rw [B.state]; rfl
    have htab : c.exceptionTable.toList = tableOf hh := by
      obtain ⟨meth9, c9, h1, h2, -, -, -, -, h7⟩ := his As.toArray s m (atoms_spec (ws := [w]) B.pre _ List.mem_cons_self) B.named
      cases Option.some.inj (h1.symm.trans B.method)
      cases Option.some.inj (h2.symm.trans (Stand.of_body B).code)
      exact h7
    have K := body (p, e, (headSpec [w] (ax_rm d mc ms)).room, s, m, As.toArray, below, meth, c, ax_MQ Ω o h' mc ms below s)
      ⟨hA, B.exec, B.bytes, hml, findClass_of_methodNamed B.named, (name_of_methodNamed B.named B.method).1, B.returns, B.notSynchronized, htab, hW0, ⟨by rw [hR0.1]; exact hR0.2.1, hR0.2.2.1⟩, Nat.le_refl _, Nat.le_refl _⟩ rfl
    have K2 := K s.heap [] 0 0 _ hR0 (fun z hz => by cases hz) (ax_Lent hlen) ((ax_ls_len hlen).trans hml.symm) (Nat.le_of_eq (Nat.zero_add _)) (Nat.le_of_eq (Nat.zero_add _))
    obtain ⟨t, a1, oc, b1, b2, b3⟩ := K2 s₁ hh0 (Stand.of_body B)
    refine ⟨t, oc, ?_, b1, b2, b3⟩
    rw [lg_entry_eq]
    exact a1
theorem ax_met {Ω : ax_O} {y : MethodName} {cc : ByteArray} {nL : Nat} {ret : Option FieldType} {d mc ms : Nat} {As : List Value} {h h' : ax_H} {o : ax_Out} (hcode : Cond.code y cc nL ret ∈ lw_all) (hini : Cond.initialized y.cls ∈ lw_all) (hy : plainName y.cls = true) (hnL : nL ≤ 100) (hA : ax_Amb Ω) (hlen : (ax_ent As).length ≤ nL)
    (body : ∀ Γ : ax_F, ax_C Ω Γ y cc nL ret [] d → ax_Done Ω Γ o h' → ax_W Ω Γ mc ms h 0 (ax_ls As nL) []) : ax_Met Ω y d mc ms As h o h' := by
  refine ⟨cc, nL, ret, hcode, hini, hnL, ax_of0 hy hA hlen (fun args s m hw hn => ?_) body⟩
  obtain ⟨meth, c, h1, h2, h3, h4, h5, h6, h7, -⟩ := Cond.code_spec hn hw
  refine ⟨meth, c, h1, h2, h3, h4, h5, h6, ?_⟩
  rw [Array.isEmpty_iff.mp h7]
  rfl
theorem ax_metW {Ω : ax_O} {y : MethodName} {cc : ByteArray} {nL : Nat} {ret : Option FieldType} {hh : List (Nat × Nat × Nat × Nat)} {d mc ms : Nat} {As : List Value} {h h' : ax_H} {o : ax_Out} (hcode : Cond.codeWith y cc nL ret hh ∈ lw_all) (hini : Cond.initialized y.cls ∈ lw_all) (hy : plainName y.cls = true) (hnL : nL ≤ 100) (hA : ax_Amb Ω) (hlen : (ax_ent As).length ≤ nL)
    (body : ∀ Γ : ax_F, ax_C Ω Γ y cc nL ret hh d → ax_Done Ω Γ o h' → ax_W Ω Γ mc ms h 0 (ax_ls As nL) []) : ax_MetW Ω y d mc ms As h o h' := by
  refine ⟨cc, nL, ret, hh, hcode, hini, hnL, ax_of0 hy hA hlen (fun args s m hw hn => ?_) body⟩
  obtain ⟨m9, meth, c, hn9, h1, h2, h3, h4, h6, h5, hl, -⟩ := Cond.codeWith_spec hw
  cases hn.symm.trans hn9
  exact ⟨meth, c, h1, h2, h3, h4, h5, hl, by rw [← h6, table_eq]⟩
/-! ends -/
section AXE
variable {Ω : ax_O} {Γ : ax_F} {y : MethodName} {cc : ByteArray} {nL : Nat} {ret : Option FieldType} {hh : List (Nat × Nat × Nat × Nat)} {d kb nb pc : Nat} {h h' : ax_H} {ls : List (Option Value)} {st : List Value}
theorem ax_end {vo : Option Value} (E : ax_Done Ω Γ (.inl vo) h)
    (k : ∀ (H : Heap) (locs : List Loc) (cells slots : Nat) (L : Array Slot), ax_R Ω h H → (∀ z ∈ locs, ax_A Ω z.base) →
      W Γ.1 Ω.1 Γ.2.1 Γ.2.2.1 Γ.2.2.2.1 Γ.2.2.2.2.1 Γ.2.2.2.2.2.1 Γ.2.2.2.2.2.2.1 Γ.2.2.2.2.2.2.2.1 Γ.2.2.2.2.2.2.2.2.1 H locs cells slots (MQ Γ.2.2.2.2.2.2.1 (fun _ _ oc t => oc = .returned vo ∧ ax_R Ω h t.heap) Γ.2.2.2.2.2.1 Γ.2.2.2.1 cells slots (ax_A Ω)) (F0 Γ.2.2.2.2.1 pc L st)) : ax_W Ω Γ kb nb h pc ls st := by
  intro H locs cells slots L hR hl _ _ h1 h2
  have k2 := k H locs Γ.2.2.1.cells Γ.2.2.1.slots L hR hl
  unfold ax_Done at E
  unfold ax_K
  rw [E]
  refine W.widen (k := Γ.2.2.1.cells) (n := Γ.2.2.1.slots) (by omega) (by omega) ?_
  intro T hT X
  obtain ⟨t, a, oc, b1, b2, ⟨b3, b4⟩, L9, hF, hL9⟩ := k2 T hT X
  exact ⟨t, a, oc, b1, b2, b4, L9, hL9, Or.inl ⟨vo, rfl, b3, hF.2.1, hF.2.2⟩⟩
theorem ax_ireturn (G : ax_C Ω Γ y cc nL ret hh d) {v : Int32} {ty : FieldType} (E : ax_Done Ω Γ (.inl (some (.int v))) h) (hr : ret = some ty) (hn : narrow ty (.int v) = .int v) (dec : decode cc pc = .ok (.ireturn, 1)) : ax_W Ω Γ kb nb h pc ls [.int v] :=
  ax_end E fun H locs cells slots L hR hl => W.zret G.2.1 G.2.2.1 (G.2.2.2.2.2.2.1.trans hr) hn (fun t ht _ => ⟨rfl, by rw [ht]; exact hR⟩) hl dec G.2.2.2.2.2.2.2.1
theorem ax_lreturn (G : ax_C Ω Γ y cc nL ret hh d) {v : Int64} (E : ax_Done Ω Γ (.inl (some (.long v))) h) (hr : ret = some .long) (dec : decode cc pc = .ok (.lreturn, 1)) : ax_W Ω Γ kb nb h pc ls [.long v] :=
  ax_end E fun H locs cells slots L hR hl => W.lret G.2.1 G.2.2.1 (G.2.2.2.2.2.2.1.trans hr) (fun t ht _ => ⟨rfl, by rw [ht]; exact hR⟩) hl dec G.2.2.2.2.2.2.2.1
theorem ax_freturn (G : ax_C Ω Γ y cc nL ret hh d) {v : UInt32} (E : ax_Done Ω Γ (.inl (some (.float v))) h) (hr : ret = some .float) (dec : decode cc pc = .ok (.freturn, 1)) : ax_W Ω Γ kb nb h pc ls [.float v] :=
  ax_end E fun H locs cells slots L hR hl => W.fret G.2.1 G.2.2.1 (G.2.2.2.2.2.2.1.trans hr) (fun t ht _ => ⟨rfl, by rw [ht]; exact hR⟩) hl dec G.2.2.2.2.2.2.2.1
theorem ax_areturn (G : ax_C Ω Γ y cc nL ret hh d) {v : Value} {ty : FieldType} (E : ax_Done Ω Γ (.inl (some v)) h) (hr : ret = some ty) (ht : (∃ n, ty = .object n) ∨ ∃ t, ty = .array t) (hv : v = .null ∨ ∃ a, v = .ref a) (dec : decode cc pc = .ok (.areturn, 1)) : ax_W Ω Γ kb nb h pc ls [v] :=
  ax_end E fun H locs cells slots L hR hl => W.aret G.2.1 G.2.2.1 (G.2.2.2.2.2.2.1.trans hr) ht hv (fun t ht _ => ⟨rfl, by rw [ht]; exact hR⟩) hl dec G.2.2.2.2.2.2.2.1
theorem ax_return (G : ax_C Ω Γ y cc nL ret hh d) (E : ax_Done Ω Γ (.inl none) h) (hr : ret = none) (dec : decode cc pc = .ok (.return_, 1)) : ax_W Ω Γ kb nb h pc ls [] :=
  ax_end E fun H locs cells slots L hR hl => W.vret G.2.1 G.2.2.1 (G.2.2.2.2.2.2.1.trans hr) (fun t ht _ => ⟨rfl, by rw [ht]; exact hR⟩) hl dec G.2.2.2.2.2.2.2.1
/-- thrown out of the method -/
theorem ax_out (G : ax_C Ω Γ y cc nL ret hh d) {q : Nat} (E : ax_Done Ω Γ (.inr q) h) (hout : ∀ x ∈ tableOf hh, covers x pc = false) : ax_X Ω Γ kb nb h pc ls q := by
  intro H locs cells slots L st hR hl _ _ h1 h2 T hT X
  obtain ⟨st1, hrun, hend, hW, hsm⟩ := X.leaveThrown q (g := F0 Γ.2.2.2.2.1 pc L st) rfl rfl rfl (by rw [G.2.2.2.2.2.2.2.2.1]; exact hout) G.2.2.2.2.2.2.2.1
  unfold ax_Done at E
  rw [E]
  exact ⟨_, st1, .threw q, hrun, hend, by show ax_R Ω h T.heap; rw [hT]; exact hR, locs, hl, Or.inr ⟨q, rfl, rfl, hW, hsm.mono (by omega) (by omega)⟩⟩
/-- caught -/
theorem ax_catch0 (G : ax_C Ω Γ y cc nL ret hh d) {q ci : Nat} {fs : List Value} {r : vw_C} (hq : h.1 q = some (.inr (ci, fs))) (hc : ax_CL[ci]? = some r) (pre : List (Nat × Nat × Nat × Nat)) (x : Nat × Nat × Nat × Nat) (suf : List (Nat × Nat × Nat × Nat)) (hsplit : hh = pre ++ x :: suf)
    (hpass : ∀ z ∈ pre, covers ⟨z.1, z.2.1, z.2.2.1, z.2.2.2⟩ pc = false ∨ (z.2.2.2 ≠ 0 ∧ ∃ nm : String, Cond.classLink y.cls z.2.2.2 nm ∈ lw_all ∧ va_Nc r.1 nm Γ.2.2.2.1)) (hx : covers ⟨x.1, x.2.1, x.2.2.1, x.2.2.2⟩ pc = true)
    (hcat : x.2.2.2 = 0 ∨ (x.2.2.2 ≠ 0 ∧ ∃ name : String, Cond.classLink y.cls x.2.2.2 name ∈ lw_all ∧ Cond.castable r.1 name ∈ lw_tbl))
    (k : ax_W Ω Γ kb nb h x.2.2.1 ls [.ref q]) : ax_X Ω Γ kb nb h pc ls q := by
  intro H locs cells slots L st hR hl hL hn h1 h2 T hT X
  have hw := G.2.2.2.2.2.2.2.2.2.1
  have hpl : Γ.2.1.platform.magicAccessors = ({} : Platform).magicAccessors := by rw [X.admits.platform]
  obtain ⟨r', hr', cell, g1, g2, g3, -⟩ := hR.2.2.2 q _ hq
  cases Option.some.inj (hr'.symm.trans hc)
  have hcl : Γ.2.2.2.1.vm.findClass r.1 = some cell.cls := by rw [g2]; exact ((ax_kn G.1 hw).1 ci r hc).2.1
  obtain ⟨vm', X', st'⟩ := X.thenCaughtThrough q (g := F0 Γ.2.2.2.2.1 pc L st) rfl (Steps.refl _) (by rw [hT]; exact g1) (by rw [g3]; rfl) (by obtain ⟨k9, h9, -⟩ := Vm.findClass_spec hcl; exact ⟨k9, h9⟩) (tableOf pre) ⟨x.1, x.2.1, x.2.2.1, x.2.2.2⟩ (tableOf suf) (by rw [G.2.2.2.2.2.2.2.2.1, hsplit]; simp [tableOf])
    (fun z hz => by
      obtain ⟨z0, hz0, rfl⟩ := List.mem_map.mp hz
      rcases hpass z0 hz0 with h | ⟨hz0, nm, hl1, hn1⟩
      · exact Or.inl h
      · obtain ⟨c6, hc6, hcl6⟩ := Cond.classLink_spec G.2.2.2.2.1 (ax_words G.1 hw hl1 Γ.2.2.2.2.2.1) Γ.2.1.platform hpl
        obtain ⟨a8, b8, h1, h2, h3⟩ := hn1
        cases Option.some.inj (h1.symm.trans hcl)
        cases Option.some.inj (h2.symm.trans hc6)
        exact Or.inr ⟨hz0, _, hcl6, h3⟩) hx (by
      rcases hcat with h0 | ⟨h0, name, hlink, hcast⟩
      · exact Or.inl h0
      · obtain ⟨c3, c4, hc3, hc4, hasg⟩ := Cond.castable_spec (va_Nw.use (A := Γ.2.2.2.2.2.1) rfl (ax_cast G.1 hw hcast))
        cases Option.some.inj (hc3.symm.trans hcl)
        obtain ⟨c5, hc5, hcl5⟩ := Cond.classLink_spec G.2.2.2.2.1 (ax_words G.1 hw hlink Γ.2.2.2.2.2.1) Γ.2.1.platform hpl
        cases Option.some.inj (hc4.symm.trans hc5)
        exact Or.inr ⟨h0, c4, hcl5, hasg⟩)
  obtain ⟨t, a1, b1⟩ := k H locs cells slots L hR hl hL hn h1 h2 (T.setVm vm') hT X'
  exact ⟨t, st'.trans a1, b1⟩
/-- budgets may be greater -/
theorem ax_more {kb' nb' : Nat} (h1 : kb ≤ kb') (h2 : nb ≤ nb') (k : ax_W Ω Γ kb nb h pc ls st) : ax_W Ω Γ kb' nb' h pc ls st :=
  fun H locs cells slots L hR hl hL hn g1 g2 => k H locs cells slots L hR hl hL hn (by omega) (by omega)
end AXE
