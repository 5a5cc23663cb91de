/-! MATH.MAX, MATH.MIN OVER FLOATS: the machine runs them by its own table -/
theorem ov_args {a b : UInt32} {n : Nat} : ((argsToLocals #[.float a, .float b] n).toList.filterMap fun x => match x with | Slot.val v => some v | _ => none).toArray.extract 0 2 = #[.float a, .float b] := by
  have h : ∀ k : Nat, (List.replicate k Slot.unset).filterMap (fun x => match x with | Slot.val v => some v | _ => none) = [] := by
    intro k
    induction k with
    | zero => rfl
    | succ k ih => rw [List.replicate_succ, List.filterMap_cons]; exact ih
  have e : argsToLocals #[.float a, .float b] n = #[.val (.float a), .val (.float b)] ++ Array.replicate (n - 2) .unset := rfl
  rw [e, Array.toList_append, Array.toList_replicate, List.filterMap_append, h, List.append_nil]
  rfl
theorem ov_run {tb : Tables} {e : Env} {below : List Frame} {s target : State} {g : JFrame} {c : Code} (h : At s g.method c below) {m : MethodId} {meth : Method} {code : Code} {k : Class} {row : NativeRow} {a b r : UInt32} (acts : List Action)
    (hk : s.vm.classes[m.cls]? = some k) (hx : k.methods[m.idx]? = some meth) (hin : k.name = "java/lang/Math") (hboot : k.loader = none) (hc : meth.code = some code) (hl : meth.locks = false) (hps : meth.sig.parameters.length = 2) (hst : meth.isStatic = true)
    (hrow : NativeRow.find? tb.natives k.name meth.name meth.desc = some row) (hroom : e.platform.stackFull (((s.setTop g).threads[(s.setTop g).cur]?).getD { frames := [] }) (s.setTop g).frames code.maxLocals = false)
    (run : ∀ S : State, ∃ acts', (row.sem #[.float a, .float b]).run e S = .ok (some (.float r)) S acts') {ig : Instr} {len : Nat} (hdg : decode c.code g.pc = .ok (ig, len))
    (hrest : Steps tb e below (s.setTop { g with pc := g.pc + len, stack := .float r :: g.stack }) target) : Steps tb e below (doInvoke e (s.setTop g) acts m #[.float a, .float b]).1 target := by
  have hm : (s.setTop g).vm.method? m = some meth := by
    show s.vm.method? m = some meth
    simp [Vm.method?, hk, hx]
  rw [(doInvoke_java (s := s.setTop g) (e := e) (acts := acts) (args := #[.float a, .float b]) hm hc hl hroom).1]
  obtain ⟨f0, hf0⟩ : ∃ f0 : JFrame, f0 = { method := m, pc := 0, locals := argsToLocals #[.float a, .float b] code.maxLocals, stack := [], locked := none } := ⟨_, rfl⟩
  rw [← hf0]
  have hfe := frames_entered (g := g) h.top (.java f0)
  obtain ⟨mid, hmid⟩ := h.above
  obtain ⟨g0, hg⟩ := Option.isSome_iff_exists.mp h.top
  obtain ⟨rs, hr⟩ := State.topJava?_eq_some.mp hg
  have htl : s.frames.tail = rs := by rw [hr]; rfl
  refine Steps.head ⟨h.running, by simpa using h.runnable, by simpa using h.alone⟩ ⟨.java f0 :: .java g :: mid, by rw [hfe, hmid]; rfl, by simp, by simp⟩ ?_
  have hov : overridden tb e ((s.setTop g).pushFrame (.java f0)) f0 = some row := by
    have h1 : ((s.setTop g).pushFrame (.java f0)).vm.classes[f0.method.cls]? = some k := by rw [hf0]; exact hk
    have h2 : k.methods[f0.method.idx]? = some meth := by rw [hf0]; exact hx
    have h3 : f0.pc = 0 := by rw [hf0]
    unfold overridden
    simp [h3, h1, h2, hin, hboot, overriddenIn]
    rw [← hin]; exact hrow
  have hcount : argCount ((s.setTop g).pushFrame (.java f0)) f0.method = 2 := by
    have h1 : ((s.setTop g).pushFrame (.java f0)).vm.classes[f0.method.cls]? = some k := by rw [hf0]; exact hk
    have h2 : k.methods[f0.method.idx]? = some meth := by rw [hf0]; exact hx
    simp [argCount, h1, h2, hps, hst]
  obtain ⟨w, hw⟩ := run (s.setFrames (.native { method := m, args := #[.float a, .float b], locked := none } :: .java g :: rs))
  have hstep : stepThread tb e ((s.setTop g).pushFrame (.java f0)) = doReturn e (s.setFrames (.native { method := m, args := #[.float a, .float b], locked := none } :: .java g :: rs)) w (some (.float r)) := by
    unfold stepThread
    simp only [hfe, hov, hcount]
    have hl0 : f0.locals = argsToLocals #[.float a, .float b] code.maxLocals := by rw [hf0]
    have hS : ((s.setTop g).pushFrame (.java f0)).setFrames (.native { method := m, args := #[.float a, .float b], locked := none } :: .java g :: s.frames.tail) = s.setFrames (.native { method := m, args := #[.float a, .float b], locked := none } :: .java g :: rs) := by
      rw [State.pushFrame, State.setFrames_setFrames, State.setTop_of_frames _ hr, State.setFrames_setFrames, htl]
    have hmm : f0.method = m := by rw [hf0]
    have hlk : f0.locked = none := by rw [hf0]
    simp only [hl0, hmm, hlk]
    have key : ∀ z : Array Value, z = #[.float a, .float b] → afterNative e { method := m, args := z, locked := none } (.java g :: s.frames.tail) ((row.sem z).run e (((s.setTop g).pushFrame (.java f0)).setFrames (.native { method := m, args := z, locked := none } :: .java g :: s.frames.tail))) = doReturn e (s.setFrames (.native { method := m, args := #[.float a, .float b], locked := none } :: .java g :: rs)) w (some (.float r)) := by
      intro z hz
      subst hz
      rw [hS, hw]
      rfl
    exact key _ ov_args
  rw [hstep]
  have hcur : s.cur < s.threads.size := State.cur_lt_of_frames hr
  have hfr3 : (s.setFrames (.native { method := m, args := #[.float a, .float b], locked := none } :: .java g :: rs)).frames = .native { method := m, args := #[.float a, .float b], locked := none } :: .java g :: rs := State.frames_setFrames _ hcur
  have hcd : ∀ fs, (s.setFrames fs).code? g.method = some c := fun fs => h.code
  have hfs : handOver (s.setFrames (.native { method := m, args := #[.float a, .float b], locked := none } :: .java g :: rs)) (some (.float r)) (.java g :: rs) = some (.java { g with pc := g.pc + len, stack := .float r :: g.stack } :: rs) := by
    simp [handOver, hcd, hdg, Except.toOption]
  rw [doReturn_native (f := { method := m, args := #[.float a, .float b], locked := none }) hfr3 rfl hfs, State.setFrames_setFrames, ← State.setTop_of_frames (s := s) _ hr]
  exact hrest
