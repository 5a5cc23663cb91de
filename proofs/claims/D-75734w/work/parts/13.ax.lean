/-! AN ABSTRACT LAYER: a heap as a function from addresses to entries; a judgement of frames over it (ax_W); a method's run over it (ax_Met) -/
def ax_nT : u_T := fun _ => ("", "", "", false)
/-- the classes whose objects have entries -/
def ax_CL : List vw_C := [(RX1, TX1, 9), (RX2, TX2, 26), (RX4, ax_nT, 0), (RX5, ax_nT, 0), (RX6, ax_nT, 0), (RX7, ax_nT, 0), (RX8, TX8, 9), (RX9, TX9, 1), (RX10, TX10, 25), (RX11, TX11, 8), (RX12, TX12, 12), (RX13, TX13, 8), (RX14, TX14, 2), (RX16, TX16, 8), (RX17, TX17, 7), (RX18, TX18, 2), (RJ2, TJ2, 3), (RJ17, TJ17, 3), (RJ8, TJ8, 4), (RJ9, TJ9, 4), (RJ6, ax_nT, 0), (RJ21, ax_nT, 0), (RJ18, ax_nT, 0)]
/-- an entry: an array (its type, length and contents) or an object (its class's place in ax_CL, its fields) -/
abbrev ax_E : Type := (FieldType × vp_A) ⊕ (Nat × List Value)
/-- entries and how many cells there are -/
abbrev ax_H : Type := (Nat → Option ax_E) × Nat
/-- fixed all through the run: the launch, the first state, numbers of classes and slots, places of literals, statics -/
abbrev ax_O : Type := Launch × State × va_G × (String → Nat → Nat) × (String → String → Value)
/-- fixed in a frame: program, environment, room, the state at its start, method, arguments, frames below, method and code, what is to be shown -/
abbrev ax_F : Type := Program × Env × Room × State × MethodId × Array Value × List Frame × Method × Code × (State → Prop)
abbrev ax_Out : Type := Option Value ⊕ Nat
def ax_val (a : vp_A) (j : Nat) : Value := match a.2 with
  | .inl f => .int (f j)
  | .inr (.inl f) => .long (f j)
  | .inr (.inr (.inl f)) => .float (f j)
  | .inr (.inr (.inr (.inl f))) => .double (f j)
  | .inr (.inr (.inr (.inr f))) => va_rf (f j)
/-- what is known of an array's class: its component, where that is a class -/
def ax_comp (U : State) (c : ClassId) (ty : FieldType) : Prop := match ty with
  | .object C => ∃ (kA : Class) (comp : ClassId), U.vm.classes[c]? = some kA ∧ kA.kind = .array comp (.object C) ∧ U.vm.findClass C = some comp ∧ U.vm.findClass ("[" ++ (FieldType.object C).toString) = some c
  | _ => U.vm.findClass ("[" ++ ty.toString) = some c
/-- an array; one that was made since the start (b0) is known whole -/
def ax_arr (U : State) (b0 : Nat) (ty : FieldType) (q : Nat) (a : vp_A) (H : Heap) : Prop :=
  ∃ cell : Cell, H[q]? = some cell ∧ U.isArrayOf cell ty ∧ cell.vm ≠ .unknown ∧ a.1 ≤ cell.slots.size ∧ cell.slots.size.toInt32 = Int32.ofNat a.1 ∧ (∀ j, j < a.1 → cell.slots[j]? = some (ax_val a j)) ∧ (b0 ≤ q → ax_comp U cell.cls ty ∧ ∃ cA, cell = arrV cA a.1 (ax_val a))
def ax_at (Ω : ax_O) (q : Nat) (e : ax_E) (H : Heap) : Prop := match e with
  | .inl x => ax_arr Ω.2.1 Ω.2.1.heap.size x.1 q x.2 H
  | .inr o => va_at Ω.2.2.1 ax_CL (q, .inr o) H
/-- the heap H as the abstract heap h says -/
def ax_R (Ω : ax_O) (h : ax_H) (H : Heap) : Prop := H.size = h.2 ∧ Ω.2.1.heap.size ≤ h.2 ∧ (∀ q, q < Ω.2.1.heap.size → H[q]? = Ω.2.1.heap[q]?) ∧ ∀ q e, h.1 q = some e → ax_at Ω q e H
/-- statics that nobody writes: class, name, descriptor -/
def ax_stl : List (String × String × String) := [("java/lang/Math", "negativeZeroFloatBits", "J"), ("java/lang/String", "COMPACT_STRINGS", "Z"), ("java/lang/StringUTF16", "$assertionsDisabled", "Z"), ("java/lang/StringUTF16", "HI_BYTE_SHIFT", "I"), ("java/lang/StringUTF16", "LO_BYTE_SHIFT", "I"), ("java/lang/Integer", "DigitTens", "[B"), ("java/lang/Integer", "DigitOnes", "[B")]
/-- which cells may be written: those that were made since the start -/
abbrev ax_A (Ω : ax_O) : Nat → Prop := fun q => Ω.2.1.heap.size ≤ q
/-- what holds of the launch and of the first state -/
def ax_Amb (Ω : ax_O) : Prop := Ω.1.stackTraces = false ∧ (∀ (c : Nat) (q : vw_C), ax_CL[c]? = some q → u_Kn Ω.2.1 q.1 q.2.1 q.2.2 (Ω.2.2.1.1 c) (Ω.2.2.1.2 c)) ∧ (∃ A, ∀ w ∈ lw_tbl, w.before A Ω.2.1 = true) ∧
  (∀ z ∈ ax_stl, va_Z z.1 z.2.1 z.2.2 (Ω.2.2.2.2 z.1 z.2.1) (ax_A Ω) Ω.2.1 Ω.2.1.heap) ∧
  (vx_Zq Bundle.tN "UNASSIGNED_STACK" Bundle.steD (ax_A Ω) Ω.2.1 Ω.2.1.heap ∧ vx_Zq Bundle.tN "SUPPRESSED_SENTINEL" Bundle.listD (ax_A Ω) Ω.2.1 Ω.2.1.heap) ∧
  (∀ own k tx, Cond.stringRef own k tx ∈ lw_tbl → vk_R own k tx (Ω.2.2.2.1 own k) Ω.2.1) ∧ (∃ A, (Jvm.Cond.and given_1 narrow_1).before A Ω.2.1 = true)
/-- what holds of a frame -/
def ax_C (Ω : ax_O) (Γ : ax_F) (y : MethodName) (cc : ByteArray) (nL : Nat) (ret : Option FieldType) (hh : List (Nat × Nat × Nat × Nat)) (d : Nat) : Prop :=
  ax_Amb Ω ∧ Γ.1.tables.exec = Jvm.exec ∧ Γ.2.2.2.2.2.2.2.2.1.code = cc ∧ Γ.2.2.2.2.2.2.2.2.1.maxLocals = nL ∧ Γ.2.2.2.1.vm.findClass y.cls = some Γ.2.2.2.2.1.cls ∧ Γ.2.2.2.2.2.2.2.1.name = y.name ∧ Γ.2.2.2.2.2.2.2.1.sig.returnType = ret ∧ Γ.2.2.2.2.2.2.2.1.locks = false ∧
  Γ.2.2.2.2.2.2.2.2.1.exceptionTable.toList = tableOf hh ∧ Ω.2.1.WarmedH Γ.2.2.2.1.vm ∧ (Ω.2.1.heap.size ≤ Γ.2.2.2.1.heap.size ∧ ∀ q, q < Ω.2.1.heap.size → Γ.2.2.2.1.heap[q]? = Ω.2.1.heap[q]?) ∧ d ≤ Γ.2.2.1.frames ∧ 200 * d ≤ Γ.2.2.1.locals
/-- locals by place -/
def ax_L (L : Array Slot) (ls : List (Option Value)) : Prop := L.size = ls.length ∧ lv_wf L ∧ ∀ (i : Nat) (v : Value), ls[i]? = some (some v) → L[i]? = some (.val v)
/-- the machine's judgement in a frame -/
abbrev ax_K (Ω : ax_O) (Γ : ax_F) (H : Heap) (locs : List Loc) (cells slots : Nat) (g : JFrame) : Prop :=
  W Γ.1 Ω.1 Γ.2.1 Γ.2.2.1 Γ.2.2.2.1 Γ.2.2.2.2.1 Γ.2.2.2.2.2.1 Γ.2.2.2.2.2.2.1 Γ.2.2.2.2.2.2.2.1 Γ.2.2.2.2.2.2.2.2.1 H locs cells slots Γ.2.2.2.2.2.2.2.2.2 g
/-- THE JUDGEMENT: from any heap that is as h says, with kb cells of nb slots still to be made -/
def ax_W (Ω : ax_O) (Γ : ax_F) (kb nb : Nat) (h : ax_H) (pc : Nat) (ls : List (Option Value)) (st : List Value) : Prop :=
  ∀ (H : Heap) (locs : List Loc) (cells slots : Nat) (L : Array Slot), ax_R Ω h H → (∀ z ∈ locs, ax_A Ω z.base) → ax_L L ls → ls.length = Γ.2.2.2.2.2.2.2.2.1.maxLocals → cells + kb ≤ Γ.2.2.1.cells → slots + nb ≤ Γ.2.2.1.slots →
    ax_K Ω Γ H locs cells slots (F0 Γ.2.2.2.2.1 pc L st)
/-- .. with q thrown over the frame -/
def ax_X (Ω : ax_O) (Γ : ax_F) (kb nb : Nat) (h : ax_H) (pc : Nat) (ls : List (Option Value)) (q : Nat) : Prop :=
  ∀ (H : Heap) (locs : List Loc) (cells slots : Nat) (L : Array Slot) (st : List Value), ax_R Ω h H → (∀ z ∈ locs, ax_A Ω z.base) → ax_L L ls → ls.length = Γ.2.2.2.2.2.2.2.2.1.maxLocals → cells + kb ≤ Γ.2.2.1.cells → slots + nb ≤ Γ.2.2.1.slots →
    vx_W Γ.1 Ω.1 Γ.2.1 Γ.2.2.1 Γ.2.2.2.1 Γ.2.2.2.2.1 Γ.2.2.2.2.2.1 Γ.2.2.2.2.2.2.1 Γ.2.2.2.2.2.2.2.1 Γ.2.2.2.2.2.2.2.2.1 H locs cells slots Γ.2.2.2.2.2.2.2.2.2 (F0 Γ.2.2.2.2.1 pc L st) q
/-- a method's end -/
def ax_Q (Ω : ax_O) (o : ax_Out) (h' : ax_H) (mc ms : Nat) (st : State) (oc : Outcome) (t : State) : Prop :=
  ax_R Ω h' t.heap ∧ ∃ L : List Loc, (∀ z ∈ L, ax_A Ω z.base) ∧ ((∃ v, o = .inl v ∧ oc = .returned v ∧ st.WarmedH t.vm ∧ st.sameButNew ({ t with vm := st.vm } : State) L mc ms) ∨ ∃ q, o = .inr q ∧ oc = .threw q ∧ st.WarmedH t.vm ∧ st.sameButNew ({ t with vm := st.vm } : State) L mc ms)
def ax_MQ (Ω : ax_O) (o : ax_Out) (h' : ax_H) (mc ms : Nat) (below : List Frame) (s : State) : State → Prop := fun t => ∃ oc, t.status = .running ∧ Ended t below oc ∧ ax_Q Ω o h' mc ms s oc t
/-- what is to be shown in this frame: that it ends with o over h' -/
def ax_Done (Ω : ax_O) (Γ : ax_F) (o : ax_Out) (h' : ax_H) : Prop := Γ.2.2.2.2.2.2.2.2.2 = ax_MQ Ω o h' Γ.2.2.1.cells Γ.2.2.1.slots Γ.2.2.2.2.2.2.1 Γ.2.2.2.1
/-- a method's start -/
def ax_Pc (Ω : ax_O) (As : List Value) (h : ax_H) : Array Value → State → Prop := fun a U => a = As.toArray ∧ Ω.2.1.WarmedH U.vm ∧ ax_R Ω h U.heap
def ax_rm (d mc ms : Nat) : Room := { frames := d, cells := mc, slots := ms, locals := 200 * d }
/-- the machine's contract, under the word w (its code) -/
def ax_Met0 (Ω : ax_O) (y : MethodName) (w : Cond) (d mc ms : Nat) (As : List Value) (h : ax_H) (o : ax_Out) (h' : ax_H) : Prop :=
  MetFree Ω.1 y (headSpec [w] (ax_rm d mc ms)) (ax_Pc Ω As h) (fun _ _ _ _ _ => True) (fun _ st oc t => ax_Q Ω o h' mc ms st oc t)
def ax_yok (y : MethodName) (n : Nat) : Prop := y.cls ≠ "java/lang/invoke/MethodHandle" ∧ y.cls ≠ "java/lang/invoke/VarHandle" ∧ (parseMethodDescriptor y.desc).map (fun d => d.parameters.length) = some n
/-- A METHOD WITHOUT HANDLERS: called with As over h it ends with o over h'; nested at most d deep, making at most mc cells of ms slots -/
def ax_Met (Ω : ax_O) (y : MethodName) (d mc ms : Nat) (As : List Value) (h : ax_H) (o : ax_Out) (h' : ax_H) : Prop :=
  ∃ (cc : ByteArray) (nL : Nat) (ret : Option FieldType), Cond.code y cc nL ret ∈ lw_all ∧ Cond.initialized y.cls ∈ lw_all ∧ nL ≤ 100 ∧ ax_Met0 Ω y (Cond.code y cc nL ret) d mc ms As h o h'
/-- .. with handlers -/
def ax_MetW (Ω : ax_O) (y : MethodName) (d mc ms : Nat) (As : List Value) (h : ax_H) (o : ax_Out) (h' : ax_H) : Prop :=
  ∃ (cc : ByteArray) (nL : Nat) (ret : Option FieldType) (hh : List (Nat × Nat × Nat × Nat)), Cond.codeWith y cc nL ret hh ∈ lw_all ∧ Cond.initialized y.cls ∈ lw_all ∧ nL ≤ 100 ∧ ax_Met0 Ω y (Cond.codeWith y cc nL ret hh) d mc ms As h o h'
/-! words -/
theorem ax_words {Ω : ax_O} (hA : ax_Amb Ω) {s : State} (hw : Ω.2.1.WarmedH s.vm) {w : Cond} (h : w ∈ lw_all) (a : Array Value) : w.before a s = true := by
  obtain ⟨A, hA2⟩ := hA.2.2.1
  exact pay_in (big := lw_all) (ws := lw_all) (fun w h => hA2 w (lw_all_tbl h)) lw_self w h a s hw
theorem ax_nestF {Ω : ax_O} (hA : ax_Amb Ω) {s : State} (hw : Ω.2.1.WarmedH s.vm) {a : String} {i : Nat} {b n d hst : String} (h : Cond.fieldLinkNest a i b n d hst ∈ lw_tbl) (A : Array Value) : (Cond.fieldLinkNest a i b n d hst).before A s = true := by
  obtain ⟨A0, hA2⟩ := hA.2.2.1
  exact va_Nw.use rfl (va_Nw.warmF hw (va_Nw.of rfl (hA2 _ h)))
theorem ax_nestM {Ω : ax_O} (hA : ax_Amb Ω) {s : State} (hw : Ω.2.1.WarmedH s.vm) {a : String} {i : Nat} {x : MethodName} {hst : String} (h : Cond.methodLinkNest a i x hst ∈ lw_tbl) (A : Array Value) : (Cond.methodLinkNest a i x hst).before A s = true := by
  obtain ⟨A0, hA2⟩ := hA.2.2.1
  exact va_Nw.use rfl (va_Nw.warmM hw (va_Nw.of rfl (hA2 _ h)))
theorem ax_cast {Ω : ax_O} (hA : ax_Amb Ω) {s : State} (hw : Ω.2.1.WarmedH s.vm) {C T : String} (h : Cond.castable C T ∈ lw_tbl) : va_Nw (.castable C T) s := by
  obtain ⟨A0, hA2⟩ := hA.2.2.1
  exact va_Nw.warmC hw (va_Nw.of rfl (hA2 _ h))
theorem ax_kn {Ω : ax_O} (hA : ax_Amb Ω) {s : State} (hw : Ω.2.1.WarmedH s.vm) : va_K Ω.2.2.1 ax_CL [] s :=
  ⟨fun c q hq => u_Kn_moved hw.alike (hA.2.1 c q hq), fun k q hk => by cases hk⟩
/-! calls: from a contract to the machine's run -/
def ax_PostX (Ω : ax_O) (o : ax_Out) (h' : ax_H) (mc ms : Nat) : Pt → Array Value → Addr → Pt → Prop := fun A _ q B =>
  o = .inr q ∧ ax_R Ω h' B.U.heap ∧ ∃ L : List Loc, B.locs = A.locs ++ L ∧ (∀ z ∈ L, ax_A Ω z.base) ∧ B.cells = A.cells + mc ∧ B.slots = A.slots + ms
def ax_Post (Ω : ax_O) (o : ax_Out) (h' : ax_H) (mc ms : Nat) : Pt → Array Value → Option Value → Pt → Prop := fun A _ v B =>
  o = .inl v ∧ ax_R Ω h' B.U.heap ∧ ∃ L : List Loc, B.locs = A.locs ++ L ∧ (∀ z ∈ L, ax_A Ω z.base) ∧ B.cells = A.cells + mc ∧ B.slots = A.slots + ms
def ax_Pre (Ω : ax_O) (R : Room) (As : List Value) (h : ax_H) (mc ms : Nat) : Pt → Array Value → Prop := fun A a => A.cells + mc ≤ R.cells ∧ A.slots + ms ≤ R.slots ∧ ax_Pc Ω As h a A.U
set_option maxHeartbeats 1000000 in
theorem ax_back {Ω : ax_O} {R : Room} {p : Program} {e : Env} {below : List Frame} {s : State} {sargs : Array Value} {y : MethodName} {len d mc ms nL : Nat} {As : List Value} {h h' : ax_H} {o : ax_Out} {w : Cond}
    (hM : ax_Met0 Ω y w d mc ms As h o h') (hframes : d + 1 ≤ R.frames) (hlocals : 20 + (nL + 11) + 200 * d ≤ R.locals)
    (hws : ∀ a' U, s.WarmedH U.vm → w.before a' U = true) (hcode : ∀ a' U mk, s.WarmedH U.vm → U.methodNamed? y = some mk → w.before a' U = true → ∃ (meth : Method) (c : Code), U.vm.method? mk = some meth ∧ meth.code = some c ∧ c.maxLocals = nL) (hinit : ∀ a' U, s.WarmedH U.vm → (Cond.initialized y.cls).before a' U = true) :
    vx_Back Ω.1 R p e below s sargs y len 20 (ax_Pre Ω R As h mc ms) (ax_Post Ω o h' mc ms) (ax_PostX Ω o h' mc ms) := by
  intro m meth c A g ig mk a X hg hsize hdg hW hn hp
  have h1 : (headSpec [w] (ax_rm d mc ms)).pre.before a A.U = true := atoms_intro fun w' hw' => by rw [List.mem_singleton.mp hw']; exact hws _ _ X.warmed
  have h2 : w.before a A.U = true := hws _ _ X.warmed
  have h3 : (Cond.initialized y.cls).before a A.U = true := hinit _ _ X.warmed
  have h4 : A.cells + (headSpec [w] (ax_rm d mc ms)).room.cells ≤ R.cells := hp.1
  have h5 : A.slots + (headSpec [w] (ax_rm d mc ms)).room.slots ≤ R.slots := hp.2.1
  have hPc : ax_Pc Ω As h a (A.U.calling g mk a) := hp.2.2
  obtain ⟨methY, cY, hmY, hcY, hlY⟩ := hcode a A.U mk X.warmed hn h2
  obtain ⟨U, Ls, c0, s0⟩ := A
  dsimp only [Pt.U, Pt.locs, Pt.cells, Pt.slots] at h1 h2 h3 h4 h5 X hn hPc hmY ⊢
  obtain ⟨kY, hkY, -⟩ := className_of_methodNamed hn
  have hinitY : kY.init = .initialized := Cond.initialized_spec (findClass_of_methodNamed hn) hkY h3
  have hAt : At U g.method c below := by rw [hg]; exact X.here
  have hlocals9 : 20 + (nL + 11) + (headSpec [w] (ax_rm d mc ms)).room.locals ≤ R.locals := hlocals
  have happ : (headSpec [w] (ax_rm d mc ms)).appliesLoose y e.platform (U.calling g mk a) = true :=
    Spec.appliesLoose_calling (g := g) hAt hdg hn hkY hinitY
      (X.room_calling (g := g) (R' := (headSpec [w] (ax_rm d mc ms)).room) hsize hmY hcY hframes (by rw [hlY]; omega) h4 h5) h1
  obtain ⟨mid, hmid⟩ := hAt.above
  have hfr : (U.setTop g).frames = (.java g :: mid) ++ below := by rw [State.frames_setTop' g hAt.top, hmid]; rfl
  obtain ⟨oc, s₂, hsteps, -, hend, hq⟩ := Steps.callFree hM p X.admits X.cas X.clock (acts := []) hfr happ hPc trivial
  have hq' : ax_Q Ω o h' mc ms (U.calling g mk a) oc s₂ := hq
  rw [State.frames_setTop' g hAt.top] at hend
  obtain ⟨g₀, hg0⟩ := Option.isSome_iff_exists.mp hAt.top
  obtain ⟨r, hr⟩ := State.topJava?_eq_some.mp hg0
  have hr' : (({ U with heap := s₂.heap, slotsUsed := s₂.slotsUsed } : State).setVm s₂.vm).frames = .java g₀ :: r := hr
  obtain ⟨hR2, L, hL, hq'⟩ := hq'
  rcases hq' with ⟨v, ho, rfl, hW₂, e2, q2, q3, q4, q5, q6⟩ | ⟨q, ho, rfl, hW₂, e2, q2, q3, q4, q5, q6⟩
  · have e3 : s₂ = ({ (U.calling g mk a).setFrames s₂.frames with heap := s₂.heap, slotsUsed := s₂.slotsUsed } : State).setVm s₂.vm := by
      have : s₂ = ({ s₂ with vm := (U.calling g mk a).vm } : State).setVm s₂.vm := rfl
      rw [e2] at this
      exact this
    obtain ⟨c₂, i₂, len₂, hc₂, hd₂, hf₂⟩ := hend
    have hW' : U.WarmedH s₂.vm := hW₂
    have hcc : c₂ = c := by
      have h1 : s₂.code? g.method = U.code? g.method := by
        rw [State.code?_eq, State.code?_eq, hW'.alike.method?]
      exact Option.some.inj (hc₂.symm.trans (h1.trans hAt.code))
    subst hcc
    have hlen : len₂ = len := by rw [hdg] at hd₂; cases hd₂; rfl
    subst hlen
    have hs₂ : s₂ = (({ U with heap := s₂.heap, slotsUsed := s₂.slotsUsed } : State).setVm s₂.vm).setTop { g with pc := g.pc + len₂, stack := v.toList ++ g.stack } := by
      refine e3.trans ?_
      rw [hf₂, State.calling_eq hAt.top, State.setFrames_setFrames, State.setTop_of_frames _ hr', hr]
      rfl
    have hsame : U.sameButNew ({ U with heap := s₂.heap, slotsUsed := s₂.slotsUsed } : State) L mc ms := by
      refine ⟨?_, q2, q3, q4, q5, q6⟩
      obtain ⟨t, ht, -⟩ := State.frames_cons hr
      show ({ U with heap := s₂.heap, slotsUsed := s₂.slotsUsed } : State) = { U.setFrames U.frames with heap := s₂.heap, slotsUsed := s₂.slotsUsed }
      rw [State.setFrames_self ht]
    subst hg
    refine Or.inl ⟨v, ⟨(({ U with heap := s₂.heap, slotsUsed := s₂.slotsUsed } : State).setVm s₂.vm), Ls ++ L, c0 + mc, s0 + ms⟩,
      ⟨X.admits, X.cas, X.clock, X.frames, X.room, X.hears, X.method, X.code, (X.here.setHeapUsed s₂.heap s₂.slotsUsed).setVm hW'.alike, X.tail, State.WarmedH.trans X.warmed hW', X.limits, X.bytes, X.same.trans (hsame.setVm s.vm)⟩,
      ⟨ho, hR2, L, rfl, hL, rfl, rfl⟩, ?_⟩
    show Steps p.tables e below _ ((({ U with heap := s₂.heap, slotsUsed := s₂.slotsUsed } : State).setVm s₂.vm).setTop { g with pc := g.pc + len₂, stack := v.toList ++ g.stack })
    rw [← hs₂]
    exact hsteps
  · have e3 : s₂ = ({ (U.calling g mk a).setFrames s₂.frames with heap := s₂.heap, slotsUsed := s₂.slotsUsed } : State).setVm s₂.vm := by
      have : s₂ = ({ s₂ with vm := (U.calling g mk a).vm } : State).setVm s₂.vm := rfl
      rw [e2] at this
      exact this
    have hf₂ : s₂.frames = .throwing q :: .java g :: U.frames.tail := hend
    have hW' : U.WarmedH s₂.vm := hW₂
    have hs₂ : s₂ = ((({ U with heap := s₂.heap, slotsUsed := s₂.slotsUsed } : State).setVm s₂.vm).setTop g).pushFrame (.throwing q) := by
      refine e3.trans ?_
      rw [hf₂, State.calling_eq hAt.top, State.setFrames_setFrames, State.pushFrame, State.frames_setTop _ hr', State.setTop_of_frames _ hr', State.setFrames_setFrames, hr]
      rfl
    have hsame : U.sameButNew ({ U with heap := s₂.heap, slotsUsed := s₂.slotsUsed } : State) L mc ms := by
      refine ⟨?_, q2, q3, q4, q5, q6⟩
      obtain ⟨t, ht, -⟩ := State.frames_cons hr
      show ({ U with heap := s₂.heap, slotsUsed := s₂.slotsUsed } : State) = { U.setFrames U.frames with heap := s₂.heap, slotsUsed := s₂.slotsUsed }
      rw [State.setFrames_self ht]
    subst hg
    refine Or.inr ⟨q, ⟨(({ U with heap := s₂.heap, slotsUsed := s₂.slotsUsed } : State).setVm s₂.vm), Ls ++ L, c0 + mc, s0 + ms⟩,
      ⟨X.admits, X.cas, X.clock, X.frames, X.room, X.hears, X.method, X.code, (X.here.setHeapUsed s₂.heap s₂.slotsUsed).setVm hW'.alike, X.tail, State.WarmedH.trans X.warmed hW', X.limits, X.bytes, X.same.trans (hsame.setVm s.vm)⟩,
      ⟨ho, hR2, L, rfl, hL, rfl, rfl⟩, ?_⟩
    show Steps p.tables e below _ (((({ U with heap := s₂.heap, slotsUsed := s₂.slotsUsed } : State).setVm s₂.vm).setTop g).pushFrame (.throwing q))
    rw [← hs₂]
    exact hsteps
