/-! MATH.MAX, MATH.MIN OVER FLOATS: the rows -/
theorem ov_back {l : Launch} {R : Room} {p : Program} {e : Env} {below : List Frame} {s : State} {sargs : Array Value} {nm : String} {a b r : UInt32} {row : NativeRow} (hrow : NativeRow.find? p.tables.natives "java/lang/Math" nm "(FF)F" = some row)
    (run : ∀ (e : Env) (S : State), ∃ acts', (row.sem #[.float a, .float b]).run e S = .ok (some (.float r)) S acts') {bytes : ByteArray} {maxL : Nat} (hcode : (Cond.code ⟨"java/lang/Math", nm, "(FF)F"⟩ bytes maxL (some .float)).before sargs s = true) (hstat : (Cond.static ⟨"java/lang/Math", nm, "(FF)F"⟩).before sargs s = true) (hfr : 1 ≤ R.frames) (hlo : 20 + (maxL + 11) ≤ R.locals) :
    vx_Back l R p e below s sargs ⟨"java/lang/Math", nm, "(FF)F"⟩ 3 20 (fun _ x => x = #[.float a, .float b]) (fun A _ v B => B = A ∧ v = some (.float r)) (fun _ _ _ _ => False) := by
  intro m meth c A g ig mk x X hg hsize hdg hW hn hp
  subst hp
  subst hg
  obtain ⟨r0, hnamed⟩ := Cond.code_named hcode
  obtain ⟨y, code, hmeth, hc, -, hml, -, hl, -, hsig⟩ := Cond.code_spec hnamed hcode
  obtain ⟨k, hk, hkname⟩ := className_of_methodNamed hnamed
  obtain ⟨hmn, hmd⟩ := name_of_methodNamed hnamed hmeth
  have hst := Cond.static_spec hnamed hmeth hstat
  have hbo := Vm.bootOf_findClass (findClass_of_methodNamed hnamed) hk
  cases (X.named hnamed).symm.trans hn
  obtain ⟨k', hk', he⟩ := X.warmed.alike.2.2 _ _ hk
  have hps : y.sig.parameters.length = 2 := by
    rw [show parseMethodDescriptor "(FF)F" = some { parameters := [.float, .float], returnType := some .float } from by decide +kernel] at hsig
    rw [← Option.some.inj hsig]; rfl
  have hnk : k'.name = "java/lang/Math" := by rw [he]; exact hkname
  refine Or.inl ⟨some (.float r), A, X, ⟨rfl, rfl⟩, ?_⟩
  exact ov_run (row := row) (code := code) X.here [] hk' (by rw [he]; simpa [Vm.method?, hk] using hmeth) hnk (by rw [he]; exact hbo) hc hl hps hst (by rw [hnk, hmn, hmd]; exact hrow) (by rw [hml]; exact X.notFull hsize hfr (by omega)) (run e) hdg (Steps.refl _)
set_option maxRecDepth 100000
def ovMax : NativeRow := (NativeRow.find? Native.java_lang_Math.nans.rows "java/lang/Math" "max" "(FF)F").get (by decide +kernel)
theorem ovMax_row (p : Program) : NativeRow.find? p.tables.natives "java/lang/Math" "max" "(FF)F" = some ovMax := by
  cases p <;> rfl
theorem ovMax_run {a b : UInt32} (ha : fPos a) (hb : fPos b) (e : Env) (S : State) : ∃ acts', (ovMax.sem #[.float a, .float b]).run e S = .ok (some (.float (fMax a b))) S acts' := by
  have hsem : ovMax.sem #[.float a, .float b] = (do
      let r ← if FP.fIsNaN a then anyNaN32 a else if FP.fIsNaN b then anyNaN32 b else Pure.pure (Native.java_lang_Math.nans.pick32 true a b)
      mark "nat.java_lang_Math.max/float"
      Pure.pure (some (.float r))) := rfl
  rw [hsem, fPos_nn ha, fPos_nn hb, pick_t ha hb]
  exact ⟨_, rfl⟩
def ovMin : NativeRow := (NativeRow.find? Native.java_lang_Math.nans.rows "java/lang/Math" "min" "(FF)F").get (by decide +kernel)
theorem ovMin_row (p : Program) : NativeRow.find? p.tables.natives "java/lang/Math" "min" "(FF)F" = some ovMin := by
  cases p <;> rfl
theorem ovMin_run {a b : UInt32} (ha : fPos a) (hb : fPos b) (e : Env) (S : State) : ∃ acts', (ovMin.sem #[.float a, .float b]).run e S = .ok (some (.float (fMinC a b))) S acts' := by
  have hsem : ovMin.sem #[.float a, .float b] = (do
      let r ← if FP.fIsNaN a then anyNaN32 a else if FP.fIsNaN b then anyNaN32 b else Pure.pure (Native.java_lang_Math.nans.pick32 false a b)
      mark "nat.java_lang_Math.min/float"
      Pure.pure (some (.float r))) := rfl
  rw [hsem, fPos_nn ha, fPos_nn hb, pick_f ha hb]
  exact ⟨_, rfl⟩
section AXFM
variable {Ω : ax_O} {Γ : ax_F} {y : MethodName} {cc : ByteArray} {nL : Nat} {ret : Option FieldType} {hh : List (Nat × Nat × Nat × Nat)} {d kb nb pc : Nat} {h : ax_H} {ls : List (Option Value)} {rest : List Value}
theorem ax_fmax (G : ax_C Ω Γ y cc nL ret hh d) {idx : Nat} {a b : UInt32} {bytes : ByteArray} {maxL : Nat} (hlink : Cond.methodLink y.cls idx ⟨"java/lang/Math", "max", "(FF)F"⟩ ∈ lw_all) (hstat : Cond.static ⟨"java/lang/Math", "max", "(FF)F"⟩ ∈ lw_all) (hini : Cond.initialized "java/lang/Math" ∈ lw_all) (hcode : Cond.code ⟨"java/lang/Math", "max", "(FF)F"⟩ bytes maxL (some .float) ∈ lw_all) (hm : maxL ≤ 100) (ha : fPos a) (hb : fPos b) (hd : 1 ≤ d) (hr : (rest.map fun v => v.category).sum ≤ 20) (dec : decode cc pc = .ok (.invokestatic idx, 3))
    (kk : ax_W Ω Γ kb nb h (pc + 3) ls (.float (fMax a b) :: rest)) : ax_W Ω Γ kb nb h pc ls (.float b :: .float a :: rest) := by
  intro H locs cells slots L hR hl hL hn g1 g2 T hT X
  have hw := G.2.2.2.2.2.2.2.2.2.1
  have hf := G.2.2.2.2.2.2.2.2.2.2.2
  have hts : ∀ w ∈ lw_all, w.before Γ.2.2.2.2.2.1 Γ.2.2.2.1 = true := fun w hw' => ax_words G.1 hw hw' _
  have hK := ov_back (l := Ω.1) (R := Γ.2.2.1) (p := Γ.1) (e := Γ.2.1) (below := Γ.2.2.2.2.2.2.1) (ovMax_row _) (ovMax_run ha hb) (hts _ hcode) (hts _ hstat) (by omega) (by omega)
  rcases vx_callS X G.2.1 (bytes := bytes) (maxL := maxL) (ret := some .float) G.2.2.2.2.1 (hts _ hlink) (hts _ hstat) (hts _ hini) (hts _ hcode) ⟨by decide, by decide⟩ hK (g := F0 Γ.2.2.2.2.1 pc L (.float b :: .float a :: rest)) rfl (hL.1.trans hn) (argsL := [.float a, .float b]) (rest := rest) (fun sig h => by rw [show parseMethodDescriptor "(FF)F" = some { parameters := [.float, .float], returnType := some .float } from by decide +kernel] at h; cases h; rfl) rfl (by show 2 * 0 + _ ≤ 20; omega) (by rw [G.2.2.1]; exact dec) (fun vm₁ hW₁ => rfl) with ⟨v, vm₁, B, hB1, XB, ⟨hBA, hv⟩, st⟩ | ⟨q, vm₁, B, hB1, XB, hf9, st⟩
  · rw [hv] at st
    rw [hBA] at XB st
    obtain ⟨t, a1, b1⟩ := kk H locs cells slots L hR hl hL hn g1 g2 (T.setVm vm₁) hT XB
    exact ⟨t, st _ a1, b1⟩
  · exact hf9.elim
theorem ax_fmin (G : ax_C Ω Γ y cc nL ret hh d) {idx : Nat} {a b : UInt32} {bytes : ByteArray} {maxL : Nat} (hlink : Cond.methodLink y.cls idx ⟨"java/lang/Math", "min", "(FF)F"⟩ ∈ lw_all) (hstat : Cond.static ⟨"java/lang/Math", "min", "(FF)F"⟩ ∈ lw_all) (hini : Cond.initialized "java/lang/Math" ∈ lw_all) (hcode : Cond.code ⟨"java/lang/Math", "min", "(FF)F"⟩ bytes maxL (some .float) ∈ lw_all) (hm : maxL ≤ 100) (ha : fPos a) (hb : fPos b) (hd : 1 ≤ d) (hr : (rest.map fun v => v.category).sum ≤ 20) (dec : decode cc pc = .ok (.invokestatic idx, 3))
    (kk : ax_W Ω Γ kb nb h (pc + 3) ls (.float (fMinC a b) :: rest)) : ax_W Ω Γ kb nb h pc ls (.float b :: .float a :: rest) := by
  intro H locs cells slots L hR hl hL hn g1 g2 T hT X
  have hw := G.2.2.2.2.2.2.2.2.2.1
  have hf := G.2.2.2.2.2.2.2.2.2.2.2
  have hts : ∀ w ∈ lw_all, w.before Γ.2.2.2.2.2.1 Γ.2.2.2.1 = true := fun w hw' => ax_words G.1 hw hw' _
  have hK := ov_back (l := Ω.1) (R := Γ.2.2.1) (p := Γ.1) (e := Γ.2.1) (below := Γ.2.2.2.2.2.2.1) (ovMin_row _) (ovMin_run ha hb) (hts _ hcode) (hts _ hstat) (by omega) (by omega)
  rcases vx_callS X G.2.1 (bytes := bytes) (maxL := maxL) (ret := some .float) G.2.2.2.2.1 (hts _ hlink) (hts _ hstat) (hts _ hini) (hts _ hcode) ⟨by decide, by decide⟩ hK (g := F0 Γ.2.2.2.2.1 pc L (.float b :: .float a :: rest)) rfl (hL.1.trans hn) (argsL := [.float a, .float b]) (rest := rest) (fun sig h => by rw [show parseMethodDescriptor "(FF)F" = some { parameters := [.float, .float], returnType := some .float } from by decide +kernel] at h; cases h; rfl) rfl (by show 2 * 0 + _ ≤ 20; omega) (by rw [G.2.2.1]; exact dec) (fun vm₁ hW₁ => rfl) with ⟨v, vm₁, B, hB1, XB, ⟨hBA, hv⟩, st⟩ | ⟨q, vm₁, B, hB1, XB, hf9, st⟩
  · rw [hv] at st
    rw [hBA] at XB st
    obtain ⟨t, a1, b1⟩ := kk H locs cells slots L hR hl hL hn g1 g2 (T.setVm vm₁) hT XB
    exact ⟨t, st _ a1, b1⟩
  · exact hf9.elim
end AXFM
