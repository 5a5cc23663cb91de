/-! STATICS: whole numbers that the Statement gives, references that are only carried -/
section AXG
variable {Ω : ax_O} {Γ : ax_F} {y : MethodName} {cc : ByteArray} {nL : Nat} {ret : Option FieldType} {hh : List (Nat × Nat × Nat × Nat)} {d kb nb pc : Nat} {h : ax_H} {ls : List (Option Value)} {rest : List Value}
/-- a static whose value is known at the start and that nobody writes -/
theorem ax_getsZ (G : ax_C Ω Γ y cc nL ret hh d) {idx : Nat} {C n de : String} {v : Value} (hz : va_Z C n de v (ax_A Ω) Ω.2.1 Ω.2.1.heap) (hlink : Cond.fieldLink y.cls idx C n de ∈ lw_all) (dec : decode cc pc = .ok (.getstatic idx, 3))
    (kk : ax_W Ω Γ kb nb h (pc + 3) ls (v :: rest)) : ax_W Ω Γ kb nb h pc ls rest := by
  intro H locs cells slots L hR hl hL hn g1 g2
  have hw := G.2.2.2.2.2.2.2.2.2.1
  have hold := G.2.2.2.2.2.2.2.2.2.2.1
  have hZ : va_Z C n de v (ax_A Ω) Γ.2.2.2.1 Γ.2.2.2.1.heap := va_Z.moved hw.alike (hz.kept fun a h1 _ => hold.2 a h1)
  obtain ⟨cf, kf, fi, f, a, cell, h1, h2, h3, h4, h5, h6, h7, h8⟩ := hZ
  have ha : a < Ω.2.1.heap.size := by
    have h8' : ¬ Ω.2.1.heap.size ≤ a := h8
    omega
  exact W.gets G.2.1 G.2.2.1 G.2.2.2.2.1 (ax_words G.1 hw hlink _) h1 h2 h3 h4 (by rw [hR.2.2.1 a ha, ← hold.2 a ha]; exact h5) (fun e => by rw [e] at h6; cases h6) h7 rfl dec (kk H locs cells slots L hR hl hL hn g1 g2)
theorem ax_zi {Ω : ax_O} (hA : ax_Amb Ω) {C n de : String} {z : Int32} (hl : Cond.laysStatic C n de ∈ lw_tbl) (hi : Cond.initialized C ∈ lw_tbl) (he : (Cond.eq (.static C n de) (.int z)) ∈ flatC (Jvm.Cond.and given_1 narrow_1)) : va_Z C n de (.int z) (ax_A Ω) Ω.2.1 Ω.2.1.heap := by
  obtain ⟨A, h⟩ := hA.2.2.1
  obtain ⟨B, h2⟩ := ax_nar hA he
  exact va_Zof (args := A) (h _ hl) (h _ hi) (va_eqi h2) (fun a ha z => absurd (show Ω.2.1.heap.size ≤ a from z) (by omega))
theorem ax_zq {Ω : ax_O} (hA : ax_Amb Ω) {C n de : String} (hl : Cond.laysStatic C n de ∈ lw_tbl) (hi : Cond.initialized C ∈ lw_tbl) (he : (Cond.isRef (.static C n de)) ∈ flatC (Jvm.Cond.and given_1 narrow_1)) : va_Z C n de .null (ax_A Ω) Ω.2.1 Ω.2.1.heap ∨ ∃ t, va_Z C n de (.ref t) (ax_A Ω) Ω.2.1 Ω.2.1.heap := by
  obtain ⟨A, h⟩ := hA.2.2.1
  obtain ⟨B, h2⟩ := ax_nar hA he
  exact va_Zqof (A := ax_A Ω) (args := A) (h _ hl) (h _ hi) h2 (fun a ha z => absurd (show Ω.2.1.heap.size ≤ a from z) (by omega))
theorem ax_all_tbl {w : Cond} (h : w ∈ lw_all) : w ∈ lw_tbl := (List.mem_filter.mp h).1
theorem zCS {Ω : ax_O} (hA : ax_Amb Ω) : va_Z "java/lang/String" "COMPACT_STRINGS" "Z" (.int 1) (ax_A Ω) Ω.2.1 Ω.2.1.heap := ax_zi hA (z := 1) (by decide +kernel) (by decide +kernel) (by decide +kernel)
theorem zHB {Ω : ax_O} (hA : ax_Amb Ω) : va_Z "java/lang/StringUTF16" "HI_BYTE_SHIFT" "I" (.int 0) (ax_A Ω) Ω.2.1 Ω.2.1.heap := ax_zi hA (z := 0) (by decide +kernel) (by decide +kernel) (by decide +kernel)
theorem zSI {Ω : ax_O} (hA : ax_Amb Ω) : va_Z "jdk/internal/util/Preconditions" "SIOOBE_FORMATTER" "Ljava/util/function/BiFunction;" .null (ax_A Ω) Ω.2.1 Ω.2.1.heap ∨ ∃ t, va_Z "jdk/internal/util/Preconditions" "SIOOBE_FORMATTER" "Ljava/util/function/BiFunction;" (.ref t) (ax_A Ω) Ω.2.1 Ω.2.1.heap := ax_zq hA (by decide +kernel) (by decide +kernel) (by decide +kernel)
end AXG
section AXSU
variable {Ω : ax_O} {Γ : ax_F} {y : MethodName} {cc : ByteArray} {nL : Nat} {ret : Option FieldType} {hh : List (Nat × Nat × Nat × Nat)} {d d' mc ms kb nb pc : Nat} {h h1 : ax_H} {ls : List (Option Value)} {rest As : List Value}
theorem ax_cSU1 (G : ax_C Ω Γ y cc nL ret hh d) {idx ci b : Nat} {fs : List Value} {r : vw_C} {y' : MethodName} {n : Nat} {v : Value} (M : ax_Met Ω y' d' mc ms (.ref b :: As) h (.inl (some v)) h1) (F : ax_lSU y.cls idx y' n) (dec : decode cc pc = .ok (.invokespecial idx, 3)) (hb : h.1 b = some (.inr (ci, fs))) (hc : ax_CL[ci]? = some r) (hn9 : As.length = n) (hd : d' + 1 ≤ d) (hr : (rest.map fun v => v.category).sum ≤ 20) {st : List Value} (hst : st = As.reverse ++ .ref b :: rest)
    (kk : ax_W Ω Γ kb nb h1 (pc + 3) ls (v :: rest)) : ax_W Ω Γ (kb + mc) (nb + ms) h pc ls st := ax_nSU G (N := fun u h' => u = some v ∧ h' = h1) (M.P ⟨_, rfl, rfl, rfl⟩) F dec hb hc hn9 hd hr hst (fun v' h' q => by obtain ⟨rfl, rfl⟩ := q; exact kk)
theorem ax_cSU0 (G : ax_C Ω Γ y cc nL ret hh d) {idx ci b : Nat} {fs : List Value} {r : vw_C} {y' : MethodName} {n : Nat} (M : ax_Met Ω y' d' mc ms (.ref b :: As) h (.inl none) h1) (F : ax_lSU y.cls idx y' n) (dec : decode cc pc = .ok (.invokespecial idx, 3)) (hb : h.1 b = some (.inr (ci, fs))) (hc : ax_CL[ci]? = some r) (hn9 : As.length = n) (hd : d' + 1 ≤ d) (hr : (rest.map fun v => v.category).sum ≤ 20) {st : List Value} (hst : st = As.reverse ++ .ref b :: rest)
    (kk : ax_W Ω Γ kb nb h1 (pc + 3) ls rest) : ax_W Ω Γ (kb + mc) (nb + ms) h pc ls st := ax_nSU G (N := fun u h' => u = none ∧ h' = h1) (M.P ⟨_, rfl, rfl, rfl⟩) F dec hb hc hn9 hd hr hst (fun v' h' q => by obtain ⟨rfl, rfl⟩ := q; exact kk)
theorem ax_cVP1 (G : ax_C Ω Γ y cc nL ret hh d) {idx ci b : Nat} {fs : List Value} {y' : MethodName} {n : Nat} {v : Value} (M : ax_Met Ω y' d' mc ms (.ref b :: As) h (.inl (some v)) h1) (F : ax_lVP y.cls idx ci y' n) (dec : decode cc pc = .ok (.invokevirtual idx, 3)) (hb : h.1 b = some (.inr (ci, fs))) (hn9 : As.length = n) (hd : d' + 1 ≤ d) (hr : (rest.map fun v => v.category).sum ≤ 20) {st : List Value} (hst : st = As.reverse ++ .ref b :: rest)
    (kk : ax_W Ω Γ kb nb h1 (pc + 3) ls (v :: rest)) : ax_W Ω Γ (kb + mc) (nb + ms) h pc ls st := ax_nVP G (N := fun u h' => u = some v ∧ h' = h1) (M.P ⟨_, rfl, rfl, rfl⟩) F dec hb hn9 hd hr hst (fun v' h' q => by obtain ⟨rfl, rfl⟩ := q; exact kk)
theorem ax_cVP0 (G : ax_C Ω Γ y cc nL ret hh d) {idx ci b : Nat} {fs : List Value} {y' : MethodName} {n : Nat} (M : ax_Met Ω y' d' mc ms (.ref b :: As) h (.inl none) h1) (F : ax_lVP y.cls idx ci y' n) (dec : decode cc pc = .ok (.invokevirtual idx, 3)) (hb : h.1 b = some (.inr (ci, fs))) (hn9 : As.length = n) (hd : d' + 1 ≤ d) (hr : (rest.map fun v => v.category).sum ≤ 20) {st : List Value} (hst : st = As.reverse ++ .ref b :: rest)
    (kk : ax_W Ω Γ kb nb h1 (pc + 3) ls rest) : ax_W Ω Γ (kb + mc) (nb + ms) h pc ls st := ax_nVP G (N := fun u h' => u = none ∧ h' = h1) (M.P ⟨_, rfl, rfl, rfl⟩) F dec hb hn9 hd hr hst (fun v' h' q => by obtain ⟨rfl, rfl⟩ := q; exact kk)
end AXSU
