/-! MORE ROWS: numbers that are Nats; ends and calls that return -/
section AXN
variable {Ω : ax_O} {Γ : ax_F} {y : MethodName} {cc : ByteArray} {nL : Nat} {ret : Option FieldType} {hh : List (Nat × Nat × Nat × Nat)} {d d' kb nb mc ms pc : Nat} {h h1 h' : ax_H} {ls : List (Option Value)} {rest As : List Value}
theorem ax_iaddN (G : ax_C Ω Γ y cc nL ret hh d) {a b : Nat} (dec : decode cc pc = .ok (.iadd, 1)) (kk : ax_W Ω Γ kb nb h (pc + 1) ls (.int (nI (a + b)) :: rest)) : ax_W Ω Γ kb nb h pc ls (.int (nI b) :: .int (nI a) :: rest) := ax_iadd G dec (by rw [nI_add]; exact kk)
theorem ax_imulN (G : ax_C Ω Γ y cc nL ret hh d) {a b : Nat} (dec : decode cc pc = .ok (.imul, 1)) (kk : ax_W Ω Γ kb nb h (pc + 1) ls (.int (nI (a * b)) :: rest)) : ax_W Ω Γ kb nb h pc ls (.int (nI b) :: .int (nI a) :: rest) := ax_imul G dec (by rw [pk_mul]; exact kk)
theorem ax_isubN (G : ax_C Ω Γ y cc nL ret hh d) {a b : Nat} (dec : decode cc pc = .ok (.isub, 1)) (hab : b ≤ a) (kk : ax_W Ω Γ kb nb h (pc + 1) ls (.int (nI (a - b)) :: rest)) : ax_W Ω Γ kb nb h pc ls (.int (nI b) :: .int (nI a) :: rest) := ax_isub G dec (by rw [pk_sub hab]; exact kk)
theorem ax_iincN (G : ax_C Ω Γ y cc nL ret hh d) {i n a : Nat} (dec : decode cc pc = .ok (.iinc i (n : Int), 3)) (hv : ls[i]? = some (some (.int (nI a)))) (hp : ax_ok ls i = true) (he : Int32.ofInt (n : Int) = nI n) (kk : ax_W Ω Γ kb nb h (pc + 3) (ls.set i (some (.int (nI (a + n))))) rest) : ax_W Ω Γ kb nb h pc ls rest := ax_iinc G dec hv (by rw [he, nI_add]) hp kk
theorem ax_icmp_ltN (G : ax_C Ω Γ y cc nL ret hh d) {a b : Nat} {off : Int} {tgt : Nat} (dec : decode cc pc = .ok (.if_icmp .lt off, 3)) (ht : (pc : Int) + off = (tgt : Int)) (ha : a < 2 ^ 31) (hb : b < 2 ^ 31) (kt : a < b → ax_W Ω Γ kb nb h tgt ls rest) (kf : b ≤ a → ax_W Ω Γ kb nb h (pc + 3) ls rest) : ax_W Ω Γ kb nb h pc ls (.int (nI b) :: .int (nI a) :: rest) :=
  ax_icmp_lt G dec ht (fun c => kt ((nI_ltI ha hb).mp c)) (fun c => kf (Nat.not_lt.mp fun z => c ((nI_ltI ha hb).mpr z)))
theorem ax_icmp_geN (G : ax_C Ω Γ y cc nL ret hh d) {a b : Nat} {off : Int} {tgt : Nat} (dec : decode cc pc = .ok (.if_icmp .ge off, 3)) (ht : (pc : Int) + off = (tgt : Int)) (ha : a < 2 ^ 31) (hb : b < 2 ^ 31) (kt : b ≤ a → ax_W Ω Γ kb nb h tgt ls rest) (kf : a < b → ax_W Ω Γ kb nb h (pc + 3) ls rest) : ax_W Ω Γ kb nb h pc ls (.int (nI b) :: .int (nI a) :: rest) :=
  ax_icmp_ge G dec ht (fun c => kt ((nI_leI hb ha).mp c)) (fun c => kf (Nat.not_le.mp fun z => c ((nI_leI hb ha).mpr z)))
theorem ax_icmp_gtN (G : ax_C Ω Γ y cc nL ret hh d) {a b : Nat} {off : Int} {tgt : Nat} (dec : decode cc pc = .ok (.if_icmp .gt off, 3)) (ht : (pc : Int) + off = (tgt : Int)) (ha : a < 2 ^ 31) (hb : b < 2 ^ 31) (kt : b < a → ax_W Ω Γ kb nb h tgt ls rest) (kf : a ≤ b → ax_W Ω Γ kb nb h (pc + 3) ls rest) : ax_W Ω Γ kb nb h pc ls (.int (nI b) :: .int (nI a) :: rest) :=
  ax_icmp_gt G dec ht (fun c => kt ((nI_ltI hb ha).mp c)) (fun c => kf (Nat.not_lt.mp fun z => c ((nI_ltI hb ha).mpr z)))
theorem ax_icmp_leN (G : ax_C Ω Γ y cc nL ret hh d) {a b : Nat} {off : Int} {tgt : Nat} (dec : decode cc pc = .ok (.if_icmp .le off, 3)) (ht : (pc : Int) + off = (tgt : Int)) (ha : a < 2 ^ 31) (hb : b < 2 ^ 31) (kt : a ≤ b → ax_W Ω Γ kb nb h tgt ls rest) (kf : b < a → ax_W Ω Γ kb nb h (pc + 3) ls rest) : ax_W Ω Γ kb nb h pc ls (.int (nI b) :: .int (nI a) :: rest) :=
  ax_icmp_le G dec ht (fun c => kt ((nI_leI ha hb).mp c)) (fun c => kf (Nat.not_le.mp fun z => c ((nI_leI ha hb).mpr z)))
theorem ax_icmp_eqN (G : ax_C Ω Γ y cc nL ret hh d) {a b : Nat} {off : Int} {tgt : Nat} (dec : decode cc pc = .ok (.if_icmp .eq off, 3)) (ht : (pc : Int) + off = (tgt : Int)) (ha : a < 2 ^ 31) (hb : b < 2 ^ 31) (kt : a = b → ax_W Ω Γ kb nb h tgt ls rest) (kf : a ≠ b → ax_W Ω Γ kb nb h (pc + 3) ls rest) : ax_W Ω Γ kb nb h pc ls (.int (nI b) :: .int (nI a) :: rest) :=
  ax_icmp_eq G dec ht (fun c => kt ((nI_eq ha hb).mp c)) (fun c => kf fun z => c ((nI_eq ha hb).mpr z))
theorem ax_icmp_neN (G : ax_C Ω Γ y cc nL ret hh d) {a b : Nat} {off : Int} {tgt : Nat} (dec : decode cc pc = .ok (.if_icmp .ne off, 3)) (ht : (pc : Int) + off = (tgt : Int)) (ha : a < 2 ^ 31) (hb : b < 2 ^ 31) (kt : a ≠ b → ax_W Ω Γ kb nb h tgt ls rest) (kf : a = b → ax_W Ω Γ kb nb h (pc + 3) ls rest) : ax_W Ω Γ kb nb h pc ls (.int (nI b) :: .int (nI a) :: rest) :=
  ax_icmp_ne G dec ht (fun c => kt fun z => c ((nI_eq ha hb).mpr z)) (fun c => kf ((nI_eq ha hb).mp c))
theorem ax_iretE (G : ax_C Ω Γ y cc nL ret hh d) {v w : Int32} {ty : FieldType} (E : ax_Done Ω Γ (.inl (some (.int w))) h') (hr : ret = some ty) (hn : narrow ty (.int v) = .int v) (dec : decode cc pc = .ok (.ireturn, 1)) (hv : v = w) (hh9 : h = h') : ax_W Ω Γ kb nb h pc ls [.int v] := by
  subst hv hh9; exact ax_ireturn G E hr hn dec
theorem ax_vretE (G : ax_C Ω Γ y cc nL ret hh d) (E : ax_Done Ω Γ (.inl none) h') (hr : ret = none) (dec : decode cc pc = .ok (.return_, 1)) (hh9 : h = h') : ax_W Ω Γ kb nb h pc ls [] := by
  subst hh9; exact ax_return G E hr dec
theorem ax_fretE (G : ax_C Ω Γ y cc nL ret hh d) {v w : UInt32} (E : ax_Done Ω Γ (.inl (some (.float w))) h') (hr : ret = some .float) (dec : decode cc pc = .ok (.freturn, 1)) (hv : v = w) (hh9 : h = h') : ax_W Ω Γ kb nb h pc ls [.float v] := by
  subst hv hh9; exact ax_freturn G E hr dec
theorem ax_cV (G : ax_C Ω Γ y cc nL ret hh d) {idx ci b : Nat} {fs : List Value} {y' : MethodName} {n : Nat} {v : Option Value} (M : ax_Met Ω y' d' mc ms (.ref b :: As) h (.inl v) h1) (F : ax_lV y.cls idx ci y' n) (dec : decode cc pc = .ok (.invokevirtual idx, 3)) (hb : h.1 b = some (.inr (ci, fs))) (hn9 : As.length = n) (hd : d' + 1 ≤ d) (hr : (rest.map fun v => v.category).sum ≤ 20) {st : List Value} (hst : st = As.reverse ++ .ref b :: rest)
    (kk : ax_W Ω Γ kb nb h1 (pc + 3) ls (v.toList ++ rest)) : ax_W Ω Γ (kb + mc) (nb + ms) h pc ls st := ax_callV G M F dec hb hn9 hd hr hst (fun v' e => by cases e; exact kk) (fun q e => by cases e)
theorem ax_cVN (G : ax_C Ω Γ y cc nL ret hh d) {idx ci b : Nat} {fs : List Value} {y' : MethodName} {n : Nat} {v : Option Value} (M : ax_Met Ω y' d' mc ms (.ref b :: As) h (.inl v) h1) (F : ax_lVN y.cls idx ci y' n) (dec : decode cc pc = .ok (.invokevirtual idx, 3)) (hb : h.1 b = some (.inr (ci, fs))) (hn9 : As.length = n) (hd : d' + 1 ≤ d) (hr : (rest.map fun v => v.category).sum ≤ 20) {st : List Value} (hst : st = As.reverse ++ .ref b :: rest)
    (kk : ax_W Ω Γ kb nb h1 (pc + 3) ls (v.toList ++ rest)) : ax_W Ω Γ (kb + mc) (nb + ms) h pc ls st := ax_callVN G M F dec hb hn9 hd hr hst (fun v' e => by cases e; exact kk) (fun q e => by cases e)
theorem ax_cVU (G : ax_C Ω Γ y cc nL ret hh d) {idx ci b : Nat} {fs : List Value} {x y' : MethodName} {owner : String} {n : Nat} {v : Option Value} (M : ax_Met Ω y' d' mc ms (.ref b :: As) h (.inl v) h1) (F : ax_lVU y.cls idx ci x owner y' n) (dec : decode cc pc = .ok (.invokevirtual idx, 3)) (hb : h.1 b = some (.inr (ci, fs))) (hn9 : As.length = n) (hd : d' + 1 ≤ d) (hr : (rest.map fun v => v.category).sum ≤ 20) {st : List Value} (hst : st = As.reverse ++ .ref b :: rest)
    (kk : ax_W Ω Γ kb nb h1 (pc + 3) ls (v.toList ++ rest)) : ax_W Ω Γ (kb + mc) (nb + ms) h pc ls st := ax_callVU G M F dec hb hn9 hd hr hst (fun v' e => by cases e; exact kk) (fun q e => by cases e)
theorem ax_cF (G : ax_C Ω Γ y cc nL ret hh d) {idx cnt ci b : Nat} {fs : List Value} {x y' : MethodName} {n : Nat} {v : Option Value} (M : ax_Met Ω y' d' mc ms (.ref b :: As) h (.inl v) h1) (F : ax_lF y.cls idx ci x y' n) (dec : decode cc pc = .ok (.invokeinterface idx cnt, 5)) (hb : h.1 b = some (.inr (ci, fs))) (hn9 : As.length = n) (hd : d' + 1 ≤ d) (hr : (rest.map fun v => v.category).sum ≤ 20) {st : List Value} (hst : st = As.reverse ++ .ref b :: rest)
    (kk : ax_W Ω Γ kb nb h1 (pc + 5) ls (v.toList ++ rest)) : ax_W Ω Γ (kb + mc) (nb + ms) h pc ls st := ax_callF G M F dec hb hn9 hd hr hst (fun v' e => by cases e; exact kk) (fun q e => by cases e)
theorem ax_cS (G : ax_C Ω Γ y cc nL ret hh d) {idx : Nat} {y' : MethodName} {n : Nat} {v : Option Value} (M : ax_Met Ω y' d' mc ms As h (.inl v) h1) (F : ax_lS y.cls idx y' n) (dec : decode cc pc = .ok (.invokestatic idx, 3)) (hn9 : As.length = n) (hd : d' + 1 ≤ d) (hr : (rest.map fun v => v.category).sum ≤ 20) {st : List Value} (hst : st = As.reverse ++ rest)
    (kk : ax_W Ω Γ kb nb h1 (pc + 3) ls (v.toList ++ rest)) : ax_W Ω Γ (kb + mc) (nb + ms) h pc ls st := ax_callS G M F dec hn9 hd hr hst (fun v' e => by cases e; exact kk) (fun q e => by cases e)
theorem ax_cSN (G : ax_C Ω Γ y cc nL ret hh d) {idx : Nat} {y' : MethodName} {n : Nat} {v : Option Value} (M : ax_Met Ω y' d' mc ms As h (.inl v) h1) (F : ax_lSN y.cls idx y' n) (dec : decode cc pc = .ok (.invokestatic idx, 3)) (hn9 : As.length = n) (hd : d' + 1 ≤ d) (hr : (rest.map fun v => v.category).sum ≤ 20) {st : List Value} (hst : st = As.reverse ++ rest)
    (kk : ax_W Ω Γ kb nb h1 (pc + 3) ls (v.toList ++ rest)) : ax_W Ω Γ (kb + mc) (nb + ms) h pc ls st := ax_callSN G M F dec hn9 hd hr hst (fun v' e => by cases e; exact kk) (fun q e => by cases e)
theorem ax_cI (G : ax_C Ω Γ y cc nL ret hh d) {idx b : Nat} {y' : MethodName} {n : Nat} {v : Option Value} (M : ax_Met Ω y' d' mc ms (.ref b :: As) h (.inl v) h1) (F : ax_lI y.cls idx y' n) (dec : decode cc pc = .ok (.invokespecial idx, 3)) (hn9 : As.length = n) (hd : d' + 1 ≤ d) (hr : (rest.map fun v => v.category).sum ≤ 20) {st : List Value} (hst : st = As.reverse ++ .ref b :: rest)
    (kk : ax_W Ω Γ kb nb h1 (pc + 3) ls (v.toList ++ rest)) : ax_W Ω Γ (kb + mc) (nb + ms) h pc ls st := ax_callI G M F dec hn9 hd hr hst (fun v' e => by cases e; exact kk) (fun q e => by cases e)
theorem ax_cIN (G : ax_C Ω Γ y cc nL ret hh d) {idx b : Nat} {y' : MethodName} {n : Nat} {v : Option Value} (M : ax_Met Ω y' d' mc ms (.ref b :: As) h (.inl v) h1) (F : ax_lIN y.cls idx y' n) (dec : decode cc pc = .ok (.invokespecial idx, 3)) (hn9 : As.length = n) (hd : d' + 1 ≤ d) (hr : (rest.map fun v => v.category).sum ≤ 20) {st : List Value} (hst : st = As.reverse ++ .ref b :: rest)
    (kk : ax_W Ω Γ kb nb h1 (pc + 3) ls (v.toList ++ rest)) : ax_W Ω Γ (kb + mc) (nb + ms) h pc ls st := ax_callIN G M F dec hn9 hd hr hst (fun v' e => by cases e; exact kk) (fun q e => by cases e)
theorem ax_cV1 (G : ax_C Ω Γ y cc nL ret hh d) {idx ci b : Nat} {fs : List Value} {y' : MethodName} {n : Nat} {v : Value} (M : ax_Met Ω y' d' mc ms (.ref b :: As) h (.inl (some v)) h1) (F : ax_lV y.cls idx ci y' n) (dec : decode cc pc = .ok (.invokevirtual idx, 3)) (hb : h.1 b = some (.inr (ci, fs))) (hn9 : As.length = n) (hd : d' + 1 ≤ d) (hr : (rest.map fun v => v.category).sum ≤ 20) {st : List Value} (hst : st = As.reverse ++ .ref b :: rest)
    (kk : ax_W Ω Γ kb nb h1 (pc + 3) ls (v :: rest)) : ax_W Ω Γ (kb + mc) (nb + ms) h pc ls st := ax_cV G M F dec hb hn9 hd hr hst kk
theorem ax_cV0 (G : ax_C Ω Γ y cc nL ret hh d) {idx ci b : Nat} {fs : List Value} {y' : MethodName} {n : Nat} (M : ax_Met Ω y' d' mc ms (.ref b :: As) h (.inl none) h1) (F : ax_lV y.cls idx ci y' n) (dec : decode cc pc = .ok (.invokevirtual idx, 3)) (hb : h.1 b = some (.inr (ci, fs))) (hn9 : As.length = n) (hd : d' + 1 ≤ d) (hr : (rest.map fun v => v.category).sum ≤ 20) {st : List Value} (hst : st = As.reverse ++ .ref b :: rest)
    (kk : ax_W Ω Γ kb nb h1 (pc + 3) ls rest) : ax_W Ω Γ (kb + mc) (nb + ms) h pc ls st := ax_cV G M F dec hb hn9 hd hr hst kk
theorem ax_cVN1 (G : ax_C Ω Γ y cc nL ret hh d) {idx ci b : Nat} {fs : List Value} {y' : MethodName} {n : Nat} {v : Value} (M : ax_Met Ω y' d' mc ms (.ref b :: As) h (.inl (some v)) h1) (F : ax_lVN y.cls idx ci y' n) (dec : decode cc pc = .ok (.invokevirtual idx, 3)) (hb : h.1 b = some (.inr (ci, fs))) (hn9 : As.length = n) (hd : d' + 1 ≤ d) (hr : (rest.map fun v => v.category).sum ≤ 20) {st : List Value} (hst : st = As.reverse ++ .ref b :: rest)
    (kk : ax_W Ω Γ kb nb h1 (pc + 3) ls (v :: rest)) : ax_W Ω Γ (kb + mc) (nb + ms) h pc ls st := ax_cVN G M F dec hb hn9 hd hr hst kk
theorem ax_cVN0 (G : ax_C Ω Γ y cc nL ret hh d) {idx ci b : Nat} {fs : List Value} {y' : MethodName} {n : Nat} (M : ax_Met Ω y' d' mc ms (.ref b :: As) h (.inl none) h1) (F : ax_lVN y.cls idx ci y' n) (dec : decode cc pc = .ok (.invokevirtual idx, 3)) (hb : h.1 b = some (.inr (ci, fs))) (hn9 : As.length = n) (hd : d' + 1 ≤ d) (hr : (rest.map fun v => v.category).sum ≤ 20) {st : List Value} (hst : st = As.reverse ++ .ref b :: rest)
    (kk : ax_W Ω Γ kb nb h1 (pc + 3) ls rest) : ax_W Ω Γ (kb + mc) (nb + ms) h pc ls st := ax_cVN G M F dec hb hn9 hd hr hst kk
theorem ax_cVU1 (G : ax_C Ω Γ y cc nL ret hh d) {idx ci b : Nat} {fs : List Value} {x y' : MethodName} {owner : String} {n : Nat} {v : Value} (M : ax_Met Ω y' d' mc ms (.ref b :: As) h (.inl (some v)) h1) (F : ax_lVU y.cls idx ci x owner y' n) (dec : decode cc pc = .ok (.invokevirtual idx, 3)) (hb : h.1 b = some (.inr (ci, fs))) (hn9 : As.length = n) (hd : d' + 1 ≤ d) (hr : (rest.map fun v => v.category).sum ≤ 20) {st : List Value} (hst : st = As.reverse ++ .ref b :: rest)
    (kk : ax_W Ω Γ kb nb h1 (pc + 3) ls (v :: rest)) : ax_W Ω Γ (kb + mc) (nb + ms) h pc ls st := ax_cVU G M F dec hb hn9 hd hr hst kk
theorem ax_cVU0 (G : ax_C Ω Γ y cc nL ret hh d) {idx ci b : Nat} {fs : List Value} {x y' : MethodName} {owner : String} {n : Nat} (M : ax_Met Ω y' d' mc ms (.ref b :: As) h (.inl none) h1) (F : ax_lVU y.cls idx ci x owner y' n) (dec : decode cc pc = .ok (.invokevirtual idx, 3)) (hb : h.1 b = some (.inr (ci, fs))) (hn9 : As.length = n) (hd : d' + 1 ≤ d) (hr : (rest.map fun v => v.category).sum ≤ 20) {st : List Value} (hst : st = As.reverse ++ .ref b :: rest)
    (kk : ax_W Ω Γ kb nb h1 (pc + 3) ls rest) : ax_W Ω Γ (kb + mc) (nb + ms) h pc ls st := ax_cVU G M F dec hb hn9 hd hr hst kk
theorem ax_cF1 (G : ax_C Ω Γ y cc nL ret hh d) {idx cnt ci b : Nat} {fs : List Value} {x y' : MethodName} {n : Nat} {v : Value} (M : ax_Met Ω y' d' mc ms (.ref b :: As) h (.inl (some v)) h1) (F : ax_lF y.cls idx ci x y' n) (dec : decode cc pc = .ok (.invokeinterface idx cnt, 5)) (hb : h.1 b = some (.inr (ci, fs))) (hn9 : As.length = n) (hd : d' + 1 ≤ d) (hr : (rest.map fun v => v.category).sum ≤ 20) {st : List Value} (hst : st = As.reverse ++ .ref b :: rest)
    (kk : ax_W Ω Γ kb nb h1 (pc + 5) ls (v :: rest)) : ax_W Ω Γ (kb + mc) (nb + ms) h pc ls st := ax_cF G M F dec hb hn9 hd hr hst kk
theorem ax_cF0 (G : ax_C Ω Γ y cc nL ret hh d) {idx cnt ci b : Nat} {fs : List Value} {x y' : MethodName} {n : Nat} (M : ax_Met Ω y' d' mc ms (.ref b :: As) h (.inl none) h1) (F : ax_lF y.cls idx ci x y' n) (dec : decode cc pc = .ok (.invokeinterface idx cnt, 5)) (hb : h.1 b = some (.inr (ci, fs))) (hn9 : As.length = n) (hd : d' + 1 ≤ d) (hr : (rest.map fun v => v.category).sum ≤ 20) {st : List Value} (hst : st = As.reverse ++ .ref b :: rest)
    (kk : ax_W Ω Γ kb nb h1 (pc + 5) ls rest) : ax_W Ω Γ (kb + mc) (nb + ms) h pc ls st := ax_cF G M F dec hb hn9 hd hr hst kk
theorem ax_cS1 (G : ax_C Ω Γ y cc nL ret hh d) {idx : Nat} {y' : MethodName} {n : Nat} {v : Value} (M : ax_Met Ω y' d' mc ms As h (.inl (some v)) h1) (F : ax_lS y.cls idx y' n) (dec : decode cc pc = .ok (.invokestatic idx, 3)) (hn9 : As.length = n) (hd : d' + 1 ≤ d) (hr : (rest.map fun v => v.category).sum ≤ 20) {st : List Value} (hst : st = As.reverse ++ rest)
    (kk : ax_W Ω Γ kb nb h1 (pc + 3) ls (v :: rest)) : ax_W Ω Γ (kb + mc) (nb + ms) h pc ls st := ax_cS G M F dec hn9 hd hr hst kk
theorem ax_cS0 (G : ax_C Ω Γ y cc nL ret hh d) {idx : Nat} {y' : MethodName} {n : Nat} (M : ax_Met Ω y' d' mc ms As h (.inl none) h1) (F : ax_lS y.cls idx y' n) (dec : decode cc pc = .ok (.invokestatic idx, 3)) (hn9 : As.length = n) (hd : d' + 1 ≤ d) (hr : (rest.map fun v => v.category).sum ≤ 20) {st : List Value} (hst : st = As.reverse ++ rest)
    (kk : ax_W Ω Γ kb nb h1 (pc + 3) ls rest) : ax_W Ω Γ (kb + mc) (nb + ms) h pc ls st := ax_cS G M F dec hn9 hd hr hst kk
theorem ax_cSN1 (G : ax_C Ω Γ y cc nL ret hh d) {idx : Nat} {y' : MethodName} {n : Nat} {v : Value} (M : ax_Met Ω y' d' mc ms As h (.inl (some v)) h1) (F : ax_lSN y.cls idx y' n) (dec : decode cc pc = .ok (.invokestatic idx, 3)) (hn9 : As.length = n) (hd : d' + 1 ≤ d) (hr : (rest.map fun v => v.category).sum ≤ 20) {st : List Value} (hst : st = As.reverse ++ rest)
    (kk : ax_W Ω Γ kb nb h1 (pc + 3) ls (v :: rest)) : ax_W Ω Γ (kb + mc) (nb + ms) h pc ls st := ax_cSN G M F dec hn9 hd hr hst kk
theorem ax_cSN0 (G : ax_C Ω Γ y cc nL ret hh d) {idx : Nat} {y' : MethodName} {n : Nat} (M : ax_Met Ω y' d' mc ms As h (.inl none) h1) (F : ax_lSN y.cls idx y' n) (dec : decode cc pc = .ok (.invokestatic idx, 3)) (hn9 : As.length = n) (hd : d' + 1 ≤ d) (hr : (rest.map fun v => v.category).sum ≤ 20) {st : List Value} (hst : st = As.reverse ++ rest)
    (kk : ax_W Ω Γ kb nb h1 (pc + 3) ls rest) : ax_W Ω Γ (kb + mc) (nb + ms) h pc ls st := ax_cSN G M F dec hn9 hd hr hst kk
theorem ax_cI1 (G : ax_C Ω Γ y cc nL ret hh d) {idx b : Nat} {y' : MethodName} {n : Nat} {v : Value} (M : ax_Met Ω y' d' mc ms (.ref b :: As) h (.inl (some v)) h1) (F : ax_lI y.cls idx y' n) (dec : decode cc pc = .ok (.invokespecial idx, 3)) (hn9 : As.length = n) (hd : d' + 1 ≤ d) (hr : (rest.map fun v => v.category).sum ≤ 20) {st : List Value} (hst : st = As.reverse ++ .ref b :: rest)
    (kk : ax_W Ω Γ kb nb h1 (pc + 3) ls (v :: rest)) : ax_W Ω Γ (kb + mc) (nb + ms) h pc ls st := ax_cI G M F dec hn9 hd hr hst kk
theorem ax_cI0 (G : ax_C Ω Γ y cc nL ret hh d) {idx b : Nat} {y' : MethodName} {n : Nat} (M : ax_Met Ω y' d' mc ms (.ref b :: As) h (.inl none) h1) (F : ax_lI y.cls idx y' n) (dec : decode cc pc = .ok (.invokespecial idx, 3)) (hn9 : As.length = n) (hd : d' + 1 ≤ d) (hr : (rest.map fun v => v.category).sum ≤ 20) {st : List Value} (hst : st = As.reverse ++ .ref b :: rest)
    (kk : ax_W Ω Γ kb nb h1 (pc + 3) ls rest) : ax_W Ω Γ (kb + mc) (nb + ms) h pc ls st := ax_cI G M F dec hn9 hd hr hst kk
theorem ax_cIN1 (G : ax_C Ω Γ y cc nL ret hh d) {idx b : Nat} {y' : MethodName} {n : Nat} {v : Value} (M : ax_Met Ω y' d' mc ms (.ref b :: As) h (.inl (some v)) h1) (F : ax_lIN y.cls idx y' n) (dec : decode cc pc = .ok (.invokespecial idx, 3)) (hn9 : As.length = n) (hd : d' + 1 ≤ d) (hr : (rest.map fun v => v.category).sum ≤ 20) {st : List Value} (hst : st = As.reverse ++ .ref b :: rest)
    (kk : ax_W Ω Γ kb nb h1 (pc + 3) ls (v :: rest)) : ax_W Ω Γ (kb + mc) (nb + ms) h pc ls st := ax_cIN G M F dec hn9 hd hr hst kk
theorem ax_cIN0 (G : ax_C Ω Γ y cc nL ret hh d) {idx b : Nat} {y' : MethodName} {n : Nat} (M : ax_Met Ω y' d' mc ms (.ref b :: As) h (.inl none) h1) (F : ax_lIN y.cls idx y' n) (dec : decode cc pc = .ok (.invokespecial idx, 3)) (hn9 : As.length = n) (hd : d' + 1 ≤ d) (hr : (rest.map fun v => v.category).sum ≤ 20) {st : List Value} (hst : st = As.reverse ++ .ref b :: rest)
    (kk : ax_W Ω Γ kb nb h1 (pc + 3) ls rest) : ax_W Ω Γ (kb + mc) (nb + ms) h pc ls st := ax_cIN G M F dec hn9 hd hr hst kk
/-! Math, by the library's contracts -/
theorem ax_max (G : ax_C Ω Γ y cc nL ret hh d) {idx : Nat} (hlink : Cond.methodLink y.cls idx Lib.Math.max.name ∈ lw_all) (hstat : Cond.static Lib.Math.max.name ∈ lw_all) (hini : Cond.initialized "java/lang/Math" ∈ lw_all) (hcode : Cond.code Lib.Math.max.name Lib.Math.max.code 2 (some .int) ∈ lw_all) (hd : 1 ≤ d) (hr : (rest.map fun v => v.category).sum ≤ 20) {x z : Int32} (dec : decode cc pc = .ok (.invokestatic idx, 3))
    (kk : ax_W Ω Γ kb nb h (pc + 3) ls (.int (if x < z then z else x) :: rest)) : ax_W Ω Γ kb nb h pc ls (.int z :: .int x :: rest) := by
  intro H locs cells slots L hR hl hL hn g1 g2
  have hts : ∀ w ∈ lw_all, w.before Γ.2.2.2.2.2.1 Γ.2.2.2.1 = true := fun w hw' => ax_words G.1 G.2.2.2.2.2.2.2.2.2.1 hw' _
  have hf := G.2.2.2.2.2.2.2.2.2.2.2
  exact va_mmax G.2.1 G.2.2.1 (hn.symm.trans hL.1.symm) G.2.2.2.2.1 (hts _ hlink) (hts _ hstat) (hts _ hini) (hts _ hcode) (by omega) (by omega) (by omega) (by omega) dec (kk H locs cells slots L hR hl hL hn g1 g2)
theorem ax_min (G : ax_C Ω Γ y cc nL ret hh d) {idx : Nat} (hlink : Cond.methodLink y.cls idx Lib.Math.min.name ∈ lw_all) (hstat : Cond.static Lib.Math.min.name ∈ lw_all) (hini : Cond.initialized "java/lang/Math" ∈ lw_all) (hcode : Cond.code Lib.Math.min.name Lib.Math.min.code 2 (some .int) ∈ lw_all) (hd : 1 ≤ d) (hr : (rest.map fun v => v.category).sum ≤ 20) {x z : Int32} (dec : decode cc pc = .ok (.invokestatic idx, 3))
    (kk : ax_W Ω Γ kb nb h (pc + 3) ls (.int (if z < x then z else x) :: rest)) : ax_W Ω Γ kb nb h pc ls (.int z :: .int x :: rest) := by
  intro H locs cells slots L hR hl hL hn g1 g2
  have hts : ∀ w ∈ lw_all, w.before Γ.2.2.2.2.2.1 Γ.2.2.2.1 = true := fun w hw' => ax_words G.1 G.2.2.2.2.2.2.2.2.2.1 hw' _
  have hf := G.2.2.2.2.2.2.2.2.2.2.2
  exact va_mmin G.2.1 G.2.2.1 (hn.symm.trans hL.1.symm) G.2.2.2.2.1 (hts _ hlink) (hts _ hstat) (hts _ hini) (hts _ hcode) (by omega) (by omega) (by omega) (by omega) dec (kk H locs cells slots L hR hl hL hn g1 g2)
theorem ax_abs (G : ax_C Ω Γ y cc nL ret hh d) {idx : Nat} (hlink : Cond.methodLink y.cls idx Lib.Math.abs.name ∈ lw_all) (hstat : Cond.static Lib.Math.abs.name ∈ lw_all) (hini : Cond.initialized "java/lang/Math" ∈ lw_all) (hcode : Cond.code Lib.Math.abs.name Lib.Math.abs.code 1 (some .int) ∈ lw_all) (hd : 1 ≤ d) (hr : (rest.map fun v => v.category).sum ≤ 20) {x : Int32} (dec : decode cc pc = .ok (.invokestatic idx, 3))
    (kk : ax_W Ω Γ kb nb h (pc + 3) ls (.int (if 0 ≤ x then x else 0 - x) :: rest)) : ax_W Ω Γ kb nb h pc ls (.int x :: rest) := by
  intro H locs cells slots L hR hl hL hn g1 g2
  have hts : ∀ w ∈ lw_all, w.before Γ.2.2.2.2.2.1 Γ.2.2.2.1 = true := fun w hw' => ax_words G.1 G.2.2.2.2.2.2.2.2.2.1 hw' _
  have hf := G.2.2.2.2.2.2.2.2.2.2.2
  exact va_mabs G.2.1 G.2.2.1 (hn.symm.trans hL.1.symm) G.2.2.2.2.1 (hts _ hlink) (hts _ hstat) (hts _ hini) (hts _ hcode) (by omega) (by omega) (by omega) (by omega) dec (kk H locs cells slots L hR hl hL hn g1 g2)
end AXN
/-! THE MODEL's HEAP: an object at m, its rows at m + 1 .. m + 10 -/
abbrev md_S : Type := (Nat → Int32) × (Nat → Nat → Int32)
def md_len (j : Nat) : Nat := match j with
  | 1 => 1000
  | 2 => 235
  | 3 => 235
  | 4 => 627
  | 5 => 627
  | 6 => 627
  | 7 => 5016
  | 8 => 1254
  | 9 => 2
  | _ => 80
def md_ty (j : Nat) : FieldType := match j with
  | 9 => .boolean
  | _ => .int
def md_F (m : Nat) (μ : md_S) : List Value := [.int (μ.1 0), .ref (m + 1), .int (μ.1 2), .int (μ.1 3), .int (μ.1 4), .int (μ.1 5), .int (μ.1 6), .int (μ.1 7), .int (μ.1 8), .int (μ.1 9), .ref (m + 2), .ref (m + 3), .ref (m + 4), .ref (m + 5), .ref (m + 6), .ref (m + 7), .ref (m + 8), .ref (m + 9), .int (μ.1 18), .int (μ.1 19), .int (μ.1 20), .int (μ.1 21), .int (μ.1 22), .ref (m + 10), .int (μ.1 24)]
def md_H (h : ax_H) (m : Nat) (μ : md_S) : ax_H := (fun q => if q = m then some (.inr (8, md_F m μ)) else if m < q ∧ q ≤ m + 10 then some (.inl (md_ty (q - m), md_len (q - m), .inl (μ.2 (q - m)))) else h.1 q, h.2)
def md_si (μ : md_S) (k : Nat) (v : Int32) : md_S := (upd μ.1 k v, μ.2)
def md_sa (μ : md_S) (j : Nat) (f : Nat → Int32) : md_S := (μ.1, va_up μ.2 j f)
theorem md_obj {h : ax_H} {m : Nat} {μ : md_S} : (md_H h m μ).1 m = some (.inr (8, md_F m μ)) := if_pos rfl
theorem md_arr {h : ax_H} {m : Nat} {μ : md_S} {j : Nat} (h1 : 1 ≤ j) (h2 : j ≤ 10) : (md_H h m μ).1 (m + j) = some (.inl (md_ty j, md_len j, .inl (μ.2 j))) := by
  show (if m + j = m then _ else _) = _
  rw [if_neg (by omega), if_pos ⟨by omega, by omega⟩, Nat.add_sub_cancel_left]
theorem md_seti {h : ax_H} {m : Nat} {μ : md_S} {k : Nat} {v : Int32} (hk : (md_F m μ).set k (.int v) = md_F m (md_si μ k v)) : ax_set (md_H h m μ) m (.inr (8, (md_F m μ).set k (.int v))) = md_H h m (md_si μ k v) := by
  rw [hk]
  unfold ax_set md_H md_si
  congr 1
  funext q
  by_cases e : q = m <;> simp [e]
theorem md_seta {h : ax_H} {m : Nat} {μ : md_S} {j : Nat} {f : Nat → Int32} (h1 : 1 ≤ j) (h2 : j ≤ 10) : ax_set (md_H h m μ) (m + j) (.inl (md_ty j, md_len j, .inl f)) = md_H h m (md_sa μ j f) := by
  unfold ax_set md_H md_sa
  congr 1
  funext q
  dsimp only
  by_cases e : q = m + j
  · subst e
    simp only [if_true]
    rw [if_neg (by omega), if_pos ⟨by omega, by omega⟩, Nat.add_sub_cancel_left]
    simp [va_up]
  · rw [if_neg e]
    by_cases e0 : q = m
    · rw [if_pos e0, if_pos e0]; rfl
    · rw [if_neg e0, if_neg e0]
      by_cases e1 : m < q ∧ q ≤ m + 10
      · rw [if_pos e1, if_pos e1, va_up_ne _ _ (by omega)]
      · rw [if_neg e1, if_neg e1]
section MD
variable {Ω : ax_O} {Γ : ax_F} {y : MethodName} {cc : ByteArray} {nL : Nat} {ret : Option FieldType} {hh : List (Nat × Nat × Nat × Nat)} {d kb nb pc : Nat} {h : ax_H} {m : Nat} {μ : md_S} {ls : List (Option Value)} {rest : List Value}
theorem md_get (G : ax_C Ω Γ y cc nL ret hh d) {idx k : Nat} {v : Value} {ft : FieldType} {fin : Bool} (F : ax_fl y.cls idx 8 k ft fin) (dec : decode cc pc = .ok (.getfield idx, 3)) (hv : (md_F m μ)[k]? = some v) (kk : ax_W Ω Γ kb nb (md_H h m μ) (pc + 3) ls (v :: rest)) : ax_W Ω Γ kb nb (md_H h m μ) pc ls (.ref m :: rest) := ax_getf G F dec md_obj hv kk
theorem md_put (G : ax_C Ω Γ y cc nL ret hh d) {idx k : Nat} {v : Int32} {ft : FieldType} (F : ax_fl y.cls idx 8 k ft false) (dec : decode cc pc = .ok (.putfield idx, 3)) (hm : Ω.2.1.heap.size ≤ m) (hl : k < 25) (hn9 : narrow ft (.int v) = .int v) (hf9 : fits ft (.int v) = true) (hk : (md_F m μ).set k (.int v) = md_F m (md_si μ k v)) (kk : ax_W Ω Γ kb nb (md_H h m (md_si μ k v)) (pc + 3) ls rest) : ax_W Ω Γ kb nb (md_H h m μ) pc ls (.int v :: .ref m :: rest) :=
  ax_putf G F dec md_obj hm hl hn9 hf9 (by rw [md_seti hk]; exact kk)
theorem md_ld (G : ax_C Ω Γ y cc nL ret hh d) {j i : Nat} {x : Int32} (n : Nat) (dec : decode cc pc = .ok (.iaload, 1)) (h1 : 1 ≤ j) (h2 : j ≤ 10) (ht : md_ty j = .int) (hn : md_len j = n) (hx : x = nI i) (hi : i < n) (h31 : n < 2 ^ 31) (kk : ax_W Ω Γ kb nb (md_H h m μ) (pc + 1) ls (.int (μ.2 j i) :: rest)) : ax_W Ω Γ kb nb (md_H h m μ) pc ls (.int x :: .ref (m + j) :: rest) :=
  ax_iaload G i dec (by rw [md_arr h1 h2, ht, hn]) hx hi h31 kk
theorem md_st (G : ax_C Ω Γ y cc nL ret hh d) {j i : Nat} {x v : Int32} (n : Nat) (dec : decode cc pc = .ok (.iastore, 1)) (hm : Ω.2.1.heap.size ≤ m) (h1 : 1 ≤ j) (h2 : j ≤ 10) (ht : md_ty j = .int) (hn : md_len j = n) (hx : x = nI i) (hi : i < n) (h31 : n < 2 ^ 31) (kk : ax_W Ω Γ kb nb (md_H h m (md_sa μ j (upd (μ.2 j) i v))) (pc + 1) ls rest) : ax_W Ω Γ kb nb (md_H h m μ) pc ls (.int v :: .int x :: .ref (m + j) :: rest) :=
  ax_iastore G i dec (by rw [md_arr h1 h2, ht, hn]) (Nat.le_trans hm (Nat.le_add_right _ _)) hx hi h31 (by rw [← ht, ← hn, md_seta h1 h2]; exact kk)
theorem md_j1 {j : Nat} (hj : j = 4 ∨ j = 6) : 1 ≤ j := by omega
theorem md_j2 {j : Nat} (hj : j = 4 ∨ j = 6) : j ≤ 10 := by omega
theorem md_jt {j : Nat} (hj : j = 4 ∨ j = 6) : md_ty j = .int := by rcases hj with rfl | rfl <;> rfl
theorem md_jn {j : Nat} (hj : j = 4 ∨ j = 6) : md_len j = 627 := by rcases hj with rfl | rfl <;> rfl
theorem md_saa (μ : md_S) (j : Nat) (f g : Nat → Int32) : md_sa (md_sa μ j f) j g = md_sa μ j g := by unfold md_sa; rw [bx_uu]
theorem md_same (μ : md_S) (j : Nat) : md_sa μ j (μ.2 j) = μ := by
  unfold md_sa
  have e : va_up μ.2 j (μ.2 j) = μ.2 := by
    funext k
    by_cases hk : k = j
    · subst hk; simp [va_up]
    · simp [va_up, hk]
  rw [e]
theorem md_ro {h : ax_H} {m : Nat} {μ : md_S} {j : Nat} {y' : MethodName} {d' mc ms : Nat} {As : List Value} {o : ax_Out} (M : ax_Met Ω y' d' mc ms As (md_H h m (md_sa μ j (μ.2 j))) o (md_H h m (md_sa μ j (μ.2 j)))) : ax_Met Ω y' d' mc ms As (md_H h m μ) o (md_H h m μ) := by rw [md_same] at M; exact M
theorem md_wr {h : ax_H} {m : Nat} {μ : md_S} {j : Nat} {y' : MethodName} {d' mc ms : Nat} {As : List Value} {o : ax_Out} {h' : ax_H} (M : ax_Met Ω y' d' mc ms As (md_H h m (md_sa μ j (μ.2 j))) o h') : ax_Met Ω y' d' mc ms As (md_H h m μ) o h' := by rw [md_same] at M; exact M
theorem md_lds (G : ax_C Ω Γ y cc nL ret hh d) {j i : Nat} {x : Int32} {s : Nat → Int32} (hj : j = 4 ∨ j = 6) (dec : decode cc pc = .ok (.iaload, 1)) (hx : x = nI i) (hi : i < 627) (kk : ax_W Ω Γ kb nb (md_H h m (md_sa μ j s)) (pc + 1) ls (.int (s i) :: rest)) : ax_W Ω Γ kb nb (md_H h m (md_sa μ j s)) pc ls (.int x :: .ref (m + j) :: rest) :=
  md_ld G 627 dec (md_j1 hj) (md_j2 hj) (md_jt hj) (md_jn hj) hx hi (by decide) (by
    have e : (md_sa μ j s).2 j = s := va_up_self _ _ _
    rw [e]; exact kk)
theorem md_ldp (G : ax_C Ω Γ y cc nL ret hh d) {j j2 i : Nat} {x : Int32} {s : Nat → Int32} (n : Nat) (dec : decode cc pc = .ok (.iaload, 1)) (hne : j2 ≠ j) (h1 : 1 ≤ j2) (h2 : j2 ≤ 10) (ht : md_ty j2 = .int) (hn : md_len j2 = n) (hx : x = nI i) (hi : i < n) (h31 : n < 2 ^ 31) (kk : ax_W Ω Γ kb nb (md_H h m (md_sa μ j s)) (pc + 1) ls (.int (μ.2 j2 i) :: rest)) : ax_W Ω Γ kb nb (md_H h m (md_sa μ j s)) pc ls (.int x :: .ref (m + j2) :: rest) :=
  md_ld G n dec h1 h2 ht hn hx hi h31 (by
    have e : (md_sa μ j s).2 j2 = μ.2 j2 := va_up_ne _ _ hne
    rw [e]; exact kk)
theorem md_sts (G : ax_C Ω Γ y cc nL ret hh d) {j i : Nat} {x v : Int32} {s : Nat → Int32} (hj : j = 4 ∨ j = 6) (hm : Ω.2.1.heap.size ≤ m) (dec : decode cc pc = .ok (.iastore, 1)) (hx : x = nI i) (hi : i < 627) (kk : ax_W Ω Γ kb nb (md_H h m (md_sa μ j (upd s i v))) (pc + 1) ls rest) : ax_W Ω Γ kb nb (md_H h m (md_sa μ j s)) pc ls (.int v :: .int x :: .ref (m + j) :: rest) :=
  md_st G 627 dec hm (md_j1 hj) (md_j2 hj) (md_jt hj) (md_jn hj) hx hi (by decide) (by
    have e : (md_sa μ j s).2 j = s := va_up_self _ _ _
    rw [e, md_saa]; exact kk)
end MD
/-! compares of longs and the branch behind -/
theorem ax_cmp_eq {x y : Int64} : lg_cmp x y = 0 ↔ x = y := by
  unfold lg_cmp
  by_cases h1 : y < x
  · rw [if_pos h1]
    exact ⟨fun h => absurd h (by decide), fun h => absurd h1 (by subst h; exact fun z => Int64.lt_irrefl z)⟩
  · rw [if_neg h1]
    by_cases h2 : x = y
    · rw [if_pos h2]; exact ⟨fun _ => h2, fun _ => rfl⟩
    · rw [if_neg h2]; exact ⟨fun h => absurd h (by decide), fun h => absurd h h2⟩
theorem ax_cmp_lt {x y : Int64} : lg_cmp x y < 0 ↔ x < y := by
  unfold lg_cmp
  by_cases h1 : y < x
  · rw [if_pos h1]
    exact ⟨fun h => absurd h (by decide), fun h => absurd h (Int64.not_lt.mpr (Int64.le_of_lt h1))⟩
  · rw [if_neg h1]
    by_cases h2 : x = y
    · rw [if_pos h2]; exact ⟨fun h => absurd h (by decide), fun h => absurd h (by subst h2; exact fun z => Int64.lt_irrefl z)⟩
    · rw [if_neg h2]; exact ⟨fun _ => Int64.lt_of_le_of_ne (Int64.not_lt.mp h1) h2, fun _ => by decide⟩
theorem ax_cmp_gt {x y : Int64} : 0 < lg_cmp x y ↔ y < x := by
  unfold lg_cmp
  by_cases h1 : y < x
  · rw [if_pos h1]
    exact ⟨fun _ => h1, fun _ => by decide⟩
  · rw [if_neg h1]
    by_cases h2 : x = y
    · rw [if_pos h2]; exact ⟨fun h => absurd h (by decide), fun h => absurd h h1⟩
    · rw [if_neg h2]; exact ⟨fun h => absurd h (by decide), fun h => absurd h h1⟩
section AXL
variable {Ω : ax_O} {Γ : ax_F} {y : MethodName} {cc : ByteArray} {nL : Nat} {ret : Option FieldType} {hh : List (Nat × Nat × Nat × Nat)} {d kb nb pc : Nat} {h : ax_H} {ls : List (Option Value)} {rest : List Value} {a b : Int64} {off : Int} {tgt : Nat}
theorem ax_lcmp (G : ax_C Ω Γ y cc nL ret hh d) (dec : decode cc pc = .ok (.lcmp, 1)) (kk : ax_W Ω Γ kb nb h (pc + 1) ls (.int (lg_cmp a b) :: rest)) : ax_W Ω Γ kb nb h pc ls (.long b :: .long a :: rest) :=
  fun H locs cells slots L hR hl hL hn g1 g2 => W.lcmp G.2.1 G.2.2.1 dec (kk H locs cells slots L hR hl hL hn g1 g2)
theorem ax_lcmp_eq (G : ax_C Ω Γ y cc nL ret hh d) (dec : decode cc pc = .ok (.lcmp, 1)) (dec2 : decode cc (pc + 1) = .ok (.ifCond .eq off, 3)) (ht : ((pc + 1 : Nat) : Int) + off = (tgt : Int)) (kt : a = b → ax_W Ω Γ kb nb h tgt ls rest) (kf : ¬ a = b → ax_W Ω Γ kb nb h (pc + 1 + 3) ls rest) : ax_W Ω Γ kb nb h pc ls (.long b :: .long a :: rest) :=
  ax_lcmp G dec (ax_if_eq G dec2 ht (fun c => kt (ax_cmp_eq.mp c)) (fun c => kf (fun z => c (ax_cmp_eq.mpr z))))
theorem ax_lcmp_ne (G : ax_C Ω Γ y cc nL ret hh d) (dec : decode cc pc = .ok (.lcmp, 1)) (dec2 : decode cc (pc + 1) = .ok (.ifCond .ne off, 3)) (ht : ((pc + 1 : Nat) : Int) + off = (tgt : Int)) (kt : ¬ a = b → ax_W Ω Γ kb nb h tgt ls rest) (kf : a = b → ax_W Ω Γ kb nb h (pc + 1 + 3) ls rest) : ax_W Ω Γ kb nb h pc ls (.long b :: .long a :: rest) :=
  ax_lcmp G dec (ax_if_ne G dec2 ht (fun c => kt (fun z => c (ax_cmp_eq.mpr z))) (fun c => kf (ax_cmp_eq.mp c)))
theorem ax_lcmp_lt (G : ax_C Ω Γ y cc nL ret hh d) (dec : decode cc pc = .ok (.lcmp, 1)) (dec2 : decode cc (pc + 1) = .ok (.ifCond .lt off, 3)) (ht : ((pc + 1 : Nat) : Int) + off = (tgt : Int)) (kt : a < b → ax_W Ω Γ kb nb h tgt ls rest) (kf : ¬ a < b → ax_W Ω Γ kb nb h (pc + 1 + 3) ls rest) : ax_W Ω Γ kb nb h pc ls (.long b :: .long a :: rest) :=
  ax_lcmp G dec (ax_if_lt G dec2 ht (fun c => kt (ax_cmp_lt.mp c)) (fun c => kf (fun z => c (ax_cmp_lt.mpr z))))
theorem ax_lcmp_ge (G : ax_C Ω Γ y cc nL ret hh d) (dec : decode cc pc = .ok (.lcmp, 1)) (dec2 : decode cc (pc + 1) = .ok (.ifCond .ge off, 3)) (ht : ((pc + 1 : Nat) : Int) + off = (tgt : Int)) (kt : ¬ a < b → ax_W Ω Γ kb nb h tgt ls rest) (kf : a < b → ax_W Ω Γ kb nb h (pc + 1 + 3) ls rest) : ax_W Ω Γ kb nb h pc ls (.long b :: .long a :: rest) :=
  ax_lcmp G dec (ax_if_ge G dec2 ht (fun c => kt (fun z => Int32.not_lt.mpr c (ax_cmp_lt.mpr z))) (fun c => kf (ax_cmp_lt.mp (Int32.not_le.mp c))))
theorem ax_lcmp_gt (G : ax_C Ω Γ y cc nL ret hh d) (dec : decode cc pc = .ok (.lcmp, 1)) (dec2 : decode cc (pc + 1) = .ok (.ifCond .gt off, 3)) (ht : ((pc + 1 : Nat) : Int) + off = (tgt : Int)) (kt : b < a → ax_W Ω Γ kb nb h tgt ls rest) (kf : ¬ b < a → ax_W Ω Γ kb nb h (pc + 1 + 3) ls rest) : ax_W Ω Γ kb nb h pc ls (.long b :: .long a :: rest) :=
  ax_lcmp G dec (ax_if_gt G dec2 ht (fun c => kt (ax_cmp_gt.mp c)) (fun c => kf (fun z => c (ax_cmp_gt.mpr z))))
theorem ax_lcmp_le (G : ax_C Ω Γ y cc nL ret hh d) (dec : decode cc pc = .ok (.lcmp, 1)) (dec2 : decode cc (pc + 1) = .ok (.ifCond .le off, 3)) (ht : ((pc + 1 : Nat) : Int) + off = (tgt : Int)) (kt : ¬ b < a → ax_W Ω Γ kb nb h tgt ls rest) (kf : b < a → ax_W Ω Γ kb nb h (pc + 1 + 3) ls rest) : ax_W Ω Γ kb nb h pc ls (.long b :: .long a :: rest) :=
  ax_lcmp G dec (ax_if_le G dec2 ht (fun c => kt (fun z => Int32.not_lt.mpr c (ax_cmp_gt.mpr z))) (fun c => kf (ax_cmp_gt.mp (Int32.not_le.mp c))))
end AXL
/-! constants -/
theorem ic_0 : Int32.ofInt 0 = nI 0 := by decide
theorem ic_1 : Int32.ofInt 1 = nI 1 := by decide
theorem ic_2 : Int32.ofInt 2 = nI 2 := by decide
theorem ic_3 : Int32.ofInt 3 = nI 3 := by decide
theorem ic_4 : Int32.ofInt 4 = nI 4 := by decide
theorem ic_5 : Int32.ofInt 5 = nI 5 := by decide
theorem ic_7 : Int32.ofInt 7 = nI 7 := by decide
theorem ib_6 : (Int8.ofInt 6).toInt32 = nI 6 := by decide
theorem ib_7 : (Int8.ofInt 7).toInt32 = nI 7 := by decide
theorem ib_8 : (Int8.ofInt 8).toInt32 = nI 8 := by decide
theorem ib_9 : (Int8.ofInt 9).toInt32 = nI 9 := by decide
theorem ib_10 : (Int8.ofInt 10).toInt32 = nI 10 := by decide
theorem ib_11 : (Int8.ofInt 11).toInt32 = nI 11 := by decide
theorem ib_14 : (Int8.ofInt 14).toInt32 = nI 14 := by decide
theorem ib_15 : (Int8.ofInt 15).toInt32 = nI 15 := by decide
theorem ib_16 : (Int8.ofInt 16).toInt32 = nI 16 := by decide
theorem ib_17 : (Int8.ofInt 17).toInt32 = nI 17 := by decide
theorem ib_20 : (Int8.ofInt 20).toInt32 = nI 20 := by decide
theorem ib_23 : (Int8.ofInt 23).toInt32 = nI 23 := by decide
theorem ib_24 : (Int8.ofInt 24).toInt32 = nI 24 := by decide
theorem ib_29 : (Int8.ofInt 29).toInt32 = nI 29 := by decide
theorem ib_31 : (Int8.ofInt 31).toInt32 = nI 31 := by decide
theorem ib_32 : (Int8.ofInt 32).toInt32 = nI 32 := by decide
theorem ib_35 : (Int8.ofInt 35).toInt32 = nI 35 := by decide
theorem ib_41 : (Int8.ofInt 41).toInt32 = nI 41 := by decide
theorem ib_43 : (Int8.ofInt 43).toInt32 = nI 43 := by decide
theorem ib_45 : (Int8.ofInt 45).toInt32 = nI 45 := by decide
theorem ib_47 : (Int8.ofInt 47).toInt32 = nI 47 := by decide
theorem ib_48 : (Int8.ofInt 48).toInt32 = nI 48 := by decide
theorem ib_57 : (Int8.ofInt 57).toInt32 = nI 57 := by decide
theorem ib_58 : (Int8.ofInt 58).toInt32 = nI 58 := by decide
theorem ib_59 : (Int8.ofInt 59).toInt32 = nI 59 := by decide
theorem ib_60 : (Int8.ofInt 60).toInt32 = nI 60 := by decide
theorem ib_61 : (Int8.ofInt 61).toInt32 = nI 61 := by decide
theorem ib_63 : (Int8.ofInt 63).toInt32 = nI 63 := by decide
theorem ib_64 : (Int8.ofInt 64).toInt32 = nI 64 := by decide
theorem ib_65 : (Int8.ofInt 65).toInt32 = nI 65 := by decide
theorem ib_66 : (Int8.ofInt 66).toInt32 = nI 66 := by decide
theorem ib_67 : (Int8.ofInt 67).toInt32 = nI 67 := by decide
theorem ib_80 : (Int8.ofInt 80).toInt32 = nI 80 := by decide
theorem ib_87 : (Int8.ofInt 87).toInt32 = nI 87 := by decide
theorem ib_90 : (Int8.ofInt 90).toInt32 = nI 90 := by decide
theorem ib_97 : (Int8.ofInt 97).toInt32 = nI 97 := by decide
theorem ib_99 : (Int8.ofInt 99).toInt32 = nI 99 := by decide
theorem ib_100 : (Int8.ofInt 100).toInt32 = nI 100 := by decide
theorem ib_107 : (Int8.ofInt 107).toInt32 = nI 107 := by decide
theorem ib_108 : (Int8.ofInt 108).toInt32 = nI 108 := by decide
theorem ib_110 : (Int8.ofInt 110).toInt32 = nI 110 := by decide
theorem ib_117 : (Int8.ofInt 117).toInt32 = nI 117 := by decide
theorem ib_122 : (Int8.ofInt 122).toInt32 = nI 122 := by decide
theorem ib_127 : (Int8.ofInt 127).toInt32 = nI 127 := by decide
theorem is_170 : (Int16.ofInt 170).toInt32 = nI 170 := by decide
theorem is_226 : (Int16.ofInt 226).toInt32 = nI 226 := by decide
theorem is_227 : (Int16.ofInt 227).toInt32 = nI 227 := by decide
theorem is_235 : (Int16.ofInt 235).toInt32 = nI 235 := by decide
theorem is_255 : (Int16.ofInt 255).toInt32 = nI 255 := by decide
theorem is_300 : (Int16.ofInt 300).toInt32 = nI 300 := by decide
theorem is_359 : (Int16.ofInt 359).toInt32 = nI 359 := by decide
theorem is_360 : (Int16.ofInt 360).toInt32 = nI 360 := by decide
theorem is_400 : (Int16.ofInt 400).toInt32 = nI 400 := by decide
theorem is_627 : (Int16.ofInt 627).toInt32 = nI 627 := by decide
theorem is_999 : (Int16.ofInt 999).toInt32 = nI 999 := by decide
theorem is_1000 : (Int16.ofInt 1000).toInt32 = nI 1000 := by decide
theorem is_1254 : (Int16.ofInt 1254).toInt32 = nI 1254 := by decide
theorem is_2000 : (Int16.ofInt 2000).toInt32 = nI 2000 := by decide
theorem is_4000 : (Int16.ofInt 4000).toInt32 = nI 4000 := by decide
theorem is_5016 : (Int16.ofInt 5016).toInt32 = nI 5016 := by decide
theorem is_9999 : (Int16.ofInt 9999).toInt32 = nI 9999 := by decide
