/-! ROWS THAT READ AND WRITE THE HEAP -/
def ax_set (h : ax_H) (a : Nat) (e : ax_E) : ax_H := (fun q => if q = a then some e else h.1 q, h.2)
def ax_add (h : ax_H) (e : ax_E) : ax_H := (fun q => if q = h.2 then some e else h.1 q, h.2 + 1)
theorem ax_at.kept {Ω : ax_O} {q : Nat} {e : ax_E} {H H1 : Heap} (h : ax_at Ω q e H) (hq : H1[q]? = H[q]?) : ax_at Ω q e H1 := by
  cases e with
  | inl x =>
    obtain ⟨cell, h1, h2⟩ := h
    exact ⟨cell, hq.trans h1, h2⟩
  | inr o => exact va_at.kept (q := (q, .inr o)) h hq
theorem ax_at.lt {Ω : ax_O} {q : Nat} {e : ax_E} {H : Heap} (h : ax_at Ω q e H) : q < H.size := by
  cases e with
  | inl x =>
    obtain ⟨cell, h1, h2⟩ := h
    exact (Array.getElem?_eq_some_iff.mp h1).1
  | inr o => exact va_at.lt (q := (q, .inr o)) h
theorem ax_R.set {Ω : ax_O} {h : ax_H} {H H1 : Heap} {a : Nat} {e : ax_E} (hR : ax_R Ω h H) (ha : ax_A Ω a) (hz : H1.size = H.size) (ho : ∀ q : Nat, q ≠ a → H1[q]? = H[q]?) (he : ax_at Ω a e H1) : ax_R Ω (ax_set h a e) H1 := by
  refine ⟨hz.trans hR.1, hR.2.1, fun q hq => (ho q (fun z => ?_)).trans (hR.2.2.1 q hq), fun q e1 hq => ?_⟩
  · have ha' : Ω.2.1.heap.size ≤ a := ha
    omega
  · simp only [ax_set] at hq
    by_cases z : q = a
    · subst z
      rw [if_pos rfl] at hq
      cases hq
      exact he
    · rw [if_neg z] at hq
      exact (hR.2.2.2 q e1 hq).kept (ho q z)
theorem ax_R.add {Ω : ax_O} {h : ax_H} {H H1 : Heap} {e : ax_E} (hR : ax_R Ω h H) (hz : H1.size = H.size + 1) (ho : ∀ q : Nat, q < H.size → H1[q]? = H[q]?) (he : ax_at Ω H.size e H1) : ax_R Ω (ax_add h e) H1 := by
  refine ⟨by rw [hz, hR.1]; rfl, Nat.le_succ_of_le hR.2.1, fun q hq => (ho q (by rw [hR.1]; exact Nat.lt_of_lt_of_le hq hR.2.1)).trans (hR.2.2.1 q hq), fun q e1 hq => ?_⟩
  simp only [ax_add] at hq
  by_cases z : q = h.2
  · rw [if_pos z] at hq
    cases hq
    rw [z, ← hR.1]
    exact he
  · rw [if_neg z] at hq
    have h9 := hR.2.2.2 q e1 hq
    exact h9.kept (ho q h9.lt)
theorem ax_cellv (cA : ClassId) (a : vp_A) : vp_cell cA a = arrV cA a.1 (ax_val a) := by obtain ⟨n, f | f | f | f | f⟩ := a <;> rfl
/-- a class with its field words -/
def ax_cok (r : vw_C) (ty : Nat → FieldType) : Prop := (∀ w ∈ u_ws r.1 r.2.1 r.2.2, w ∈ lw_all) ∧ (∀ k, k < r.2.2 → parseFieldDescriptor (r.2.1 k).2.2.1 = some (ty k)) ∧ (∀ a, a < r.2.2 → ∀ b, b < r.2.2 → a ≠ b → (r.2.1 a).2.1 ≠ (r.2.1 b).2.1)
/-- the entry idx of own's pool names field k of class ci, of type ft -/
def ax_fl (own : String) (idx ci k : Nat) (ft : FieldType) (fin : Bool) : Prop := ∃ (r : vw_C) (ty : Nat → FieldType) (ref : String), ax_CL[ci]? = some r ∧ ax_cok r ty ∧ k < r.2.2 ∧ ty k = ft ∧ (r.2.1 k).2.2.2 = fin ∧
  (Cond.fieldLink own idx ref (r.2.1 k).2.1 (r.2.1 k).2.2.1 ∈ lw_all ∨ ∃ hst, Cond.fieldLinkNest own idx ref (r.2.1 k).2.1 (r.2.1 k).2.2.1 hst ∈ lw_tbl) ∧ (ref = (r.2.1 k).1 ∨ Cond.sameField ref (r.2.1 k).1 (r.2.1 k).2.1 (r.2.1 k).2.2.1 ∈ lw_all)
/-- .. a final field of own's own -/
def ax_flF (own : String) (idx ci k : Nat) (ft : FieldType) : Prop := ∃ (r : vw_C) (ty : Nat → FieldType) (ref : String), ax_CL[ci]? = some r ∧ ax_cok r ty ∧ k < r.2.2 ∧ ty k = ft ∧ (r.2.1 k).2.2.2 = true ∧
  Cond.fieldLink own idx ref (r.2.1 k).2.1 (r.2.1 k).2.2.1 ∈ lw_all ∧ (ref = (r.2.1 k).1 ∨ Cond.sameField ref (r.2.1 k).1 (r.2.1 k).2.1 (r.2.1 k).2.2.1 ∈ lw_all) ∧ (r.2.1 k).1 = own
section AXH
variable {Ω : ax_O} {Γ : ax_F} {y : MethodName} {cc : ByteArray} {nL : Nat} {ret : Option FieldType} {hh : List (Nat × Nat × Nat × Nat)} {d kb nb pc : Nat} {h : ax_H} {ls : List (Option Value)} {rest : List Value}
theorem ax_getf (G : ax_C Ω Γ y cc nL ret hh d) {a ci k idx : Nat} {fs : List Value} {v : Value} {ft : FieldType} {fin : Bool} (F : ax_fl y.cls idx ci k ft fin) (dec : decode cc pc = .ok (.getfield idx, 3)) (he : h.1 a = some (.inr (ci, fs))) (hv : fs[k]? = some v)
    (kk : ax_W Ω Γ kb nb h (pc + 3) ls (v :: rest)) : ax_W Ω Γ kb nb h pc ls (.ref a :: rest) := by
  intro H locs cells slots L hR hl hL hn g1 g2
  obtain ⟨r, ty, ref, hc, ⟨c1, c2, c3⟩, hk, -, -, hlink, hsame⟩ := F
  have hw := G.2.2.2.2.2.2.2.2.2.1
  have hts : ∀ w ∈ lw_all, w.before Γ.2.2.2.2.2.1 Γ.2.2.2.1 = true := fun w hw' => ax_words G.1 hw hw' _
  have hP : va_P Ω.2.2.1 ax_CL [(a, .inr (ci, fs))] H := fun k q hq => by
    have hz : k < 1 := (List.getElem?_eq_some_iff.mp hq).1
    rw [show k = 0 by omega] at hq
    cases hq
    exact hR.2.2.2 a _ he
  have hsm : ∀ x, Γ.2.2.2.1.fieldFound? (r.2.1 k).1 (r.2.1 k).2.1 (r.2.1 k).2.2.1 = some x → Γ.2.2.2.1.fieldFound? ref (r.2.1 k).2.1 (r.2.1 k).2.2.1 = some x := by
    rcases hsame with e | e
    · rw [e]; exact fun x h => h
    · exact fun x h => u_same (hts _ e) x h
  rcases hlink with hl1 | ⟨hst, hl1⟩
  · exact va_get G.2.1 G.2.2.1 (C := r.1) (T := r.2.1) (N := r.2.2) hts c1 G.2.2.2.2.1 (ax_kn G.1 hw) hP 0 rfl hc k hk (hts _ hl1) hsm hv dec (kk H locs cells slots L hR hl hL hn g1 g2)
  · exact va_getN G.2.1 G.2.2.1 (C := r.1) (T := r.2.1) (N := r.2.2) hts c1 G.2.2.2.2.1 (ax_kn G.1 hw) hP 0 rfl hc k hk (ax_nestF G.1 hw hl1 _) hsm hv dec (kk H locs cells slots L hR hl hL hn g1 g2)
theorem ax_putf (G : ax_C Ω Γ y cc nL ret hh d) {a ci k idx : Nat} {fs : List Value} {v : Value} {ft : FieldType} (F : ax_fl y.cls idx ci k ft false) (dec : decode cc pc = .ok (.putfield idx, 3)) (he : h.1 a = some (.inr (ci, fs))) (ha : Ω.2.1.heap.size ≤ a) (hlen : k < fs.length) (hn9 : narrow ft v = v) (hf9 : fits ft v = true)
    (kk : ax_W Ω Γ kb nb (ax_set h a (.inr (ci, fs.set k v))) (pc + 3) ls rest) : ax_W Ω Γ kb nb h pc ls (v :: .ref a :: rest) := by
  intro H locs cells slots L hR hl hL hn g1 g2
  obtain ⟨r, ty, ref, hc, ⟨c1, c2, c3⟩, hk, hft, hfin, hlink, hsame⟩ := F
  have hw := G.2.2.2.2.2.2.2.2.2.1
  have hts : ∀ w ∈ lw_all, w.before Γ.2.2.2.2.2.1 Γ.2.2.2.1 = true := fun w hw' => ax_words G.1 hw hw' _
  have hK := ax_kn G.1 hw
  have hsm : ∀ x, Γ.2.2.2.1.fieldFound? (r.2.1 k).1 (r.2.1 k).2.1 (r.2.1 k).2.2.1 = some x → Γ.2.2.2.1.fieldFound? ref (r.2.1 k).2.1 (r.2.1 k).2.2.1 = some x := by
    rcases hsame with e | e
    · rw [e]; exact fun x h => h
    · exact fun x h => u_same (hts _ e) x h
  have hap := va_apart (own := y.cls) (C := r.1) (T := r.2.1) (N := r.2.2) hts c1 ty c2 c3 hK hc
  obtain ⟨r0, hr0, cell, q1, q2, q3, q4⟩ := hR.2.2.2 a _ he
  cases Option.some.inj (hr0.symm.trans hc)
  obtain ⟨hS, hfc, kC, hkC, hkind⟩ := hK.1 ci _ hc
  obtain ⟨cf, kf, fi, f, hi, hsl⟩ := hS k hk
  have hlay := hts _ (c1 _ (u_in_lay hk))
  unfold u_lay at hlay
  rw [if_neg (by rw [hfin]; decide)] at hlay
  have hst := (u_facts hfc hkC (u_lays hts c1 hk) hi).1
  have h6 := u_store hfc hkC hkind hlay hi (c2 k hk) (hft ▸ hn9) (hft ▸ hf9)
  have key : ∀ H' : Heap, H'[a]? = some (cell.setSlot (Ω.2.2.1.2 ci k) v) → H'.size = H.size → (∀ q, q ≠ a → H'[q]? = H[q]?) → ax_K Ω Γ H' (locs ++ [⟨a, Ω.2.2.1.2 ci k⟩]) cells slots (F0 Γ.2.2.2.2.1 (pc + 3) L rest) := fun H' e1 e2 e3 =>
    kk H' _ cells slots L (hR.set ha e2 e3 ⟨_, hc, t_OB.to (V := updV (vp_V fs) k v) ⟨_, e1, q2, q3, t_set q4 hap hk v⟩ (fun j _ => vp_updV_set hlen v j)⟩) (t_lc hl ha) hL hn g1 g2
  rcases hlink with hl1 | ⟨hst1, hl1⟩
  · refine W.putK G.2.1 G.2.2.1 (f := f) ⟨G.2.2.2.2.1, hts _ hl1, ⟨_, _, _, hsm _ hi⟩, hst⟩ (by rw [q2]; exact h6) q1 q3 (by rw [hsl]; exact k2_hasslot (q4 k hk)) rfl rfl dec fun H' e1 e2 e3 => ?_
    rw [hsl] at e1 ⊢
    exact key H' e1 e2 e3
  · refine va_WputK G.2.1 G.2.2.1 (f := f) G.2.2.2.2.1 (ax_nestF G.1 hw hl1 _) (hsm _ hi) hst (by rw [q2]; exact h6) q1 q3 (by rw [hsl]; exact k2_hasslot (q4 k hk)) rfl rfl dec fun H' e1 e2 e3 => ?_
    rw [hsl] at e1 ⊢
    exact key H' e1 e2 e3
theorem ax_putfF (G : ax_C Ω Γ y cc nL ret hh d) {a ci k idx : Nat} {fs : List Value} {v : Value} {ft : FieldType} (F : ax_flF y.cls idx ci k ft) (hin : y.name = "<init>") (dec : decode cc pc = .ok (.putfield idx, 3)) (he : h.1 a = some (.inr (ci, fs))) (ha : Ω.2.1.heap.size ≤ a) (hlen : k < fs.length) (hn9 : narrow ft v = v) (hf9 : fits ft v = true)
    (kk : ax_W Ω Γ kb nb (ax_set h a (.inr (ci, fs.set k v))) (pc + 3) ls rest) : ax_W Ω Γ kb nb h pc ls (v :: .ref a :: rest) := by
  intro H locs cells slots L hR hl hL hn g1 g2
  obtain ⟨r, ty, ref, hc, ⟨c1, c2, c3⟩, hk, hft, hfin, hl1, hsame, hdecl⟩ := F
  have hw := G.2.2.2.2.2.2.2.2.2.1
  have hts : ∀ w ∈ lw_all, w.before Γ.2.2.2.2.2.1 Γ.2.2.2.1 = true := fun w hw' => ax_words G.1 hw hw' _
  have hK := ax_kn G.1 hw
  have hsm : ∀ x, Γ.2.2.2.1.fieldFound? (r.2.1 k).1 (r.2.1 k).2.1 (r.2.1 k).2.2.1 = some x → Γ.2.2.2.1.fieldFound? ref (r.2.1 k).2.1 (r.2.1 k).2.2.1 = some x := by
    rcases hsame with e | e
    · rw [e]; exact fun x h => h
    · exact fun x h => u_same (hts _ e) x h
  have hap := va_apart (own := y.cls) (C := r.1) (T := r.2.1) (N := r.2.2) hts c1 ty c2 c3 hK hc
  obtain ⟨r0, hr0, cell, q1, q2, q3, q4⟩ := hR.2.2.2 a _ he
  cases Option.some.inj (hr0.symm.trans hc)
  obtain ⟨hS, hfc, kC, hkC, hkind⟩ := hK.1 ci _ hc
  obtain ⟨cf, kf, fi, f, hi, hsl⟩ := hS k hk
  have hlay := hts _ (c1 _ (u_in_lay hk))
  unfold u_lay at hlay
  rw [if_pos hfin] at hlay
  have hst := (u_facts hfc hkC (u_lays hts c1 hk) hi).1
  have hcf : Γ.2.2.2.2.1.cls = cf := by
    obtain ⟨_, _, c', _, _, _, -, -, hf', -, -, -, hown2, -⟩ := Cond.laysFinal_spec hlay
    have e1 : c' = cf := by have := hi.symm.trans hf'; simp at this; exact this.1.symm
    rw [hdecl] at hown2
    rw [← e1]; exact Option.some.inj (G.2.2.2.2.1.symm.trans hown2)
  have h6 := u_fits hfc hkC hkind (Or.inr hlay) hi (c2 k hk) (hft ▸ hn9) (hft ▸ hf9)
  refine W.putFinK G.2.1 G.2.2.1 G.2.2.2.2.1 (hts _ hl1) (hsm _ hi) hst hcf (G.2.2.2.2.2.1.trans hin) (by rw [q2]; exact h6) q1 q3 (by rw [hsl]; exact k2_hasslot (q4 k hk)) rfl rfl dec fun H' e1 e2 e3 => ?_
  rw [hsl] at e1 ⊢
  exact kk H' _ cells slots L (hR.set ha e2 e3 ⟨_, hc, t_OB.to (V := updV (vp_V fs) k v) ⟨_, e1, q2, q3, t_set q4 hap hk v⟩ (fun j _ => vp_updV_set hlen v j)⟩) (t_lc hl ha) hL hn g1 g2
/-- a static that nobody writes -/
theorem ax_gets (G : ax_C Ω Γ y cc nL ret hh d) {idx : Nat} {C n de : String} (hz : (C, n, de) ∈ ax_stl) (hlink : Cond.fieldLink y.cls idx C n de ∈ lw_all) (dec : decode cc pc = .ok (.getstatic idx, 3))
    (kk : ax_W Ω Γ kb nb h (pc + 3) ls (Ω.2.2.2.2 C n :: rest)) : ax_W Ω Γ kb nb h pc ls rest := by
  intro H locs cells slots L hR hl hL hn g1 g2
  have hw := G.2.2.2.2.2.2.2.2.2.1
  have hold := G.2.2.2.2.2.2.2.2.2.2.1
  have hZ : va_Z C n de (Ω.2.2.2.2 C n) (ax_A Ω) Γ.2.2.2.1 Γ.2.2.2.1.heap := va_Z.moved hw.alike ((G.1.2.2.2.1 _ hz).kept fun a h1 _ => hold.2 a h1)
  obtain ⟨cf, kf, fi, f, a, cell, h1, h2, h3, h4, h5, h6, h7, h8⟩ := hZ
  have ha : a < Ω.2.1.heap.size := by
    have h8' : ¬ Ω.2.1.heap.size ≤ a := h8
    omega
  exact W.gets G.2.1 G.2.2.1 G.2.2.2.2.1 (ax_words G.1 hw hlink _) h1 h2 h3 h4 (by rw [hR.2.2.1 a ha, ← hold.2 a ha]; exact h5) (fun e => by rw [e] at h6; cases h6) h7 rfl dec (kk H locs cells slots L hR hl hL hn g1 g2)
/-- a String literal -/
theorem ax_ldcS (G : ax_C Ω Γ y cc nL ret hh d) {idx : Nat} {tx : String} (hlink : Cond.stringRef y.cls idx tx ∈ lw_tbl) (dec : decode cc pc = .ok (.ldc idx, 2))
    (kk : ax_W Ω Γ kb nb h (pc + 2) ls (.ref (Ω.2.2.2.1 y.cls idx) :: rest)) : ax_W Ω Γ kb nb h pc ls rest := by
  intro H locs cells slots L hR hl hL hn g1 g2
  exact va_ldcS G.2.1 G.2.2.1 G.2.2.2.2.1 (vk_R.warm G.2.2.2.2.2.2.2.2.2.1 (G.1.2.2.2.2.2.1 _ _ _ hlink)) dec (kk H locs cells slots L hR hl hL hn g1 g2)
/-! arrays -/
theorem ax_alen (G : ax_C Ω Γ y cc nL ret hh d) {a : Nat} {ty : FieldType} {x : vp_A} {v : Int32} (dec : decode cc pc = .ok (.arraylength, 1)) (he : h.1 a = some (.inl (ty, x))) (hv : Int32.ofNat x.1 = v)
    (kk : ax_W Ω Γ kb nb h (pc + 1) ls (.int v :: rest)) : ax_W Ω Γ kb nb h pc ls (.ref a :: rest) := by
  intro H locs cells slots L hR hl hL hn g1 g2
  obtain ⟨cell, c1, c2, c3, c4, c5, c6, -⟩ := hR.2.2.2 a _ he
  exact W.alen G.2.1 G.2.2.1 c1 (State.isArrayOf_alike G.2.2.2.2.2.2.2.2.2.1.alike c2) (c5.trans hv) rfl rfl dec (kk H locs cells slots L hR hl hL hn g1 g2)
theorem ax_ix {i : Int32} {j n m : Nat} (hi : i = nI j) (hj : j < n) (hn : n < 2 ^ 31) (hm : n ≤ m) : ¬ (i < 0 ∨ m ≤ i.toNatClampNeg) ∧ i.toNatClampNeg = j := by
  have hc : i.toNatClampNeg = j := by rw [hi]; exact nI_clamp (by omega)
  refine ⟨fun h => ?_, hc⟩
  rcases h with h | h
  · rw [hi] at h
    exact nI_pos (by omega) h
  · omega
theorem ax_iaload (G : ax_C Ω Γ y cc nL ret hh d) {a n : Nat} {f : Nat → Int32} {i : Int32} (j : Nat) (dec : decode cc pc = .ok (.iaload, 1)) (he : h.1 a = some (.inl (.int, n, .inl f))) (hi : i = nI j) (hj : j < n) (h31 : n < 2 ^ 31)
    (kk : ax_W Ω Γ kb nb h (pc + 1) ls (.int (f j) :: rest)) : ax_W Ω Γ kb nb h pc ls (.int i :: .ref a :: rest) := by
  intro H locs cells slots L hR hl hL hn g1 g2
  obtain ⟨cell, c1, c2, c4, c5, c6, c7, -⟩ := hR.2.2.2 a _ he
  obtain ⟨i1, i2⟩ := ax_ix hi hj h31 c5
  exact W.iald (v := .int (f j)) G.2.1 G.2.2.1 c1 (State.isArrayOf_alike G.2.2.2.2.2.2.2.2.2.1.alike c2) c4 i1 (by rw [i2]; exact c7 j hj) rfl rfl dec (kk H locs cells slots L hR hl hL hn g1 g2)
theorem ax_baload (G : ax_C Ω Γ y cc nL ret hh d) {a n : Nat} {f : Nat → Int32} {i : Int32} (j : Nat) (dec : decode cc pc = .ok (.baload, 1)) (he : h.1 a = some (.inl (.byte, n, .inl f))) (hi : i = nI j) (hj : j < n) (h31 : n < 2 ^ 31)
    (kk : ax_W Ω Γ kb nb h (pc + 1) ls (.int (f j) :: rest)) : ax_W Ω Γ kb nb h pc ls (.int i :: .ref a :: rest) := by
  intro H locs cells slots L hR hl hL hn g1 g2
  obtain ⟨cell, c1, c2, c4, c5, c6, c7, -⟩ := hR.2.2.2 a _ he
  obtain ⟨i1, i2⟩ := ax_ix hi hj h31 c5
  exact W.bald (v := .int (f j)) G.2.1 G.2.2.1 c1 (State.isArrayOf_alike G.2.2.2.2.2.2.2.2.2.1.alike c2) c4 i1 (by rw [i2]; exact c7 j hj) rfl rfl dec (kk H locs cells slots L hR hl hL hn g1 g2)
theorem ax_zaload (G : ax_C Ω Γ y cc nL ret hh d) {a n : Nat} {f : Nat → Int32} {i : Int32} (j : Nat) (dec : decode cc pc = .ok (.baload, 1)) (he : h.1 a = some (.inl (.boolean, n, .inl f))) (hi : i = nI j) (hj : j < n) (h31 : n < 2 ^ 31)
    (kk : ax_W Ω Γ kb nb h (pc + 1) ls (.int (f j) :: rest)) : ax_W Ω Γ kb nb h pc ls (.int i :: .ref a :: rest) := by
  intro H locs cells slots L hR hl hL hn g1 g2
  obtain ⟨cell, c1, c2, c4, c5, c6, c7, -⟩ := hR.2.2.2 a _ he
  obtain ⟨i1, i2⟩ := ax_ix hi hj h31 c5
  exact W.zald (v := .int (f j)) G.2.1 G.2.2.1 c1 (State.isArrayOf_alike G.2.2.2.2.2.2.2.2.2.1.alike c2) c4 i1 (by rw [i2]; exact c7 j hj) rfl rfl dec (kk H locs cells slots L hR hl hL hn g1 g2)
theorem ax_laload (G : ax_C Ω Γ y cc nL ret hh d) {a n : Nat} {f : Nat → Int64} {i : Int32} (j : Nat) (dec : decode cc pc = .ok (.laload, 1)) (he : h.1 a = some (.inl (.long, n, .inr (.inl f)))) (hi : i = nI j) (hj : j < n) (h31 : n < 2 ^ 31)
    (kk : ax_W Ω Γ kb nb h (pc + 1) ls (.long (f j) :: rest)) : ax_W Ω Γ kb nb h pc ls (.int i :: .ref a :: rest) := by
  intro H locs cells slots L hR hl hL hn g1 g2
  obtain ⟨cell, c1, c2, c4, c5, c6, c7, -⟩ := hR.2.2.2 a _ he
  obtain ⟨i1, i2⟩ := ax_ix hi hj h31 c5
  exact W.lald (v := .long (f j)) G.2.1 G.2.2.1 c1 (State.isArrayOf_alike G.2.2.2.2.2.2.2.2.2.1.alike c2) c4 i1 (by rw [i2]; exact c7 j hj) rfl rfl dec (kk H locs cells slots L hR hl hL hn g1 g2)
theorem ax_daload (G : ax_C Ω Γ y cc nL ret hh d) {a n : Nat} {f : Nat → UInt64} {i : Int32} (j : Nat) (dec : decode cc pc = .ok (.daload, 1)) (he : h.1 a = some (.inl (.double, n, .inr (.inr (.inr (.inl f)))))) (hi : i = nI j) (hj : j < n) (h31 : n < 2 ^ 31)
    (kk : ax_W Ω Γ kb nb h (pc + 1) ls (.double (f j) :: rest)) : ax_W Ω Γ kb nb h pc ls (.int i :: .ref a :: rest) := by
  intro H locs cells slots L hR hl hL hn g1 g2
  obtain ⟨cell, c1, c2, c4, c5, c6, c7, -⟩ := hR.2.2.2 a _ he
  obtain ⟨i1, i2⟩ := ax_ix hi hj h31 c5
  exact W.dald (v := .double (f j)) G.2.1 G.2.2.1 c1 (State.isArrayOf_alike G.2.2.2.2.2.2.2.2.2.1.alike c2) c4 i1 (by rw [i2]; exact c7 j hj) rfl rfl dec (kk H locs cells slots L hR hl hL hn g1 g2)
theorem ax_aaload (G : ax_C Ω Γ y cc nL ret hh d) {a n : Nat} {f : Nat → Option Nat} {C : String} {i : Int32} (j : Nat) (dec : decode cc pc = .ok (.aaload, 1)) (he : h.1 a = some (.inl (.object C, n, .inr (.inr (.inr (.inr f)))))) (hi : i = nI j) (hj : j < n) (h31 : n < 2 ^ 31)
    (kk : ax_W Ω Γ kb nb h (pc + 1) ls (va_rf (f j) :: rest)) : ax_W Ω Γ kb nb h pc ls (.int i :: .ref a :: rest) := by
  intro H locs cells slots L hR hl hL hn g1 g2
  obtain ⟨cell, c1, c2, c4, c5, c6, c7, -⟩ := hR.2.2.2 a _ he
  obtain ⟨i1, i2⟩ := ax_ix hi hj h31 c5
  exact W.aald (v := va_rf (f j)) (ty := .object C) G.2.1 G.2.2.1 c1 (State.isArrayOf_alike G.2.2.2.2.2.2.2.2.2.1.alike c2) rfl c4 i1 (by rw [i2]; exact c7 j hj) rfl rfl dec (kk H locs cells slots L hR hl hL hn g1 g2)
/-- what a store leaves -/
theorem ax_arr.store {U : State} {b0 : Nat} {ty : FieldType} {q : Nat} {a a' : vp_A} {H1 : Heap} {cell : Cell} {j : Nat} {v : Value} (hq : b0 ≤ q) (hc : cell.slots.size.toInt32 = Int32.ofNat a.1) (hty : U.isArrayOf cell ty) (h2 : ax_comp U cell.cls ty ∧ ∃ cA, cell = arrV cA a.1 (ax_val a)) (h1 : H1[q]? = some (cell.setSlot j v)) (hn : a'.1 = a.1) (hv : ∀ k, k < a.1 → (if k = j then v else ax_val a k) = ax_val a' k) : ax_arr U b0 ty q a' H1 := by
  obtain ⟨hcm, cA, rfl⟩ := h2
  rw [arrV_store] at h1
  have e : arrV cA a.1 (updV (ax_val a) j v) = arrV cA a'.1 (ax_val a') := by
    rw [hn]
    unfold arrV
    congr 1
    apply Array.ext
    · simp
    · intro k k1 k2
      simp only [Array.getElem_ofFn]
      exact hv k (by simpa using k1)
  rw [e] at h1
  have hs : (arrV cA a'.1 (ax_val a')).slots.size = a'.1 := arrV_size _ _ _
  refine ⟨_, h1, hty, (fun h => by cases h), by rw [hs]; exact Nat.le_refl _, by rw [hs], fun k hk => arrV_read _ _ hk, fun _ => ⟨hcm, cA, rfl⟩⟩
theorem ax_iastore (G : ax_C Ω Γ y cc nL ret hh d) {a n : Nat} {f : Nat → Int32} {i : Int32} {x : Int32} (j : Nat) (dec : decode cc pc = .ok (.iastore, 1)) (he : h.1 a = some (.inl (.int, n, .inl f))) (ha : Ω.2.1.heap.size ≤ a) (hi : i = nI j) (hj : j < n) (h31 : n < 2 ^ 31)
    (kk : ax_W Ω Γ kb nb (ax_set h a (.inl (.int, n, .inl (upd f j x)))) (pc + 1) ls rest) : ax_W Ω Γ kb nb h pc ls (.int x :: .int i :: .ref a :: rest) := by
  intro H locs cells slots L hR hl hL hn g1 g2
  obtain ⟨cell, c1, c2, c4, c5, c6, c7, c8⟩ := hR.2.2.2 a _ he
  obtain ⟨i1, i2⟩ := ax_ix hi hj h31 c5
  refine W.iast G.2.1 G.2.2.1 c1 (State.isArrayOf_alike G.2.2.2.2.2.2.2.2.2.1.alike c2) c4 i1 rfl rfl dec fun H1 e z oq => ?_
  rw [i2] at e ⊢
  refine kk H1 _ cells slots L (hR.set ha z oq (ax_arr.store (a := (n, .inl f)) ha c6 c2 (c8 ha) e rfl fun k _ => ?_)) (t_lc hl ha) hL hn g1 g2
  by_cases hk : k = j
  · subst hk
    simp [ax_val, upd]
  · simp [ax_val, upd, hk]
theorem ax_bastore (G : ax_C Ω Γ y cc nL ret hh d) {a n : Nat} {f : Nat → Int32} {i : Int32} {x : Int32} (j : Nat) (dec : decode cc pc = .ok (.bastore, 1)) (he : h.1 a = some (.inl (.byte, n, .inl f))) (ha : Ω.2.1.heap.size ≤ a) (hi : i = nI j) (hj : j < n) (h31 : n < 2 ^ 31)
    (kk : ax_W Ω Γ kb nb (ax_set h a (.inl (.byte, n, .inl (upd f j (vp_nar .byte x))))) (pc + 1) ls rest) : ax_W Ω Γ kb nb h pc ls (.int x :: .int i :: .ref a :: rest) := by
  intro H locs cells slots L hR hl hL hn g1 g2
  obtain ⟨cell, c1, c2, c4, c5, c6, c7, c8⟩ := hR.2.2.2 a _ he
  obtain ⟨i1, i2⟩ := ax_ix hi hj h31 c5
  refine W.bast G.2.1 G.2.2.1 c1 (State.isArrayOf_alike G.2.2.2.2.2.2.2.2.2.1.alike c2) c4 i1 rfl rfl dec fun H1 e z oq => ?_
  rw [i2] at e ⊢
  refine kk H1 _ cells slots L (hR.set ha z oq (ax_arr.store (a := (n, .inl f)) ha c6 c2 (c8 ha) e rfl fun k _ => ?_)) (t_lc hl ha) hL hn g1 g2
  by_cases hk : k = j
  · subst hk
    simp [ax_val, upd, vp_nar, narrow]
  · simp [ax_val, upd, hk]
theorem ax_zastore (G : ax_C Ω Γ y cc nL ret hh d) {a n : Nat} {f : Nat → Int32} {i : Int32} {x : Int32} (j : Nat) (dec : decode cc pc = .ok (.bastore, 1)) (he : h.1 a = some (.inl (.boolean, n, .inl f))) (ha : Ω.2.1.heap.size ≤ a) (hi : i = nI j) (hj : j < n) (h31 : n < 2 ^ 31)
    (kk : ax_W Ω Γ kb nb (ax_set h a (.inl (.boolean, n, .inl (upd f j (vp_nar .boolean x))))) (pc + 1) ls rest) : ax_W Ω Γ kb nb h pc ls (.int x :: .int i :: .ref a :: rest) := by
  intro H locs cells slots L hR hl hL hn g1 g2
  obtain ⟨cell, c1, c2, c4, c5, c6, c7, c8⟩ := hR.2.2.2 a _ he
  obtain ⟨i1, i2⟩ := ax_ix hi hj h31 c5
  refine W.zast G.2.1 G.2.2.1 c1 (State.isArrayOf_alike G.2.2.2.2.2.2.2.2.2.1.alike c2) c4 i1 rfl rfl dec fun H1 e z oq => ?_
  rw [i2] at e ⊢
  refine kk H1 _ cells slots L (hR.set ha z oq (ax_arr.store (a := (n, .inl f)) ha c6 c2 (c8 ha) e rfl fun k _ => ?_)) (t_lc hl ha) hL hn g1 g2
  by_cases hk : k = j
  · subst hk
    simp [ax_val, upd, vp_nar, narrow]
  · simp [ax_val, upd, hk]
theorem ax_lastore (G : ax_C Ω Γ y cc nL ret hh d) {a n : Nat} {f : Nat → Int64} {i : Int32} {x : Int64} (j : Nat) (dec : decode cc pc = .ok (.lastore, 1)) (he : h.1 a = some (.inl (.long, n, .inr (.inl f)))) (ha : Ω.2.1.heap.size ≤ a) (hi : i = nI j) (hj : j < n) (h31 : n < 2 ^ 31)
    (kk : ax_W Ω Γ kb nb (ax_set h a (.inl (.long, n, .inr (.inl (vp_updL f j x))))) (pc + 1) ls rest) : ax_W Ω Γ kb nb h pc ls (.long x :: .int i :: .ref a :: rest) := by
  intro H locs cells slots L hR hl hL hn g1 g2
  obtain ⟨cell, c1, c2, c4, c5, c6, c7, c8⟩ := hR.2.2.2 a _ he
  obtain ⟨i1, i2⟩ := ax_ix hi hj h31 c5
  refine W.last G.2.1 G.2.2.1 c1 (State.isArrayOf_alike G.2.2.2.2.2.2.2.2.2.1.alike c2) c4 i1 rfl rfl dec fun H1 e z oq => ?_
  rw [i2] at e ⊢
  refine kk H1 _ cells slots L (hR.set ha z oq (ax_arr.store (a := (n, .inr (.inl f))) ha c6 c2 (c8 ha) e rfl fun k _ => ?_)) (t_lc hl ha) hL hn g1 g2
  by_cases hk : k = j
  · subst hk
    simp [ax_val, vp_updL]
  · simp [ax_val, vp_updL, hk]
theorem ax_dastore (G : ax_C Ω Γ y cc nL ret hh d) {a n : Nat} {f : Nat → UInt64} {i : Int32} {x : UInt64} (j : Nat) (dec : decode cc pc = .ok (.dastore, 1)) (he : h.1 a = some (.inl (.double, n, .inr (.inr (.inr (.inl f)))))) (ha : Ω.2.1.heap.size ≤ a) (hi : i = nI j) (hj : j < n) (h31 : n < 2 ^ 31)
    (kk : ax_W Ω Γ kb nb (ax_set h a (.inl (.double, n, .inr (.inr (.inr (.inl (vf_upd f j x))))))) (pc + 1) ls rest) : ax_W Ω Γ kb nb h pc ls (.double x :: .int i :: .ref a :: rest) := by
  intro H locs cells slots L hR hl hL hn g1 g2
  obtain ⟨cell, c1, c2, c4, c5, c6, c7, c8⟩ := hR.2.2.2 a _ he
  obtain ⟨i1, i2⟩ := ax_ix hi hj h31 c5
  refine W.dast G.2.1 G.2.2.1 c1 (State.isArrayOf_alike G.2.2.2.2.2.2.2.2.2.1.alike c2) c4 i1 rfl rfl dec fun H1 e z oq => ?_
  rw [i2] at e ⊢
  refine kk H1 _ cells slots L (hR.set ha z oq (ax_arr.store (a := (n, .inr (.inr (.inr (.inl f))))) ha c6 c2 (c8 ha) e rfl fun k _ => ?_)) (t_lc hl ha) hL hn g1 g2
  by_cases hk : k = j
  · subst hk
    simp [ax_val, vf_upd]
  · simp [ax_val, vf_upd, hk]
theorem ax_aastoreN (G : ax_C Ω Γ y cc nL ret hh d) {a n : Nat} {f : Nat → Option Nat} {C : String} {i : Int32} (j : Nat) (dec : decode cc pc = .ok (.aastore, 1)) (he : h.1 a = some (.inl (.object C, n, .inr (.inr (.inr (.inr f)))))) (ha : Ω.2.1.heap.size ≤ a) (hi : i = nI j) (hj : j < n) (h31 : n < 2 ^ 31)
    (kk : ax_W Ω Γ kb nb (ax_set h a (.inl (.object C, n, .inr (.inr (.inr (.inr (va_up f j none))))))) (pc + 1) ls rest) : ax_W Ω Γ kb nb h pc ls (.null :: .int i :: .ref a :: rest) := by
  intro H locs cells slots L hR hl hL hn g1 g2
  obtain ⟨cell, c1, c2, c4, c5, c6, c7, c8⟩ := hR.2.2.2 a _ he
  obtain ⟨i1, i2⟩ := ax_ix hi hj h31 c5
  refine va_WaastN (C := C) G.2.1 G.2.2.1 c1 (State.isArrayOf_alike G.2.2.2.2.2.2.2.2.2.1.alike c2) c4 i1 rfl rfl dec fun H1 e z oq => ?_
  rw [i2] at e ⊢
  refine kk H1 _ cells slots L (hR.set ha z oq (ax_arr.store (a := (n, .inr (.inr (.inr (.inr f))))) ha c6 c2 (c8 ha) e rfl fun k _ => ?_)) (t_lc hl ha) hL hn g1 g2
  by_cases hk : k = j
  · subst hk
    simp [ax_val, va_up, va_rf]
  · simp [ax_val, va_up, hk]
/-- the object of class ci may lie in a row of C -/
def ax_may (ci : Nat) (C : String) : Prop := ∃ r : vw_C, ax_CL[ci]? = some r ∧ (r.1 = C ∨ Cond.castable r.1 C ∈ lw_tbl)
theorem ax_aastore (G : ax_C Ω Γ y cc nL ret hh d) {a n v ci : Nat} {fs : List Value} {f : Nat → Option Nat} {C : String} {i : Int32} (j : Nat) (dec : decode cc pc = .ok (.aastore, 1)) (he : h.1 a = some (.inl (.object C, n, .inr (.inr (.inr (.inr f)))))) (ha : Ω.2.1.heap.size ≤ a) (hv : h.1 v = some (.inr (ci, fs))) (hm : ax_may ci C) (hi : i = nI j) (hj : j < n) (h31 : n < 2 ^ 31)
    (kk : ax_W Ω Γ kb nb (ax_set h a (.inl (.object C, n, .inr (.inr (.inr (.inr (va_up f j (some v)))))))) (pc + 1) ls rest) : ax_W Ω Γ kb nb h pc ls (.ref v :: .int i :: .ref a :: rest) := by
  intro H locs cells slots L hR hl hL hn g1 g2
  obtain ⟨cell, c1, c2, c4, c5, c6, c7, c8⟩ := hR.2.2.2 a _ he
  obtain ⟨i1, i2⟩ := ax_ix hi hj h31 c5
  have hw := G.2.2.2.2.2.2.2.2.2.1
  obtain ⟨r, hc, hm⟩ := hm
  obtain ⟨r', hr', cellV, w1, w2, w3, -⟩ := hR.2.2.2 v _ hv
  cases Option.some.inj (hr'.symm.trans hc)
  obtain ⟨-, hcls, kC, hkC, hkind⟩ := (ax_kn G.1 hw).1 ci r hc
  obtain ⟨⟨kA, comp, k1, k2, k3, -⟩, cA, hcA⟩ := c8 ha
  obtain ⟨kA', hkA', heA⟩ := hw.alike.2.2 _ _ k1
  have k3' : Γ.2.2.2.1.vm.findClass C = some comp := by rw [hw.alike.findClass]; exact k3
  obtain ⟨kE, hkE, -⟩ := Vm.findClass_spec k3'
  have hasg : Γ.2.2.2.1.vm.assignable (Ω.2.2.1.1 ci) comp = true := by
    rcases hm with e | e
    · rw [e] at hcls
      cases hcls.symm.trans k3'
      exact va_asg _ _
    · obtain ⟨c0, t1, f1, f2, f3⟩ := Cond.castable_spec (va_Nw.use (A := Γ.2.2.2.2.2.1) rfl (ax_cast G.1 hw e))
      cases hcls.symm.trans f1
      cases k3'.symm.trans f2
      exact f3
  refine W.aast G.2.1 G.2.2.1 c1 (fun q h => by rw [hcA] at h; cases h) c4 hkA' (by rw [heA]; exact k2) rfl hkE ⟨fun z => i1 (Or.inl z), Nat.not_le.mp fun z => i1 (Or.inr z)⟩ w1 (fun q h => by rw [w3] at h; cases h) (by rw [w2]; exact hkC) (by rw [w2]; exact hasg) rfl rfl dec fun H1 e z oq => ?_
  rw [i2] at e ⊢
  refine kk H1 _ cells slots L (hR.set ha z oq (ax_arr.store (a := (n, .inr (.inr (.inr (.inr f))))) ha c6 c2 (c8 ha) e rfl fun k _ => ?_)) (t_lc hl ha) hL hn g1 g2
  by_cases hk : k = j
  · subst hk
    simp [ax_val, va_up, va_rf]
  · simp [ax_val, va_up, hk]
/-! making -/
theorem ax_arr.made {U : State} {b0 : Nat} {ty : FieldType} {q : Nat} {a : vp_A} {H : Heap} {cA : ClassId} (h1 : H[q]? = some (arrV cA a.1 (ax_val a))) (hA : ArrOfT U cA ty) (hc : ax_comp U cA ty) : ax_arr U b0 ty q a H := by
  have hs : (arrV cA a.1 (ax_val a)).slots.size = a.1 := arrV_size _ _ _
  exact ⟨_, h1, hA _ _, (fun h => by cases h), by rw [hs]; exact Nat.le_refl _, by rw [hs], fun k hk => arrV_read _ _ hk, fun _ => ⟨hc, cA, rfl⟩⟩
theorem ax_newarray (G : ax_C Ω Γ y cc nL ret hh d) {atype : ArrayType} {ty : FieldType} {x : Int32} (n : Nat) (a0 : vp_A) (dec : decode cc pc = .ok (.newarray atype, 2)) (hty : newarray.typeOf atype = ty) (hword : Cond.arrayClass ty ∈ lw_all) (hx : x = nI n) (h31 : n < 16777216) (h0 : a0.1 = n) (ha0 : ∀ j, ax_val a0 j = defaultValue ty)
    (kk : ax_W Ω Γ kb nb (ax_add h (.inl (ty, a0))) (pc + 2) ls (.ref h.2 :: rest)) : ax_W Ω Γ (kb + 1) (nb + n) h pc ls (.int x :: rest) := by
  intro H locs cells slots L hR hl hL hn g1 g2
  subst hty
  have hw := G.2.2.2.2.2.2.2.2.2.1
  have hc : x.toNatClampNeg = n := by rw [hx]; exact nI_clamp (by omega)
  refine va_newaK G.2.1 G.2.2.1 (ax_words G.1 hw hword _) rfl dec rfl (by rw [hx]; exact nI_pos (by omega)) hc (by cases atype <;> (simp only [newarray.typeOf, componentBytes]; omega)) (by omega) (by omega) rfl fun H1 cA e1 z1 o1 hAr hNm => ?_
  have hk := kk H1 locs (cells + 1) (slots + n) L (hR.add z1 o1 (ax_arr.made (cA := cA) (by rw [h0, funext ha0]; exact e1) (arrOfT_moved hw.alike.symm hAr) (by have q9 := hNm; rw [hw.alike.findClass] at q9; cases atype <;> exact q9))) hl hL hn (by omega) (by omega)
  rw [← hR.1] at hk
  exact hk
theorem ax_anewarray (G : ax_C Ω Γ y cc nL ret hh d) {idx : Nat} {C : String} {x : Int32} (n : Nat) (dec : decode cc pc = .ok (.anewarray idx, 3)) (hlink : Cond.classLink y.cls idx C ∈ lw_all) (hword : Cond.arrayOver (.object C) ∈ lw_tbl) (hx : x = nI n) (h31 : n < 16777216)
    (kk : ax_W Ω Γ kb nb (ax_add h (.inl (.object C, n, .inr (.inr (.inr (.inr fun _ => none)))))) (pc + 3) ls (.ref h.2 :: rest)) : ax_W Ω Γ (kb + 1) (nb + n) h pc ls (.int x :: rest) := by
  intro H locs cells slots L hR hl hL hn g1 g2
  have hw := G.2.2.2.2.2.2.2.2.2.1
  have hc : x.toNatClampNeg = n := by rw [hx]; exact nI_clamp (by omega)
  obtain ⟨A0, hA0⟩ := G.1.2.2.1
  have hover : va_AO C Γ.2.2.2.1 := va_AO.moved hw.alike (va_AO.of (hA0 _ hword))
  refine W.anew G.2.1 G.2.2.1 G.2.2.2.2.1 (ax_words G.1 hw hlink _) (va_AO.use hover) rfl dec rfl (by rw [hx]; exact nI_pos (by omega)) (by rw [hc]; omega) (by omega) (by rw [hc]; omega) fun cA kA comp f1 f2 f3 f4 => ?_
  rw [hc]
  generalize hH1 : H.push ({ cls := cA, slots := Array.replicate n .null, vm := .none } : Cell) = H1
  have z1 : H1.size = H.size + 1 := by rw [← hH1, Array.size_push]
  have e1 : H1[H.size]? = some (arrV cA n (fun _ => .null)) := by rw [← hH1, Array.getElem?_push_size, ← arrV_new]
  have o1 : ∀ q : Nat, q < H.size → H1[q]? = H[q]? := fun q hq => by rw [← hH1, Array.getElem?_push, if_neg (Nat.ne_of_lt hq)]
  have hAr : ArrOfT Γ.2.2.2.1 cA (.object C) := fun N z => ⟨(fun k h => by cases h), kA, f2, comp, f3⟩
  obtain ⟨kA', hkA', heA⟩ := hw.alike.symm.2.2 _ _ f2
  have hk := kk H1 locs (cells + 1) (slots + n) L (hR.add z1 o1 (ax_arr.made (a := (n, .inr (.inr (.inr (.inr fun _ => none))))) (cA := cA) e1 (arrOfT_moved hw.alike.symm hAr) ⟨kA', comp, hkA', by rw [heA]; exact f3, by rw [hw.alike.symm.findClass]; exact f4, by rw [hw.alike.symm.findClass]; exact f1⟩)) hl hL hn (by omega) (by omega)
  rw [← hR.1] at hk
  exact hk
theorem ax_new (G : ax_C Ω Γ y cc nL ret hh d) {idx ci N : Nat} {r : vw_C} {ty : Nat → FieldType} (fs : List Value) (dec : decode cc pc = .ok (.new idx, 3)) (hc : ax_CL[ci]? = some r) (hok : ax_cok r ty) (hN : r.2.2 = N) (hlink : Cond.classLink y.cls idx r.1 ∈ lw_all) (hinst : Cond.instantiable r.1 N ∈ lw_all) (hini : Cond.initialized r.1 ∈ lw_all) (hfs : ∀ j, j < N → defaultValue (ty j) = vp_V fs j)
    (kk : ax_W Ω Γ kb nb (ax_add h (.inr (ci, fs))) (pc + 3) ls (.ref h.2 :: rest)) : ax_W Ω Γ (kb + 1) (nb + N) h pc ls rest := by
  intro H locs cells slots L hR hl hL hn g1 g2
  have hw := G.2.2.2.2.2.2.2.2.2.1
  have hts : ∀ w ∈ lw_all, w.before Γ.2.2.2.2.2.1 Γ.2.2.2.1 = true := fun w hw' => ax_words G.1 hw hw' _
  have hKn := (ax_kn G.1 hw).1 ci r hc
  subst hN
  refine W.newcK G.2.1 G.2.2.1 G.2.2.2.2.1 (hts _ hlink) (hts _ hinst) (hts _ hini) rfl dec (by omega) (by omega) hKn.2.1 rfl fun H1 kC hkC e1 z1 o1 => ?_
  have hk := kk H1 locs (cells + 1) (slots + r.2.2) L (hR.add z1 o1 ⟨r, hc, (u_born ty hts hok.1 hKn hkC e1 hok.2.1).to hfs⟩) hl hL hn (by omega) (by omega)
  rw [← hR.1] at hk
  exact hk
theorem ax_objInit (G : ax_C Ω Γ y cc nL ret hh d) {idx a : Nat} (hd1 : 1 ≤ d) (hlink : Cond.methodLink y.cls idx objectInit ∈ lw_all) (hinst : Cond.instanceMethod objectInit ∈ lw_all) (hcode : Cond.code objectInit ⟨#[0xb1]⟩ 1 none ∈ lw_all) (dec : decode cc pc = .ok (.invokespecial idx, 3)) (hr : (rest.map fun v => v.category).sum ≤ 20)
    (kk : ax_W Ω Γ kb nb h (pc + 3) ls rest) : ax_W Ω Γ kb nb h pc ls (.ref a :: rest) := by
  intro H locs cells slots L hR hl hL hn g1 g2
  have hw := G.2.2.2.2.2.2.2.2.2.1
  have hts : ∀ w ∈ lw_all, w.before Γ.2.2.2.2.2.1 Γ.2.2.2.1 = true := fun w hw' => ax_words G.1 hw hw' _
  have hf := G.2.2.2.2.2.2.2.2.2.2.2
  exact W.objInit G.2.1 G.2.2.1 G.2.2.2.2.1 (hts _ hlink) (hts _ hinst) (hts _ hcode) rfl (hL.1.trans hn) rfl dec (by omega) (by show 2 * 0 + _ + 12 ≤ _; omega) (kk H locs cells slots L hR hl hL hn g1 g2)
end AXH
