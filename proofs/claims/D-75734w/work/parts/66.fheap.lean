/-! HEAPS THAT CHANGE, told by facts: what a write or a new thing leaves -/
theorem ax_set_e {h : ax_H} {a : Nat} {e : ax_E} : (ax_set h a e).1 a = some e := if_pos rfl
theorem ax_set_n {h : ax_H} {a q : Nat} {e : ax_E} (hq : q ≠ a) : (ax_set h a e).1 q = h.1 q := if_neg hq
theorem ax_add_e {h : ax_H} {e : ax_E} : (ax_add h e).1 h.2 = some e := if_pos rfl
theorem ax_add_n {h : ax_H} {q : Nat} {e : ax_E} (hq : q ≠ h.2) : (ax_add h e).1 q = h.1 q := if_neg hq
/-- nothing is told of what isn't there -/
def ax_wf (h : ax_H) : Prop := ∀ q, h.2 ≤ q → h.1 q = none
theorem ax_wf.lt {h : ax_H} (w : ax_wf h) {q : Nat} {e : ax_E} (he : h.1 q = some e) : q < h.2 := by
  refine Nat.lt_of_not_le fun z => ?_
  rw [w q z] at he; cases he
theorem ax_wf.of {h h1 : ax_H} {x : Nat} {e : ax_E} (w : ax_wf h) (hx : x < h.2) (f : ∀ q, q ≠ x → h1.1 q = h.1 q) (z : h1.2 = h.2) : ax_wf h1 := fun q hq => by
  rw [z] at hq
  rw [f q (by omega)]; exact w q hq
theorem ax_wf.ofA {h h1 : ax_H} (w : ax_wf h) (f : ∀ q, q ≠ h.2 → h1.1 q = h.1 q) (z : h1.2 = h.2 + 1) : ax_wf h1 := fun q hq => by
  rw [z] at hq
  rw [f q (by omega)]; exact w q (by omega)
section AXHV
variable {Ω : ax_O} {Γ : ax_F} {kb nb pc : Nat} {h : ax_H} {ls : List (Option Value)} {st : List Value}
theorem ax_hvS {a : Nat} {e : ax_E} (w : ax_wf h) (ha : a < h.2) (k : ∀ h1 : ax_H, h1.1 a = some e → (∀ q, q ≠ a → h1.1 q = h.1 q) → h1.2 = h.2 → ax_wf h1 → ax_W Ω Γ kb nb h1 pc ls st) : ax_W Ω Γ kb nb (ax_set h a e) pc ls st :=
  k _ ax_set_e (fun _ hq => ax_set_n hq) rfl (w.of (e := e) ha (fun _ hq => ax_set_n hq) rfl)
theorem ax_hvA {e : ax_E} (w : ax_wf h) (k : ∀ h1 : ax_H, h1.1 h.2 = some e → (∀ q, q ≠ h.2 → h1.1 q = h.1 q) → h1.2 = h.2 + 1 → ax_wf h1 → ax_W Ω Γ kb nb h1 pc ls st) : ax_W Ω Γ kb nb (ax_add h e) pc ls st :=
  k _ ax_add_e (fun _ hq => ax_add_n hq) rfl (w.ofA (fun _ hq => ax_add_n hq) rfl)
end AXHV
