/-! PLAIN LAW: what is changed by hand keeps a row in bounds -/
def pPol (v : Int32) : Prop := ∃ p, p < 4 ∧ v = nI p
section LAWH
variable {pl s t : pR} {P V O A : Nat}
theorem pF_up {i : Nat} {v : Int32} (hi : i < 127 ∨ 227 ≤ i) : upd (pF A s) i v = pF A (upd s i v) := by
  funext j
  by_cases e : j = i
  · subst e
    rw [pu_eq, pF_o (pX_lo hi), pu_eq]
  · rw [pu_ne e]
    unfold pF
    rw [pu_ne e]
theorem pBS.of (hs : pBS pl s A) {i : Nat} (hi : i = 5 ∨ i = 15 ∨ (17 ≤ i ∧ i < 23) ∨ (107 ≤ i ∧ i < 127)) {v : Int32} (h5 : i = 5 → pPol v) (hc : i = 15 → vB v 10 2000)
    (hg : ∀ q, q < 6 → i = 17 + q → vB v 0 9999 ∧ (s (23 + q)).toInt + (s (29 + q)).toInt ≤ v.toInt) (hr : 107 ≤ i → vB v 0 9) : pBS pl (upd s i v) A := by
  have U : ∀ j, j ≠ i → upd s i v j = s j := fun j hj => pu_ne hj
  refine ⟨⟨?_, ?_, ?_, ?_, ?_⟩, ⟨?_, ?_⟩, ⟨fun j hj => ?_, fun j hj => ?_⟩, fun p hp6 => ?_, fun j hj => ?_, fun j hj => ?_⟩
  · rw [U 0 (by omega)]; exact hs.t0
  · rw [U 0 (by omega)]; exact hs.th
  · rw [U 1 (by omega)]; exact hs.1.2.2.1
  · rw [U 2 (by omega)]; exact hs.1.2.2.2.1
  · rw [U 3 (by omega)]; exact hs.m
  · by_cases e : i = 5
    · subst e; rw [pu_eq]; exact h5 rfl
    · rw [U 5 (by omega)]; exact hs.pol
  · by_cases e : i = 15
    · subst e; rw [pu_eq]; exact hc rfl
    · rw [U 15 (by omega)]; exact hs.cad
  · rw [U _ (by omega), U _ (by omega), U _ (by omega), U _ (by omega), U _ (by omega), U _ (by omega)]
    exact hs.al.1 j hj
  · rw [U _ (by omega)]; exact hs.al.2 j hj
  · have g := hs.g p hp6
    by_cases e : i = 17 + p
    · subst e
      rw [pu_eq, U (23 + p) (by omega), U (29 + p) (by omega)]
      exact ⟨(hg p hp6 rfl).1, g.2.1, g.2.2.1, (hg p hp6 rfl).2⟩
    · rw [U (17 + p) (by omega), U (23 + p) (by omega), U (29 + p) (by omega)]; exact g
  · by_cases e : 107 + j = i
    · subst e; rw [pu_eq]; exact hr (by omega)
    · rw [U _ e]; exact hs.pri j hj
  · rw [U _ (by omega), U _ (by omega)]; exact hs.lg j hj
theorem pIm.u {i : Nat} {v : Int32} (hi : i < 127 ∨ 227 ≤ i) : pIm s (upd s i v) := pIm_of fun j h1 h2 => pu_ne (by omega)
theorem vB_n {n : Nat} {a b : Int} (h1 : a ≤ n) (h2 : (n : Int) ≤ b) (h3 : n < 2 ^ 31) : vB (nI n) a b := ⟨by rw [nI_toInt h3]; exact h1, by rw [nI_toInt h3]; exact h2⟩
theorem xRw.one (h : xRw pl s V A) (hV : V ≤ 20) {i : Nat} (hi : i = 5 ∨ i = 15 ∨ (17 ≤ i ∧ i < 23) ∨ (107 ≤ i ∧ i < 127)) {v : Int32} (h5 : i = 5 → pPol v) (hc : i = 15 → vB v 10 2000)
    (hg : ∀ q, q < 6 → i = 17 + q → vB v 0 9999 ∧ (s (23 + q)).toInt + (s (29 + q)).toInt ≤ v.toInt) (hr : 107 ≤ i → vB v 0 9) : xRw pl (upd s i v) V A :=
  ⟨h.1.up _ (by omega) (by omega) (fun k _ => by omega), h.2.1.of hi h5 hc hg hr, h.2.2.1.cg hV (fun j hj => pu_ne (by omega)), h.2.2.2.cg (fun j hj => pu_ne (by omega))⟩
theorem xRw.pol (h : xRw pl s V A) (hV : V ≤ 20) {p : Nat} (hp : p < 4) : xRw pl (upd s 5 (nI p)) V A := h.one hV (by omega) (fun _ => ⟨p, hp, rfl⟩) (fun z => by omega) (fun q _ z => by omega) (fun z => by omega)
theorem xRw.cad (h : xRw pl s V A) (hV : V ≤ 20) {v : Int32} (hv : vB v 10 2000) : xRw pl (upd s 15 v) V A := h.one hV (by omega) (fun z => by omega) (fun _ => hv) (fun q _ z => by omega) (fun z => by omega)
theorem xRw.pri (h : xRw pl s V A) (hV : V ≤ 20) {k : Nat} (hk : k < 20) {v : Int32} (hv : vB v 0 9) : xRw pl (upd s (107 + k) v) V A := h.one hV (by omega) (fun z => by omega) (fun z => by omega) (fun q _ z => by omega) (fun _ => hv)
theorem cOf_u {p : Int32} {v : Nat} {x : Int32} (h0 : ¬ s (47 + v) = nI 1) (h1 : ¬ x = nI 1) : ∀ {n : Nat}, n ≤ 20 → cOf pl (upd s (47 + v) x) p (nI 1) n = cOf pl s p (nI 1) n
  | 0, _ => rfl
  | n + 1, hn => by
    rw [cOf, cOf, cOf_u h0 h1 (by omega), pProp_v (s := s) (by omega)]
    by_cases e : n = v
    · subst e; rw [pu_eq, if_neg h1, if_neg h0]
    · rw [pu_ne (by omega)]
theorem xRw.st (h : xRw pl s V A) (hV : V ≤ 20) {v : Nat} (hv : v < 20) {x : Int32} (h0 : ¬ s (47 + v) = nI 1) (h1 : ¬ x = nI 1) : xRw pl (upd s (47 + v) x) V A :=
  ⟨h.1.up _ (by omega) (by omega) (fun k _ => by omega), h.2.1.same h.1.lA (fun i _ hi => pu_ne (fun z => hi (by unfold pFree; omega))), fun p hp => by rw [cOf_u h0 h1 hV, pu_ne (by omega)]; exact h.2.2.1 p hp, h.2.2.2.cg (fun j hj => pu_ne (by omega))⟩
theorem pLeft_b (hs : pBS pl s A) {q : Nat} (hq : q < 6) : (pLeft s q).toInt = (s (17 + q)).toInt - (s (23 + q)).toInt - (s (29 + q)).toInt ∧ 0 ≤ (pLeft s q).toInt := by
  obtain ⟨⟨g1, g2⟩, g3, g4, g5⟩ := hs.g q hq
  have e1 : (s (17 + q) - s (23 + q)).toInt = (s (17 + q)).toInt - (s (23 + q)).toInt := i32_sub (by omega) (by omega)
  have e2 : (s (17 + q) - s (23 + q) - s (29 + q)).toInt = (s (17 + q) - s (23 + q)).toInt - (s (29 + q)).toInt := i32_sub (by omega) (by omega)
  unfold pLeft
  rw [e2, e1]
  exact ⟨rfl, by omega⟩
theorem xRw.grant (h : xRw pl s V A) (hV : V ≤ 20) {q : Nat} (hq : q < 6) {mi : Int32} (h1 : pIn mi (-2000) (nI 2000) = true) (h2 : ¬ pLeft s q + mi < 0) (h3 : ¬ nI 9999 < s (17 + q) + mi) : xRw pl (pAdd s (17 + q) mi) V A := by
  obtain ⟨⟨g1, g2⟩, g3, g4, g5⟩ := h.2.1.g q hq
  obtain ⟨l1, l2⟩ := pLeft_b h.2.1 hq
  have m := (Bool.and_eq_true _ _).mp h1
  have m1 := le_t.mp (of_decide_eq_true m.1)
  have m2 := le_t.mp (of_decide_eq_true m.2)
  rw [nI_toInt (by decide)] at m2
  have m3 : (-2000 : Int32).toInt = -2000 := by decide
  rw [m3] at m1
  have e1 : (s (17 + q) + mi).toInt = (s (17 + q)).toInt + mi.toInt := i32_add (by omega) (by omega)
  have e2 : (pLeft s q + mi).toInt = (pLeft s q).toInt + mi.toInt := i32_add (by omega) (by omega)
  have f2 := le_t.mp (Int32.not_lt.mp h2)
  have f3 := le_t.mp (Int32.not_lt.mp h3)
  rw [nI_toInt (by decide), e1] at f3
  rw [e2, t_0] at f2
  refine h.one hV (by omega) (fun z => by omega) (fun z => by omega) (fun q' _ z => ?_) (fun z => by omega)
  have : q' = q := by omega
  subst this
  exact ⟨⟨by rw [e1]; omega, by rw [e1]; omega⟩, by rw [e1]; omega⟩
theorem xRw.sky (h : xRw pl s V A) (hV : V ≤ 20) (hp : pBP pl V) {x : Int32} (h0 : 0 ≤ x.toInt) (h1 : x.toInt ≤ (pl 0).toInt) (e0 : t 0 = x) (e3 : t 3 = s 3 ∨ t 3 = 0) (hW : pWS t A) (e : ∀ i, i ≠ 0 → i ≠ 3 → i ≠ 4 → (i < 6 ∨ 13 < i) → t i = s i) : xRw pl t V A := by
  have b1 : pBS pl (upd t 3 (s 3)) A := h.2.1.time h.1.lA h0 h1 hp (by rw [pu_ne (by omega)]; exact e0) (fun i _ i2 i3 => by
    have n1 : ¬ (i = 4 ∨ (6 ≤ i ∧ i < 15)) := fun z => i3 (by unfold pFree; omega)
    by_cases c : i = 3
    · subst c; rw [pu_eq]
    · rw [pu_ne c]; exact e i (by omega) c (by omega) (by omega))
  have b2 : pBS pl t A := by
    have U : ∀ j, j ≠ 3 → t j = upd t 3 (s 3) j := fun j hj => (pu_ne hj).symm
    refine ⟨⟨?_, ?_, ?_, ?_, ?_⟩, ⟨?_, ?_⟩, ⟨fun j hj => ?_, fun j hj => ?_⟩, fun p hp6 => ?_, fun j hj => ?_, fun j hj => ?_⟩
    · rw [U 0 (by omega)]; exact b1.t0
    · rw [U 0 (by omega)]; exact b1.th
    · rw [U 1 (by omega)]; exact b1.1.2.2.1
    · rw [U 2 (by omega)]; exact b1.1.2.2.2.1
    · rcases e3 with c | c
      · rw [c]; exact h.2.1.m
      · rw [c]; exact ⟨by decide, by decide⟩
    · rw [U 5 (by omega)]; exact b1.pol
    · rw [U 15 (by omega)]; exact b1.cad
    · rw [U _ (by omega), U _ (by omega), U _ (by omega), U _ (by omega), U _ (by omega), U _ (by omega)]
      exact b1.al.1 j hj
    · rw [U _ (by omega)]; exact b1.al.2 j hj
    · rw [U _ (by omega), U _ (by omega), U _ (by omega)]; exact b1.g p hp6
    · rw [U _ (by omega)]; exact b1.pri j hj
    · rw [U _ (by omega), U _ (by omega)]; exact b1.lg j hj
  exact ⟨hW, b2, h.2.2.1.cg hV (fun i hi => e i (by omega) (by omega) (by omega) (by omega)), h.2.2.2.cg (fun i hi => e i (by omega) (by omega) (by omega) (by omega))⟩
theorem xRw.dump (h : xRw pl s V A) (hV : V ≤ 20) (hp : pBP pl V) (hc : ¬ pl 0 < s 0 + pl 4) : xRw pl (pDumps pl s) V A := by
  obtain ⟨c1, c2⟩ := hp.b4
  obtain ⟨z1, z2⟩ := h.2.1.t0
  have h1 : (s 0 + pl 4).toInt = (s 0).toInt + (pl 4).toInt := i32_add (by omega) (by omega)
  refine h.sky hV hp (x := s 0 + pl 4) (by omega) (le_t.mp (Int32.not_lt.mp hc)) ?_ (Or.inr ?_) h.1.dumps (fun i i1 i2 i3 i4 => ?_)
  · unfold pDumps
    simp (disch := omega) only [↓pads_ne, ↓pad_ne, ↓pu_ne, ↓pad_eq]
  · unfold pDumps
    simp (disch := omega) only [↓pads_ne, ↓pad_ne, ↓pu_ne, ↓pu_eqq]
  · unfold pDumps
    simp (disch := omega) only [↓pads_ne, ↓pad_ne, ↓pu_ne]
theorem xRw.cal (h : xRw pl s V A) (hV : V ≤ 20) (hp : pBP pl V) (hc : ¬ pl 0 < s 0 + pl 6) : xRw pl (pCalibrates pl s) V A := by
  obtain ⟨c1, c2⟩ := hp.b6
  obtain ⟨z1, z2⟩ := h.2.1.t0
  have h1 : (s 0 + pl 6).toInt = (s 0).toInt + (pl 6).toInt := i32_add (by omega) (by omega)
  refine h.sky hV hp (x := s 0 + pl 6) (by omega) (le_t.mp (Int32.not_lt.mp hc)) ?_ (Or.inl ?_) h.1.calibrates (fun i i1 i2 i3 i4 => ?_)
  · unfold pCalibrates
    simp (disch := omega) only [↓pads_ne, ↓pad_ne, ↓pu_ne, ↓pad_eq]
  · unfold pCalibrates
    simp (disch := omega) only [↓pads_ne, ↓pad_ne, ↓pu_ne]
  · unfold pCalibrates
    simp (disch := omega) only [↓pads_ne, ↓pad_ne, ↓pu_ne]
theorem pIm.dump : pIm s (pDumps pl s) := pIm_of fun i h1 h2 => by
  unfold pDumps
  simp (disch := omega) only [↓pads_ne, ↓pad_ne, ↓pu_ne]
end LAWH
