/-! THE COMPONENT: what is expected, numbers -/
/-- the parser's literals: place in its pool, letters -/
def xLits : List (Nat × List Nat) := [(9, []), (66, [63]), (86, [35]), (88, [59]), (90, [45]), (120, [115, 99, 111, 112, 101]), (121, [104, 111, 114, 105, 122, 111, 110]), (128, [115, 101, 116, 116, 108, 101]), (132, [115, 112, 101, 101, 100]), (136, [99, 97, 112]), (140, [100, 117, 109, 112]), (144, [99, 97, 100, 101, 110, 99, 101]), (148, [99, 97, 108]), (152, [115, 117, 110]), (156, [100, 114, 105, 102, 116]), (160, [97, 118, 111, 105, 100]), (189, [112, 114, 111, 112, 111, 115, 97, 108]), (191, [118, 105, 115, 105, 116]), (193, [97, 108, 101, 114, 116]), (195, [111, 117, 116, 97, 103, 101])]
def xLs (Ω : ax_O) (h : ax_H) : Prop := ∀ q ∈ xLits, sLit h (Ω.2.2.2.1 "TelescopeQueue$Parser" q.1) q.2.length (fun i => q.2.getD i 0)
theorem xLm_9 : (9, []) ∈ xLits := List.Mem.head _
theorem xLm_66 : (66, [63]) ∈ xLits := List.Mem.tail _ (List.Mem.head _)
theorem xLm_86 : (86, [35]) ∈ xLits := List.Mem.tail _ (List.Mem.tail _ (List.Mem.head _))
theorem xLm_88 : (88, [59]) ∈ xLits := List.Mem.tail _ (List.Mem.tail _ (List.Mem.tail _ (List.Mem.head _)))
theorem xLm_90 : (90, [45]) ∈ xLits := List.Mem.tail _ (List.Mem.tail _ (List.Mem.tail _ (List.Mem.tail _ (List.Mem.head _))))
theorem xLm_120 : (120, [115, 99, 111, 112, 101]) ∈ xLits := List.Mem.tail _ (List.Mem.tail _ (List.Mem.tail _ (List.Mem.tail _ (List.Mem.tail _ (List.Mem.head _)))))
theorem xLm_121 : (121, [104, 111, 114, 105, 122, 111, 110]) ∈ xLits := List.Mem.tail _ (List.Mem.tail _ (List.Mem.tail _ (List.Mem.tail _ (List.Mem.tail _ (List.Mem.tail _ (List.Mem.head _))))))
theorem xLm_128 : (128, [115, 101, 116, 116, 108, 101]) ∈ xLits := List.Mem.tail _ (List.Mem.tail _ (List.Mem.tail _ (List.Mem.tail _ (List.Mem.tail _ (List.Mem.tail _ (List.Mem.tail _ (List.Mem.head _)))))))
theorem xLm_132 : (132, [115, 112, 101, 101, 100]) ∈ xLits := List.Mem.tail _ (List.Mem.tail _ (List.Mem.tail _ (List.Mem.tail _ (List.Mem.tail _ (List.Mem.tail _ (List.Mem.tail _ (List.Mem.tail _ (List.Mem.head _))))))))
theorem xLm_136 : (136, [99, 97, 112]) ∈ xLits := List.Mem.tail _ (List.Mem.tail _ (List.Mem.tail _ (List.Mem.tail _ (List.Mem.tail _ (List.Mem.tail _ (List.Mem.tail _ (List.Mem.tail _ (List.Mem.tail _ (List.Mem.head _)))))))))
theorem xLm_140 : (140, [100, 117, 109, 112]) ∈ xLits := List.Mem.tail _ (List.Mem.tail _ (List.Mem.tail _ (List.Mem.tail _ (List.Mem.tail _ (List.Mem.tail _ (List.Mem.tail _ (List.Mem.tail _ (List.Mem.tail _ (List.Mem.tail _ (List.Mem.head _))))))))))
theorem xLm_144 : (144, [99, 97, 100, 101, 110, 99, 101]) ∈ xLits := List.Mem.tail _ (List.Mem.tail _ (List.Mem.tail _ (List.Mem.tail _ (List.Mem.tail _ (List.Mem.tail _ (List.Mem.tail _ (List.Mem.tail _ (List.Mem.tail _ (List.Mem.tail _ (List.Mem.tail _ (List.Mem.head _)))))))))))
theorem xLm_148 : (148, [99, 97, 108]) ∈ xLits := List.Mem.tail _ (List.Mem.tail _ (List.Mem.tail _ (List.Mem.tail _ (List.Mem.tail _ (List.Mem.tail _ (List.Mem.tail _ (List.Mem.tail _ (List.Mem.tail _ (List.Mem.tail _ (List.Mem.tail _ (List.Mem.tail _ (List.Mem.head _))))))))))))
theorem xLm_152 : (152, [115, 117, 110]) ∈ xLits := List.Mem.tail _ (List.Mem.tail _ (List.Mem.tail _ (List.Mem.tail _ (List.Mem.tail _ (List.Mem.tail _ (List.Mem.tail _ (List.Mem.tail _ (List.Mem.tail _ (List.Mem.tail _ (List.Mem.tail _ (List.Mem.tail _ (List.Mem.tail _ (List.Mem.head _)))))))))))))
theorem xLm_156 : (156, [100, 114, 105, 102, 116]) ∈ xLits := List.Mem.tail _ (List.Mem.tail _ (List.Mem.tail _ (List.Mem.tail _ (List.Mem.tail _ (List.Mem.tail _ (List.Mem.tail _ (List.Mem.tail _ (List.Mem.tail _ (List.Mem.tail _ (List.Mem.tail _ (List.Mem.tail _ (List.Mem.tail _ (List.Mem.tail _ (List.Mem.head _))))))))))))))
theorem xLm_160 : (160, [97, 118, 111, 105, 100]) ∈ xLits := List.Mem.tail _ (List.Mem.tail _ (List.Mem.tail _ (List.Mem.tail _ (List.Mem.tail _ (List.Mem.tail _ (List.Mem.tail _ (List.Mem.tail _ (List.Mem.tail _ (List.Mem.tail _ (List.Mem.tail _ (List.Mem.tail _ (List.Mem.tail _ (List.Mem.tail _ (List.Mem.tail _ (List.Mem.head _)))))))))))))))
theorem xLm_189 : (189, [112, 114, 111, 112, 111, 115, 97, 108]) ∈ xLits := List.Mem.tail _ (List.Mem.tail _ (List.Mem.tail _ (List.Mem.tail _ (List.Mem.tail _ (List.Mem.tail _ (List.Mem.tail _ (List.Mem.tail _ (List.Mem.tail _ (List.Mem.tail _ (List.Mem.tail _ (List.Mem.tail _ (List.Mem.tail _ (List.Mem.tail _ (List.Mem.tail _ (List.Mem.tail _ (List.Mem.head _))))))))))))))))
theorem xLm_191 : (191, [118, 105, 115, 105, 116]) ∈ xLits := List.Mem.tail _ (List.Mem.tail _ (List.Mem.tail _ (List.Mem.tail _ (List.Mem.tail _ (List.Mem.tail _ (List.Mem.tail _ (List.Mem.tail _ (List.Mem.tail _ (List.Mem.tail _ (List.Mem.tail _ (List.Mem.tail _ (List.Mem.tail _ (List.Mem.tail _ (List.Mem.tail _ (List.Mem.tail _ (List.Mem.tail _ (List.Mem.head _)))))))))))))))))
theorem xLm_193 : (193, [97, 108, 101, 114, 116]) ∈ xLits := List.Mem.tail _ (List.Mem.tail _ (List.Mem.tail _ (List.Mem.tail _ (List.Mem.tail _ (List.Mem.tail _ (List.Mem.tail _ (List.Mem.tail _ (List.Mem.tail _ (List.Mem.tail _ (List.Mem.tail _ (List.Mem.tail _ (List.Mem.tail _ (List.Mem.tail _ (List.Mem.tail _ (List.Mem.tail _ (List.Mem.tail _ (List.Mem.tail _ (List.Mem.head _))))))))))))))))))
theorem xLm_195 : (195, [111, 117, 116, 97, 103, 101]) ∈ xLits := List.Mem.tail _ (List.Mem.tail _ (List.Mem.tail _ (List.Mem.tail _ (List.Mem.tail _ (List.Mem.tail _ (List.Mem.tail _ (List.Mem.tail _ (List.Mem.tail _ (List.Mem.tail _ (List.Mem.tail _ (List.Mem.tail _ (List.Mem.tail _ (List.Mem.tail _ (List.Mem.tail _ (List.Mem.tail _ (List.Mem.tail _ (List.Mem.tail _ (List.Mem.tail _ (List.Mem.head _)))))))))))))))))))
/-- what the parser's steps find: the text, the literals -/
def xEn (Ω : ax_O) (h : ax_H) (tx n : Nat) (tb b : Nat → Int32) (β : Nat → Nat) : Prop := h.1 tx = some (.inl (.byte, 1000, .inl tb)) ∧ (∀ j, j < n → tb j &&& nI 255 = b j) ∧ n ≤ 1000 ∧ xBy b β ∧ xLs Ω h
/-- things that don't change while a text is read -/
def xIm (e : ax_E) : Prop := (∀ ty m f, e = .inl (ty, m, f) → ty = .byte) ∧ (∀ ci fs, e = .inr (ci, fs) → ci = 19 ∨ (12 ≤ ci ∧ ci ≤ 15))
def xKp (h h' : ax_H) : Prop := ∀ q e, h.1 q = some e → xIm e → h'.1 q = some e
theorem xKp.rfl' (h : ax_H) : xKp h h := fun _ _ he _ => he
theorem xKp.trans {h h' h2 : ax_H} (a : xKp h h') (c : xKp h' h2) : xKp h h2 := fun q e he hi => c q e (a q e he hi) hi
theorem xIm_s {fs : List Value} : xIm (.inr (19, fs)) := ⟨fun _ _ _ z => (by cases z), fun _ _ z => by cases z; exact Or.inl rfl⟩
theorem xIm_b {m : Nat} {f : Nat → Int32} : xIm (.inl (.byte, m, .inl f)) := ⟨fun _ _ _ z => by cases z; rfl, fun _ _ z => by cases z⟩
theorem xIm_o {ci : Nat} {fs : List Value} (h : 12 ≤ ci ∧ ci ≤ 15) : xIm (.inr (ci, fs)) := ⟨fun _ _ _ z => (by cases z), fun _ _ z => by cases z; exact Or.inr h⟩
/-- one object changes -/
theorem xKp.one {h h' : ax_H} (wf : ax_wf h) {P ci : Nat} {fs : List Value} (hP : h.1 P = some (.inr (ci, fs))) (hc : ci < 12) (g : ∀ q, q < h.2 → q ≠ P → h'.1 q = h.1 q) : xKp h h' := fun q e he hi => by
  have hq : q ≠ P := fun x => by
    rw [x, hP] at he
    have h1 := hi.2 ci fs (Option.some.inj he).symm
    omega
  rw [g q (wf.lt he) hq]; exact he
theorem sStr.kp {h h' : ax_H} {w n : Nat} {t : Nat → Nat} (z : sStr h w n t) (k : xKp h h') : sStr h' w n t := by
  obtain ⟨e, hs, hz, b, b1, b2, b3⟩ := z
  exact ⟨e, hs, hz, b, k _ _ b1 xIm_s, k _ _ b2 xIm_b, b3⟩
theorem xEn.kp {Ω : ax_O} {h h' : ax_H} {tx n : Nat} {tb b : Nat → Int32} {β : Nat → Nat} (z : xEn Ω h tx n tb b β) (k : xKp h h') : xEn Ω h' tx n tb b β :=
  ⟨k _ _ z.1 xIm_b, z.2.1, z.2.2.1, z.2.2.2.1, fun q hq => ⟨(z.2.2.2.2 q hq).1.kp k, by
    obtain ⟨e, hs, hz, a, c⟩ := (z.2.2.2.2 q hq).2
    exact ⟨e, hs, hz, k _ _ a xIm_s, c⟩⟩⟩
theorem xEn.l {Ω : ax_O} {h : ax_H} {tx n : Nat} {tb b : Nat → Int32} {β : Nat → Nat} (z : xEn Ω h tx n tb b β) {k : Nat} {l : List Nat} (m : (k, l) ∈ xLits) : sStr h (Ω.2.2.2.1 "TelescopeQueue$Parser" k) l.length (fun i => l.getD i 0) := (z.2.2.2.2 _ m).1
theorem xEn.t {Ω : ax_O} {h : ax_H} {tx n : Nat} {tb b : Nat → Int32} {β : Nat → Nat} (z : xEn Ω h tx n tb b β) {k : Nat} {l : List Nat} (m : (k, l) ∈ xLits) : sLit h (Ω.2.2.2.1 "TelescopeQueue$Parser" k) l.length (fun i => l.getD i 0) := z.2.2.2.2 _ m
/-- the parser's object and token -/
def xPs (h : ax_H) (P tx n sc sa : Nat) (β : Nat → Nat) (κ : pK) : Prop := ∃ (nm : Int32) (tk : Nat), h.1 P = some (.inr (9, [.ref tx, .int (nI n), .int (nI κ.1), .int (nI κ.2.2.1), .int nm, .ref tk, .ref sc, .ref sa])) ∧ xTk h tk nm β κ
/-- a register file without a fault -/
def xK (n : Nat) (β : Nat → Nat) (κ : pK) : Prop := κ.2.2.2.2.1 = 0 ∧ pOK n κ ∧ xLex β κ
/-- a step changes the parser's object alone -/
def xSt (h h' : ax_H) (P : Nat) : Prop := (∀ q, q < h.2 → q ≠ P → h'.1 q = h.1 q) ∧ h.2 ≤ h'.2 ∧ ax_wf h'
theorem xSt.trans {h h' h2 : ax_H} {P : Nat} (a : xSt h h' P) (c : xSt h' h2 P) : xSt h h2 P := ⟨fun q q1 q2 => (c.1 q (by have := a.2.1; omega) q2).trans (a.1 q q1 q2), Nat.le_trans a.2.1 c.2.1, c.2.2⟩
def xFl (h : ax_H) (q : Nat) (κ : pK) : Prop := h.1 q = some (.inr (11, [.null, .null, .null, .null, .null, .int (nI 0), .int (nI κ.2.2.2.2.1), .int κ.2.2.2.2.2]))
/-- how a step ends: as κ' says -/
def xOut (h : ax_H) (P tx n sc sa : Nat) (β : Nat → Nat) (κ' : pK) (v : Option Value) : ax_PQ := fun o h' => xSt h h' P ∧ ((o = .inl v ∧ xPs h' P tx n sc sa β κ' ∧ xK n β κ') ∨ (¬ κ'.2.2.2.2.1 = 0 ∧ ∃ q, o = .inr q ∧ xFl h' q κ'))
theorem xOut.n {h h' : ax_H} {P tx n sc sa : Nat} {β : Nat → Nat} {κ' : pK} {v w : Option Value} (z : xOut h P tx n sc sa β κ' v (.inl w) h') : w = v ∧ xPs h' P tx n sc sa β κ' ∧ xK n β κ' ∧ xSt h h' P := by
  obtain ⟨s, ⟨e, a, c⟩ | ⟨-, q, e, -⟩⟩ := z
  · cases e; exact ⟨rfl, a, c, s⟩
  · cases e
theorem xOut.x {h h' : ax_H} {P tx n sc sa : Nat} {β : Nat → Nat} {κ' : pK} {v : Option Value} {q : Nat} (z : xOut h P tx n sc sa β κ' v (.inr q) h') : ¬ κ'.2.2.2.2.1 = 0 ∧ xFl h' q κ' ∧ xSt h h' P := by
  obtain ⟨s, ⟨e, -⟩ | ⟨c, q', e, f⟩⟩ := z
  · cases e
  · cases e; exact ⟨c, f, s⟩
theorem pNum_c {b : pR} {n : Nat} {κ : pK} {lo hi : Int32} (h : ¬ κ.2.2.2.2.1 = 0) : pNum b n κ lo hi = (κ, lo) := by
  unfold pNum pLook
  rw [if_neg h]
  show (pNx b n κ, lo) = _
  rw [pNx_c h]
theorem pLatK_c {b : pR} {n : Nat} {κ : pK} (h : ¬ κ.2.2.2.2.1 = 0) : pLatK b n κ = (κ, nI 0) := by
  unfold pLatK pSg
  rw [if_neg h, if_neg (by decide), pNum_c h]
theorem pGauge_c {b : pR} {n : Nat} {κ : pK} {l : List Int32} {lo hi : Int32} (h : ¬ κ.2.2.2.2.1 = 0) : pGauge b n κ l lo hi = (κ, lo) := by
  unfold pGauge pKey pWord
  rw [if_neg h, if_neg (by decide), show pFl κ 1 = κ by rw [pFl, if_neg h], pNum_c h]
theorem pTok_c {b : pR} {n nx : Nat} {vl p : Int32} : (pTok b n nx vl p).2.2.2.2.1 = 0 := by
  unfold pTok pTokA
  split
  · rfl
  · split
    · rfl
    · split <;> rfl
theorem xK.nx {b : pR} {n : Nat} {β : Nat → Nat} {κ : pK} (hβ : xBy b β) (k : xK n β κ) : xK n β (pNx b n κ) := by
  refine ⟨?_, pNx_ok k.2.1, ?_⟩
  · unfold pNx; rw [if_pos k.1]; exact pTok_c
  · unfold pNx; rw [if_pos k.1]; exact pTok_lex hβ k.2.1.1
theorem xSt.rfl' {h : ax_H} {P : Nat} (wf : ax_wf h) : xSt h h P := ⟨fun _ _ _ => rfl, Nat.le_refl _, wf⟩
theorem pFl_v {κ : pK} {e : Nat} (h : κ.2.2.2.2.1 = 0) : pFl κ e = (κ.1, κ.2.1, κ.2.2.1, κ.2.2.2.1, e, nI κ.2.2.1) := by rw [pFl, if_pos h]
theorem xLit_c {h : ax_H} {w : Nat} {l : List Nat} {n c : Nat} (z : sLit h w l.length (fun i => l.getD i 0)) (e : l.length = n := by rfl) (g : ∀ i, i < l.length → l.getD i 0 = c := by decide) : sLit h w n (fun _ => c) := ⟨z.1.cg e g, z.2⟩
def xPh (z : Nat) (h : ax_H) (P tx n sc sa : Nat) (κ : pK) : Prop := ∃ (nm : Int32) (tk : Nat), h.1 P = some (.inr (9, [.ref tx, .int (nI n), .int (nI κ.1), .int (nI κ.2.2.1), .int nm, .ref tk, .ref sc, .ref sa])) ∧ xHs z h tk κ
theorem ct_xadvH {Ω : ax_O} (hA : ax_Amb Ω) {z : Nat} {h : ax_H} (hz9 : z ≤ h.2) (wf : ax_wf h) (hz : Ω.2.1.heap.size ≤ h.2) {P tx n sc sa : Nat} {tb b : Nat → Int32} {β : Nat → Nat} (hbP : Ω.2.1.heap.size ≤ P) (hEn : xEn Ω h tx n tb b β) {κ : pK} (hP : xPs h P tx n sc sa β κ) (hK : xK n β κ) {k1 : pK} (e1 : k1 = pNx b n κ) : ax_MetP Ω yX11_advance 8 4 94 [.ref P] h (fun o h' => xOut h P tx n sc sa β k1 none o h' ∧ xPh z h' P tx n sc sa k1) := by
  subst e1
  obtain ⟨nm, tk, hP, -⟩ := hP
  obtain ⟨e1, e2, e3, e4, -⟩ := id hEn
  refine (ct_xadvance hA wf hz hP hz9 hbP e1 e2 e3 e4 hK.2.1.1 (xLit_c (hEn.t xLm_9)) (xLit_c (hEn.t xLm_66)) (xLit_c (hEn.t xLm_86)) (xLit_c (hEn.t xLm_88)) (xLit_c (hEn.t xLm_90)) (pNx b n κ) κ.2.2.2.1 κ.2.2.2.2.2 (by rw [pNx, if_pos hK.1])).mono ?_
  intro o h' q
  obtain ⟨v, rfl, rfl, nm', tk', a1, a2, a0, a3, a4, -, a6⟩ := q
  exact ⟨⟨⟨a3, a4, a6⟩, Or.inl ⟨rfl, ⟨nm', tk', a1, a2⟩, hK.nx e4⟩⟩, nm', tk', a1, a0⟩
theorem ct_xadv {Ω : ax_O} (hA : ax_Amb Ω) {h : ax_H} (wf : ax_wf h) (hz : Ω.2.1.heap.size ≤ h.2) {P tx n sc sa : Nat} {tb b : Nat → Int32} {β : Nat → Nat} (hbP : Ω.2.1.heap.size ≤ P) (hEn : xEn Ω h tx n tb b β) {κ : pK} (hP : xPs h P tx n sc sa β κ) (hK : xK n β κ) {k1 : pK} (e1 : k1 = pNx b n κ) : ax_MetP Ω yX11_advance 8 4 94 [.ref P] h (xOut h P tx n sc sa β k1 none) :=
  (ct_xadvH hA hz wf hz hbP hEn hP hK e1).mono fun _ _ q => q.1
theorem ct_xtakes {Ω : ax_O} (hA : ax_Amb Ω) {h : ax_H} (wf : ax_wf h) (hz : Ω.2.1.heap.size ≤ h.2) {P tx n sc sa : Nat} {tb b : Nat → Int32} {β : Nat → Nat} (hbP : Ω.2.1.heap.size ≤ P) (hEn : xEn Ω h tx n tb b β) {κ : pK} (hP : xPs h P tx n sc sa β κ) (hK : xK n β κ) {w m : Nat} {s : Nat → Nat} (hW : sStr h w m s) (hm : m < 1000) {B : Bool} (hB : (decide (xLen κ = m) && lEq (xLet β κ) s (xLen κ)) = B) {k1 : pK} (e1 : k1 = if B = true then pNx b n κ else κ)  : ax_MetP Ω yX11_takes 9 4 94 [.ref P, .ref w] h (xOut h P tx n sc sa β k1 (some (.int (bI B)))) := by
  refine ax_metP q1041 q145 (by decide +kernel) (by decide) hA (Nat.le_of_ble_eq_true rfl) (fun Γ G E => ?_)
  obtain ⟨nm, tk, hPo, hTk⟩ := id hP
  have hlP := wf.lt hPo
  have hβ := hEn.2.2.2.1
  have hlx := xLen_l hK.2.2
  show ax_W Ω Γ 4 94 h 0 [some (.ref P), some (.ref w), none] []
  refine ax_aload_n (pc := 0) G dX11_takes_0 rfl rfl ?_
  refine ax_getf (pc := 1) (v := .ref tk) G flX11_11_9 dX11_takes_1 (hPo) rfl ?_
  refine ax_aload_n (pc := 4) G dX11_takes_4 rfl rfl ?_
  refine ax_cV1 (pc := 5) (kb := 4) (nb := 94) G (ct_seqS hA (hTk.1) (hW) (by omega) (by first | omega | decide)) lVX11_97_19 dX11_takes_5 (hTk.1.o.choose_spec) rfl (by decide) (Nat.le_of_ble_eq_true rfl) rfl ?_
  refine ax_top (show Value.int (bI (decide (xLen κ = m) && lEq (xLet β κ) s (xLen κ))) = .int (bI B) from congrArg (fun z => Value.int (bI z)) hB) ?_
  refine ax_istore_n (pc := 8) G dX11_takes_8 rfl (Nat.le_of_ble_eq_true rfl) rfl ?_
  refine ax_iload_n (pc := 9) G dX11_takes_9 rfl rfl ?_
  refine ax_if_eq (pc := 10) (tgt := 17) G dX11_takes_10 rfl (fun c10 => ?_) (fun c10 => ?_)
  · have c10b := bI_f c10
    refine ax_iload_n (pc := 17) G dX11_takes_17 rfl rfl ?_
    have hk9 : k1 = κ := by rw [e1, if_neg (by rw [c10b]; decide)]
    exact ax_iretP (pc := 18) G E rfl (nz_bI _) dX11_takes_18 ⟨(xSt.rfl' wf), Or.inl ⟨rfl, by rw [hk9]; exact hP, by rw [hk9]; exact hK⟩⟩
  · have c10b := bI_t c10
    refine ax_aload_n (pc := 13) G dX11_takes_13 rfl rfl ?_
    obtain ⟨k272, e272⟩ : ∃ a : pK, a = pNx b n κ := ⟨_, rfl⟩
    refine ax_pV (pc := 14) (kb := 0) (nb := 0) G (ct_xadv hA wf (by omega) hbP hEn hP hK  e272) lVX11_103_9 dX11_takes_14 (hPo) rfl (by decide) (Nat.le_of_ble_eq_true rfl) rfl (fun v9 h272 q9 => ?_) (fun x9 h9x q9 => ?_)
    rotate_left
    exact absurd (hK.nx hβ).1 (by have z9 := q9.x.1; rw [e272] at z9; exact z9)
    obtain ⟨rfl, p272, c272, s272⟩ := q9.n
    obtain ⟨nm272, tk272, o272, t272⟩ := id p272
    obtain ⟨f272, z272, w272⟩ := id s272
    have n272 := hEn.kp (xKp.one wf (hPo) (by decide) f272)
    have x272 := xLen_l c272.2.2
    show ax_W Ω Γ _ _ (h272) _ _ (_)
    refine ax_iload_n (pc := 17) G dX11_takes_17 rfl rfl ?_
    have hk9 : k1 = k272 := by rw [e1, if_pos c10b, e272]
    exact ax_iretP (pc := 18) G E rfl (nz_bI _) dX11_takes_18 ⟨((xSt.rfl' wf).trans s272), Or.inl ⟨rfl, by rw [hk9]; exact p272, by rw [hk9]; exact c272⟩⟩

theorem ct_xexpect {Ω : ax_O} (hA : ax_Amb Ω) {h : ax_H} (wf : ax_wf h) (hz : Ω.2.1.heap.size ≤ h.2) {P tx n sc sa : Nat} {tb b : Nat → Int32} {β : Nat → Nat} (hbP : Ω.2.1.heap.size ≤ P) (hEn : xEn Ω h tx n tb b β) {κ : pK} (hP : xPs h P tx n sc sa β κ) (hK : xK n β κ) {w m : Nat} {s : Nat → Nat} (hW : sStr h w m s) (hm : m < 1000) {B : Bool} (hB : (decide (xLen κ = m) && lEq (xLet β κ) s (xLen κ)) = B) {k1 : pK} (e1 : k1 = if B = true then pNx b n κ else pFl κ 1)  : ax_MetP Ω yX11_expect 10 5 102 [.ref P, .ref w] h (xOut h P tx n sc sa β k1 (none)) := by
  refine ax_metP q1037 q145 (by decide +kernel) (by decide) hA (Nat.le_of_ble_eq_true rfl) (fun Γ G E => ?_)
  obtain ⟨nm, tk, hPo, hTk⟩ := id hP
  have hlP := wf.lt hPo
  have hβ := hEn.2.2.2.1
  have hlx := xLen_l hK.2.2
  show ax_W Ω Γ 5 102 h 0 [some (.ref P), some (.ref w)] []
  refine ax_aload_n (pc := 0) G dX11_expect_0 rfl rfl ?_
  refine ax_aload_n (pc := 1) G dX11_expect_1 rfl rfl ?_
  obtain ⟨k273, e273⟩ : ∃ a : pK, a = if B = true then pNx b n κ else κ := ⟨_, rfl⟩
  refine ax_pV (pc := 2) (kb := 1) (nb := 8) G (ct_xtakes hA wf (by omega) hbP hEn hP hK (hW) (hm) (B := B) (hB) e273) lVX11_106_9 dX11_expect_2 (hPo) rfl (by decide) (Nat.le_of_ble_eq_true rfl) rfl (fun v9 h273 q9 => ?_) (fun x9 h9x q9 => ?_)
  rotate_left
  exact absurd (show k273.2.2.2.2.1 = 0 by rw [e273]; split; exact (hK.nx hβ).1; exact hK.1) q9.x.1
  obtain ⟨rfl, p273, c273, s273⟩ := q9.n
  obtain ⟨nm273, tk273, o273, t273⟩ := id p273
  obtain ⟨f273, z273, w273⟩ := id s273
  have n273 := hEn.kp (xKp.one wf (hPo) (by decide) f273)
  have x273 := xLen_l c273.2.2
  show ax_W Ω Γ _ _ (h273) _ _ (.int (bI (B)) :: _)
  refine ax_if_ne (pc := 5) (tgt := 14) G dX11_expect_5 rfl (fun c5 => ?_) (fun c5 => ?_)
  · have c5b := bI_t c5
    have hk9 : k1 = k273 := by rw [e1, if_pos c5b, e273, if_pos c5b]
    exact ax_vretP (pc := 14) G E rfl dX11_expect_14 ⟨((xSt.rfl' wf).trans s273), Or.inl ⟨rfl, by rw [hk9]; exact p273, by rw [hk9]; exact c273⟩⟩
  · have c5b := bI_f c5
    refine ax_aload_n (pc := 8) G dX11_expect_8 rfl rfl ?_
    refine ax_iconst (pc := 9) (v := nI 1) G dX11_expect_9 ic_1 ?_
    refine ax_nV (pc := 10) (kb := 0) (nb := 0) G (ct_xflaw (b := b) (tb := tb) hA w273 (by omega) (o273) 1) lVX11_110_9 dX11_expect_10 (o273) rfl (by decide) (Nat.le_of_ble_eq_true rfl) rfl (fun v274 h274 q9 => ?_)
    obtain ⟨rfl, g274, f274, z274, w274⟩ := q9
    show ax_W Ω Γ _ _ (h274) _ _ (.ref h273.2 :: _)
    refine ax_athrow (pc := 13) G dX11_expect_13 ?_
    have hk9 : k1 = pFl k273 1 := by rw [e1, if_neg (by rw [c5b]; decide), e273, if_neg (by rw [c5b]; decide)]
    exact ax_outP G E (fun x hx => by cases hx) ⟨(((xSt.rfl' wf).trans s273).trans ⟨fun q a1 _ => f274 q a1, by omega, w274⟩), Or.inr ⟨by rw [hk9, pFl_c c273.1]; decide, _, rfl, by rw [xFl, hk9, pFl_v c273.1]; exact g274⟩⟩

theorem ct_xnum2 {Ω : ax_O} (hA : ax_Amb Ω) {h : ax_H} (wf : ax_wf h) (hz : Ω.2.1.heap.size ≤ h.2) {P tx n sc sa : Nat} {tb b : Nat → Int32} {β : Nat → Nat} (hbP : Ω.2.1.heap.size ≤ P) (hEn : xEn Ω h tx n tb b β) {κ : pK} (hP : xPs h P tx n sc sa β κ) (hK : xK n β κ) (lo hi : Int32) {k1 : pK} (e1 : k1 = (pNum b n κ lo hi).1) {v1 : Int32} (y1 : v1 = (pNum b n κ lo hi).2)  : ax_MetP Ω yX11_number_2 9 5 102 [.ref P, .int lo, .int hi] h (xOut h P tx n sc sa β k1 (some (.int v1))) := by
  refine ax_metP q1090 q145 (by decide +kernel) (by decide) hA (Nat.le_of_ble_eq_true rfl) (fun Γ G E => ?_)
  obtain ⟨nm, tk, hPo, hTk⟩ := id hP
  have hlP := wf.lt hPo
  have hβ := hEn.2.2.2.1
  have hlx := xLen_l hK.2.2
  show ax_W Ω Γ 5 102 h 0 [some (.ref P), some (.int lo), some (.int hi), none] []
  refine ax_aload_n (pc := 0) G dX11_number_2_0 rfl rfl ?_
  refine ax_getf (pc := 1) (v := .ref tk) G flX11_11_9 dX11_number_2_1 (hPo) rfl ?_
  refine ax_ldcS (pc := 4) G q1030 dX11_number_2_4 ?_
  refine ax_cV1 (pc := 6) (kb := 5) (nb := 102) G (ct_seqS hA (hTk.1) (hEn.l xLm_86) (by omega) (by first | omega | decide)) lVX11_97_19 dX11_number_2_6 (hTk.1.o.choose_spec) rfl (by decide) (Nat.le_of_ble_eq_true rfl) rfl ?_
  refine ax_top (show Value.int (bI (decide (xLen κ = [35].length) && lEq (xLet β κ) (fun i => [35].getD i 0) (xLen κ))) = .int (bI (decide (κ.2.1 = 3))) from congrArg (fun z => Value.int (bI z)) (xEq_num hK.2.2 rfl rfl)) ?_
  refine ax_if_ne (pc := 9) (tgt := 18) G dX11_number_2_9 rfl (fun c9 => ?_) (fun c9 => ?_)
  · have c9b := bI_t c9
    refine ax_aload_n (pc := 18) G dX11_number_2_18 rfl rfl ?_
    refine ax_getf (pc := 19) (v := .int nm) G flX11_76_9 dX11_number_2_19 (hPo) rfl ?_
    have c9d := of_decide_eq_true c9b
    refine ax_top (show Value.int nm = .int κ.2.2.2.1 from congrArg Value.int (hTk.2 c9d)) ?_
    refine ax_i2l (pc := 22) G dX11_number_2_22 rfl ?_
    refine ax_iload_n (pc := 23) G dX11_number_2_23 rfl rfl ?_
    refine ax_i2l (pc := 24) G dX11_number_2_24 rfl ?_
    refine ax_iload_n (pc := 25) G dX11_number_2_25 rfl rfl ?_
    refine ax_i2l (pc := 26) G dX11_number_2_26 rfl ?_
    refine ax_cSN1 (pc := 27) (kb := 5) (nb := 102) G (ct_in hA κ.2.2.2.1.toInt64 lo.toInt64 hi.toInt64) lSX11_55 dX11_number_2_27 rfl (by decide) (Nat.le_of_ble_eq_true rfl) rfl ?_
    rw [show cIn κ.2.2.2.1.toInt64 lo.toInt64 hi.toInt64 = pIn κ.2.2.2.1 lo hi from cIn_i _ _ _]
    refine ax_if_ne (pc := 30) (tgt := 39) G dX11_number_2_30 rfl (fun c30 => ?_) (fun c30 => ?_)
    · have c30b := bI_t c30
      refine ax_aload_n (pc := 39) G dX11_number_2_39 rfl rfl ?_
      refine ax_getf (pc := 40) (v := .int nm) G flX11_76_9 dX11_number_2_40 (hPo) rfl ?_
      have c9d := of_decide_eq_true c9b
      refine ax_top (show Value.int nm = .int κ.2.2.2.1 from congrArg Value.int (hTk.2 c9d)) ?_
      refine ax_istore_n (pc := 43) G dX11_number_2_43 rfl (Nat.le_of_ble_eq_true rfl) rfl ?_
      refine ax_aload_n (pc := 44) G dX11_number_2_44 rfl rfl ?_
      obtain ⟨k275, e275⟩ : ∃ a : pK, a = pNx b n κ := ⟨_, rfl⟩
      refine ax_pV (pc := 45) (kb := 1) (nb := 8) G (ct_xadv hA wf (by omega) hbP hEn hP hK  e275) lVX11_103_9 dX11_number_2_45 (hPo) rfl (by decide) (Nat.le_of_ble_eq_true rfl) rfl (fun v9 h275 q9 => ?_) (fun x9 h9x q9 => ?_)
      rotate_left
      exact absurd (hK.nx hβ).1 (by have z9 := q9.x.1; rw [e275] at z9; exact z9)
      obtain ⟨rfl, p275, c275, s275⟩ := q9.n
      obtain ⟨nm275, tk275, o275, t275⟩ := id p275
      obtain ⟨f275, z275, w275⟩ := id s275
      have n275 := hEn.kp (xKp.one wf (hPo) (by decide) f275)
      have x275 := xLen_l c275.2.2
      show ax_W Ω Γ _ _ (h275) _ _ (_)
      refine ax_iload_n (pc := 48) G dX11_number_2_48 rfl rfl ?_
      have hk9 : k1 = k275 := by rw [e1, pNum, pLook, if_pos hK.1, if_pos c9d, if_pos c30b, e275]
      exact ax_iretP (pc := 49) G E rfl (rfl) dX11_number_2_49 ⟨((xSt.rfl' wf).trans s275), Or.inl ⟨by rw [y1, pNum, pLook, if_pos hK.1, if_pos c9d, if_pos c30b], by rw [hk9]; exact p275, by rw [hk9]; exact c275⟩⟩
    · have c30b := bI_f c30
      refine ax_aload_n (pc := 33) G dX11_number_2_33 rfl rfl ?_
      refine ax_iconst (pc := 34) (v := nI 2) G dX11_number_2_34 ic_2 ?_
      refine ax_nV (pc := 35) (kb := 4) (nb := 94) G (ct_xflaw (b := b) (tb := tb) hA wf (by omega) (hPo) 2) lVX11_110_9 dX11_number_2_35 (hPo) rfl (by decide) (Nat.le_of_ble_eq_true rfl) rfl (fun v276 h276 q9 => ?_)
      obtain ⟨rfl, g276, f276, z276, w276⟩ := q9
      show ax_W Ω Γ _ _ (h276) _ _ (.ref h.2 :: _)
      refine ax_athrow (pc := 38) G dX11_number_2_38 ?_
      have hk9 : k1 = pFl κ 2 := by rw [e1, pNum, pLook, if_pos hK.1, if_pos c9d, if_neg (by rw [c30b]; decide)]; exact pNx_c (by rw [pFl_c hK.1]; decide)
      exact ax_outP G E (fun x hx => by cases hx) ⟨((xSt.rfl' wf).trans ⟨fun q a1 _ => f276 q a1, by omega, w276⟩), Or.inr ⟨by rw [hk9, pFl_c hK.1]; decide, _, rfl, by rw [xFl, hk9, pFl_v hK.1]; exact g276⟩⟩
  · have c9b := bI_f c9
    refine ax_aload_n (pc := 12) G dX11_number_2_12 rfl rfl ?_
    refine ax_iconst (pc := 13) (v := nI 1) G dX11_number_2_13 ic_1 ?_
    refine ax_nV (pc := 14) (kb := 4) (nb := 94) G (ct_xflaw (b := b) (tb := tb) hA wf (by omega) (hPo) 1) lVX11_110_9 dX11_number_2_14 (hPo) rfl (by decide) (Nat.le_of_ble_eq_true rfl) rfl (fun v277 h277 q9 => ?_)
    obtain ⟨rfl, g277, f277, z277, w277⟩ := q9
    show ax_W Ω Γ _ _ (h277) _ _ (.ref h.2 :: _)
    refine ax_athrow (pc := 17) G dX11_number_2_17 ?_
    have hk9 : k1 = pFl κ 1 := by rw [e1, pNum, pLook, if_pos hK.1, if_neg (of_decide_eq_false c9b)]; exact pNx_c (by rw [pFl_c hK.1]; decide)
    exact ax_outP G E (fun x hx => by cases hx) ⟨((xSt.rfl' wf).trans ⟨fun q a1 _ => f277 q a1, by omega, w277⟩), Or.inr ⟨by rw [hk9, pFl_c hK.1]; decide, _, rfl, by rw [xFl, hk9, pFl_v hK.1]; exact g277⟩⟩

theorem ct_xgauge {Ω : ax_O} (hA : ax_Amb Ω) {h : ax_H} (wf : ax_wf h) (hz : Ω.2.1.heap.size ≤ h.2) {P tx n sc sa : Nat} {tb b : Nat → Int32} {β : Nat → Nat} (hbP : Ω.2.1.heap.size ≤ P) (hEn : xEn Ω h tx n tb b β) {κ : pK} (hP : xPs h P tx n sc sa β κ) (hK : xK n β κ) {w m : Nat} {s : Nat → Nat} (hW : sStr h w m s) (hm : m < 1000) {l : List Int32} (hB : (decide (xLen κ = m) && lEq (xLet β κ) s (xLen κ)) = pWord b κ l) (lo hi : Int32) {k1 : pK} (e1 : k1 = (pGauge b n κ l lo hi).1) {v1 : Int32} (y1 : v1 = (pGauge b n κ l lo hi).2)  : ax_MetP Ω yX11_number 11 10 204 [.ref P, .ref w, .int lo, .int hi] h (xOut h P tx n sc sa β k1 (some (.int v1))) := by
  refine ax_metP q1086 q145 (by decide +kernel) (by decide) hA (Nat.le_of_ble_eq_true rfl) (fun Γ G E => ?_)
  obtain ⟨nm, tk, hPo, hTk⟩ := id hP
  have hlP := wf.lt hPo
  have hβ := hEn.2.2.2.1
  have hlx := xLen_l hK.2.2
  show ax_W Ω Γ 10 204 h 0 [some (.ref P), some (.ref w), some (.int lo), some (.int hi)] []
  refine ax_aload_n (pc := 0) G dX11_number_0 rfl rfl ?_
  refine ax_aload_n (pc := 1) G dX11_number_1 rfl rfl ?_
  obtain ⟨k278, e278⟩ : ∃ a : pK, a = if pWord b κ l = true then pNx b n κ else pFl κ 1 := ⟨_, rfl⟩
  refine ax_pV (pc := 2) (kb := 5) (nb := 102) G (ct_xexpect hA wf (by omega) hbP hEn hP hK (hW) (hm) (B := pWord b κ l) (hB) e278) lVX11_114_9 dX11_number_2 (hPo) rfl (by decide) (Nat.le_of_ble_eq_true rfl) rfl (fun v9 h278 q9 => ?_) (fun x9 h9x q9 => ?_)
  rotate_left
  obtain ⟨c278x, fl278, s278⟩ := q9.x
  have hk9 : k1 = k278 := by rw [e1, pGauge, pKey, ← e278, pNum_c c278x]
  exact ax_outP G E (fun x hx => by cases hx) ⟨(xSt.rfl' wf).trans s278, Or.inr ⟨by rw [hk9]; exact c278x, _, rfl, by rw [hk9]; exact fl278⟩⟩
  obtain ⟨rfl, p278, c278, s278⟩ := q9.n
  obtain ⟨nm278, tk278, o278, t278⟩ := id p278
  obtain ⟨f278, z278, w278⟩ := id s278
  have n278 := hEn.kp (xKp.one wf (hPo) (by decide) f278)
  have x278 := xLen_l c278.2.2
  show ax_W Ω Γ _ _ (h278) _ _ (_)
  refine ax_aload_n (pc := 5) G dX11_number_5 rfl rfl ?_
  refine ax_iload_n (pc := 6) G dX11_number_6 rfl rfl ?_
  refine ax_iload_n (pc := 7) G dX11_number_7 rfl rfl ?_
  obtain ⟨k279, v279, e279, y279⟩ : ∃ (a : pK) (c : Int32), a = (pNum b n k278 lo hi).1 ∧ c = (pNum b n k278 lo hi).2 := ⟨_, _, rfl, rfl⟩
  refine ax_pV (pc := 8) (kb := 0) (nb := 0) G (ct_xnum2 hA w278 (by omega) hbP n278 p278 c278 lo hi e279 y279) lVX11_118_9 dX11_number_8 (o278) rfl (by decide) (Nat.le_of_ble_eq_true rfl) rfl (fun v9 h279 q9 => ?_) (fun x9 h9x q9 => ?_)
  rotate_left
  obtain ⟨c279x, fl279, s279⟩ := q9.x
  have hk9 : k1 = k279 := by rw [e1, pGauge, pKey, ← e278, e279]
  exact ax_outP G E (fun x hx => by cases hx) ⟨((xSt.rfl' wf).trans s278).trans s279, Or.inr ⟨by rw [hk9]; exact c279x, _, rfl, by rw [hk9]; exact fl279⟩⟩
  obtain ⟨rfl, p279, c279, s279⟩ := q9.n
  obtain ⟨nm279, tk279, o279, t279⟩ := id p279
  obtain ⟨f279, z279, w279⟩ := id s279
  have n279 := n278.kp (xKp.one w278 (o278) (by decide) f279)
  have x279 := xLen_l c279.2.2
  show ax_W Ω Γ _ _ (h279) _ _ (.int v279 :: _)
  have hk9 : k1 = k279 := by rw [e1, pGauge, pKey, ← e278, e279]
  exact ax_iretP (pc := 11) G E rfl (rfl) dX11_number_11 ⟨(((xSt.rfl' wf).trans s278).trans s279), Or.inl ⟨by rw [y1, pGauge, pKey, ← e278, y279], by rw [hk9]; exact p279, by rw [hk9]; exact c279⟩⟩

theorem xNeg (a : Int32) : (-1) * a = -a := by rw [Int32.neg_mul, Int32.one_mul]
theorem xOne (a : Int32) : nI 1 * a = a := by rw [show nI 1 = (1 : Int32) from rfl, Int32.one_mul]
theorem ct_xlat {Ω : ax_O} (hA : ax_Amb Ω) {h : ax_H} (wf : ax_wf h) (hz : Ω.2.1.heap.size ≤ h.2) {P tx n sc sa : Nat} {tb b : Nat → Int32} {β : Nat → Nat} (hbP : Ω.2.1.heap.size ≤ P) (hEn : xEn Ω h tx n tb b β) {κ : pK} (hP : xPs h P tx n sc sa β κ) (hK : xK n β κ) {k1 : pK} (e1 : k1 = (pLatK b n κ).1) {v1 : Int32} (y1 : v1 = (pLatK b n κ).2)  : ax_MetP Ω yX11_latitude 10 9 196 [.ref P] h (xOut h P tx n sc sa β k1 (some (.int v1))) := by
  refine ax_metP q1309 q145 (by decide +kernel) (by decide) hA (Nat.le_of_ble_eq_true rfl) (fun Γ G E => ?_)
  obtain ⟨nm, tk, hPo, hTk⟩ := id hP
  have hlP := wf.lt hPo
  have hβ := hEn.2.2.2.1
  have hlx := xLen_l hK.2.2
  show ax_W Ω Γ 9 196 h 0 [some (.ref P), none] []
  refine ax_aload_n (pc := 0) G dX11_latitude_0 rfl rfl ?_
  refine ax_ldcS (pc := 1) G q1032 dX11_latitude_1 ?_
  obtain ⟨k280, e280⟩ : ∃ a : pK, a = if pSg κ (nI 45) = true then pNx b n κ else κ := ⟨_, rfl⟩
  refine ax_pV (pc := 3) (kb := 5) (nb := 102) G (ct_xtakes hA wf (by omega) hbP hEn hP hK (hEn.l xLm_90) (by decide) (B := pSg κ (nI 45)) (xEq_sign hβ hK.2.2 hK.1 rfl rfl (by decide)) e280) lVX11_106_9 dX11_latitude_3 (hPo) rfl (by decide) (Nat.le_of_ble_eq_true rfl) rfl (fun v9 h280 q9 => ?_) (fun x9 h9x q9 => ?_)
  rotate_left
  exact absurd (show k280.2.2.2.2.1 = 0 by rw [e280]; split; exact (hK.nx hβ).1; exact hK.1) q9.x.1
  obtain ⟨rfl, p280, c280, s280⟩ := q9.n
  obtain ⟨nm280, tk280, o280, t280⟩ := id p280
  obtain ⟨f280, z280, w280⟩ := id s280
  have n280 := hEn.kp (xKp.one wf (hPo) (by decide) f280)
  have x280 := xLen_l c280.2.2
  show ax_W Ω Γ _ _ (h280) _ _ (.int (bI (pSg κ (nI 45))) :: _)
  refine ax_if_eq (pc := 6) (tgt := 13) G dX11_latitude_6 rfl (fun c6 => ?_) (fun c6 => ?_)
  · have c6b := bI_f c6
    refine ax_iconst (pc := 13) (v := nI 1) G dX11_latitude_13 ic_1 ?_
    refine ax_istore_n (pc := 14) G dX11_latitude_14 rfl (Nat.le_of_ble_eq_true rfl) rfl ?_
    refine ax_iload_n (pc := 15) G dX11_latitude_15 rfl rfl ?_
    refine ax_aload_n (pc := 16) G dX11_latitude_16 rfl rfl ?_
    refine ax_iconst (pc := 17) (v := nI 0) G dX11_latitude_17 ic_0 ?_
    refine ax_bipush (pc := 18) (v := nI 90) G dX11_latitude_18 ib_90 ?_
    obtain ⟨k281, v281, e281, y281⟩ : ∃ (a : pK) (c : Int32), a = (pNum b n k280 (nI 0) (nI 90)).1 ∧ c = (pNum b n k280 (nI 0) (nI 90)).2 := ⟨_, _, rfl, rfl⟩
    refine ax_pV (pc := 20) (kb := 0) (nb := 0) G (ct_xnum2 hA w280 (by omega) hbP n280 p280 c280 (nI 0) (nI 90) e281 y281) lVX11_118_9 dX11_latitude_20 (o280) rfl (by decide) (Nat.le_of_ble_eq_true rfl) rfl (fun v9 h281 q9 => ?_) (fun x9 h9x q9 => ?_)
    rotate_left
    obtain ⟨c281x, fl281, s281⟩ := q9.x
    have hk9 : k1 = k281 := by rw [e1, pLatK]; first | (rw [if_pos c6b, e281, e280, if_pos c6b]) | (rw [if_neg (by rw [c6b]; decide), e281, e280, if_neg (by rw [c6b]; decide)])
    exact ax_outP G E (fun x hx => by cases hx) ⟨((xSt.rfl' wf).trans s280).trans s281, Or.inr ⟨by rw [hk9]; exact c281x, _, rfl, by rw [hk9]; exact fl281⟩⟩
    obtain ⟨rfl, p281, c281, s281⟩ := q9.n
    obtain ⟨nm281, tk281, o281, t281⟩ := id p281
    obtain ⟨f281, z281, w281⟩ := id s281
    have n281 := n280.kp (xKp.one w280 (o280) (by decide) f281)
    have x281 := xLen_l c281.2.2
    show ax_W Ω Γ _ _ (h281) _ _ (.int v281 :: _)
    refine ax_imul (pc := 23) G dX11_latitude_23 ?_
    have hk9 : k1 = k281 := by rw [e1, pLatK]; first | (rw [if_pos c6b, e281, e280, if_pos c6b]) | (rw [if_neg (by rw [c6b]; decide), e281, e280, if_neg (by rw [c6b]; decide)])
    exact ax_iretP (pc := 24) G E rfl (rfl) dX11_latitude_24 ⟨(((xSt.rfl' wf).trans s280).trans s281), Or.inl ⟨by rw [y1, pLatK]; first | (rw [if_pos c6b, y281, e280, if_pos c6b, xNeg]) | (rw [if_neg (by rw [c6b]; decide), y281, e280, if_neg (by rw [c6b]; decide), xOne]), by rw [hk9]; exact p281, by rw [hk9]; exact c281⟩⟩
  · have c6b := bI_t c6
    refine ax_iconst (pc := 9) (v := (-1)) G dX11_latitude_9 (by decide) ?_
    refine ax_goto (pc := 10) (tgt := 14) G dX11_latitude_10 rfl ?_
    refine ax_istore_n (pc := 14) G dX11_latitude_14 rfl (Nat.le_of_ble_eq_true rfl) rfl ?_
    refine ax_iload_n (pc := 15) G dX11_latitude_15 rfl rfl ?_
    refine ax_aload_n (pc := 16) G dX11_latitude_16 rfl rfl ?_
    refine ax_iconst (pc := 17) (v := nI 0) G dX11_latitude_17 ic_0 ?_
    refine ax_bipush (pc := 18) (v := nI 90) G dX11_latitude_18 ib_90 ?_
    obtain ⟨k282, v282, e282, y282⟩ : ∃ (a : pK) (c : Int32), a = (pNum b n k280 (nI 0) (nI 90)).1 ∧ c = (pNum b n k280 (nI 0) (nI 90)).2 := ⟨_, _, rfl, rfl⟩
    refine ax_pV (pc := 20) (kb := 0) (nb := 0) G (ct_xnum2 hA w280 (by omega) hbP n280 p280 c280 (nI 0) (nI 90) e282 y282) lVX11_118_9 dX11_latitude_20 (o280) rfl (by decide) (Nat.le_of_ble_eq_true rfl) rfl (fun v9 h282 q9 => ?_) (fun x9 h9x q9 => ?_)
    rotate_left
    obtain ⟨c282x, fl282, s282⟩ := q9.x
    have hk9 : k1 = k282 := by rw [e1, pLatK]; first | (rw [if_pos c6b, e282, e280, if_pos c6b]) | (rw [if_neg (by rw [c6b]; decide), e282, e280, if_neg (by rw [c6b]; decide)])
    exact ax_outP G E (fun x hx => by cases hx) ⟨((xSt.rfl' wf).trans s280).trans s282, Or.inr ⟨by rw [hk9]; exact c282x, _, rfl, by rw [hk9]; exact fl282⟩⟩
    obtain ⟨rfl, p282, c282, s282⟩ := q9.n
    obtain ⟨nm282, tk282, o282, t282⟩ := id p282
    obtain ⟨f282, z282, w282⟩ := id s282
    have n282 := n280.kp (xKp.one w280 (o280) (by decide) f282)
    have x282 := xLen_l c282.2.2
    show ax_W Ω Γ _ _ (h282) _ _ (.int v282 :: _)
    refine ax_imul (pc := 23) G dX11_latitude_23 ?_
    have hk9 : k1 = k282 := by rw [e1, pLatK]; first | (rw [if_pos c6b, e282, e280, if_pos c6b]) | (rw [if_neg (by rw [c6b]; decide), e282, e280, if_neg (by rw [c6b]; decide)])
    exact ax_iretP (pc := 24) G E rfl (rfl) dX11_latitude_24 ⟨(((xSt.rfl' wf).trans s280).trans s282), Or.inl ⟨by rw [y1, pLatK]; first | (rw [if_pos c6b, y282, e280, if_pos c6b, xNeg]) | (rw [if_neg (by rw [c6b]; decide), y282, e280, if_neg (by rw [c6b]; decide), xOne]), by rw [hk9]; exact p282, by rw [hk9]; exact c282⟩⟩

