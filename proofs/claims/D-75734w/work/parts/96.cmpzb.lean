/-! THE COMPONENT: what a line tells -/
/-- how the reading of a thing ends: P and the list alone change -/
def xOutL (h : ax_H) (P tx n sc sa : Nat) (β : Nat → Nat) (κ' : pK) (L e : Nat) (R : ax_H → Prop) : ax_PQ := fun o h' => ((∀ q, q < h.2 → q ≠ P → q ≠ L → q ≠ e → h'.1 q = h.1 q) ∧ h.2 ≤ h'.2 ∧ ax_wf h') ∧ ((o = .inl none ∧ xPs h' P tx n sc sa β κ' ∧ xK n β κ' ∧ R h') ∨ (¬ κ'.2.2.2.2.1 = 0 ∧ ∃ q, o = .inr q ∧ xFl h' q κ'))
theorem xSt.L {h h' : ax_H} {P L e : Nat} (z : xSt h h' P) : (∀ q, q < h.2 → q ≠ P → q ≠ L → q ≠ e → h'.1 q = h.1 q) ∧ h.2 ≤ h'.2 ∧ ax_wf h' := ⟨fun q a b _ _ => z.1 q a b, z.2⟩
/-- behind the first word of a line -/
def rVisitB (b : pR) (n : Nat) (κ : pK) (f g : pR) (P V : Nat) : rS :=
  rPr b n κ f P fun k0 v0 => rN b n k0 (nI 0) (nI 359) fun k1 v1 => rL b n k1 fun k2 v2 => rN b n k2 (nI 1) (nI 300) fun k3 v3 => rN b n k3 (nI 1) (nI 9) fun k4 v4 => rN b n k4 (nI 0) (nI 99) fun k5 v5 =>
    rN b n k5 (nI 0) (nI 2000) fun k6 v6 => rN b n k6 v6 (nI 2000) fun k7 v7 =>
      (k7, pAdd (upd (upd (upd (upd (upd (upd (upd f (66 + 8 * V + 0) v0) (66 + 8 * V + 1) v1) (66 + 8 * V + 2) v2) (66 + 8 * V + 3) v3) (66 + 8 * V + 5) v5) (66 + 8 * V + 6) v6) (66 + 8 * V + 7) v7) 65 (nI 1), upd (upd g (107 + V) v4) (87 + V) (-1))
def rAlertB (b : pR) (n : Nat) (κ : pK) (f g : pR) (P A : Nat) : rS :=
  rPr b n κ f P fun k0 v0 => rN b n k0 (nI 0) (nI 2000) fun k1 v1 => rN b n k1 (nI 0) (nI 359) fun k2 v2 => rL b n k2 fun k3 v3 => rN b n k3 (nI 1) (nI 300) fun k4 v4 => rN b n k4 (nI 0) (nI 99) fun k5 v5 => rN b n k5 (nI 0) (nI 999) fun k6 v6 =>
      (k6, f, pAdd (upd (upd (upd (upd (upd (upd (upd (upd g (127 + 10 * A + 0) v0) (127 + 10 * A + 1) v1) (127 + 10 * A + 2) v2) (127 + 10 * A + 3) v3) (127 + 10 * A + 4) v4) (127 + 10 * A + 5) v5) (127 + 10 * A + 6) v6) (127 + 10 * A + 8) (-1)) 14 (nI 1))
def rProposalB (b : pR) (n : Nat) (κ : pK) (f g : pR) (P : Nat) : rS :=
  if κ.2.1 = 2 then
    (if rNm b κ.2.2.1 (rLn κ) f P 0 = none then
      rN b n (pNx b n κ) (nI 0) (nI 9999) fun k v => (k, pAdd (rName b κ.2.2.1 (rLn κ) f P) 10 (nI 1), upd g (17 + P) v)
    else (pFl κ 3, f, g))
  else (pFl κ 1, f, g)
theorem rVisit_e {b f g : pR} {n P V : Nat} {κ : pK} (h : (rBeg b n κ V 20).2.2.2.2.1 = 0) : rVisit b n κ f g P V = rVisitB b n (rBeg b n κ V 20) f g P V := by rw [rVisit, if_pos h]; rfl
theorem rAlert_e {b f g : pR} {n P A : Nat} {κ : pK} (h : (rBeg b n κ A 5).2.2.2.2.1 = 0) : rAlert b n κ f g P A = rAlertB b n (rBeg b n κ A 5) f g P A := by rw [rAlert, if_pos h]; rfl
theorem rProposal_e {b f g : pR} {n P : Nat} {κ : pK} (h : (rBeg b n κ P 6).2.2.2.2.1 = 0) : rProposal b n κ f g P = rProposalB b n (rBeg b n κ P 6) f g P := by rw [rProposal, if_pos h]; rfl
theorem rN_c {α : Type} {b : pR} {n : Nat} {κ : pK} {lo hi : Int32} (h : ¬ κ.2.2.2.2.1 = 0) (F : pK → Int32 → α) : rN b n κ lo hi F = F κ lo := by rw [rN, pNum_c h]
theorem rL_c {α : Type} {b : pR} {n : Nat} {κ : pK} (h : ¬ κ.2.2.2.2.1 = 0) (F : pK → Int32 → α) : rL b n κ F = F κ (nI 0) := by rw [rL, pLatK_c h]
set_option maxHeartbeats 6000000 in
theorem ct_xvisit {Ω : ax_O} (hA : ax_Amb Ω) {h : ax_H} (wf : ax_wf h) (hz : Ω.2.1.heap.size ≤ h.2) {P tx n sc sa : Nat} {tb b : Nat → Int32} {β : Nat → Nat} (hbP : Ω.2.1.heap.size ≤ P) (hEn : xEn Ω h tx n tb b β) {κ : pK} (hP : xPs h P tx n sc sa β κ) (hK : xK n β κ) {L e N L9 e9 V : Nat} {xs xs9 : Nat → Nat} {rs0 : List Value} (hsc0 : h.1 sc = some (.inr (10, .ref L :: .ref L9 :: rs0))) (hLi : xLi h L e N xs 12) {nm0 ln : Nat → Nat} {lt : Nat → Nat → Nat} {f g : pR} (hNm : xNm h xs nm0 ln lt f g N) (hN : N ≤ 6) (hLi9 : xLi h L9 e9 V xs9 13) (hV : V ≤ 20) (hbL : Ω.2.1.heap.size ≤ L9) (hbe : Ω.2.1.heap.size ≤ e9) (hLL : L9 ≠ L) (hee : e9 ≠ e) {ψ : rS} (hψ : ψ = rVisitB b n κ f g N V)  : ax_MetP Ω yX11_visit 11 60 1500 [.ref P] h (xOutL h P tx n sc sa β ψ.1 L9 e9 (fun h' => ∃ e' xn, xLi h' L9 e' (V + 1) (fun k => if k = V then xn else xs9 k) 13 ∧ (e' = e9 ∨ h.2 ≤ e') ∧ h.2 ≤ xn ∧ h'.1 xn = some (.inr (13, [.int (ψ.2.1 (66 + 8 * V + 0)), .int (ψ.2.1 (66 + 8 * V + 1)), .int (ψ.2.1 (66 + 8 * V + 2)), .int (ψ.2.1 (66 + 8 * V + 3)), .int (ψ.2.1 (66 + 8 * V + 5)), .int (ψ.2.2 (107 + V)), .int (ψ.2.1 (66 + 8 * V + 6)), .int (ψ.2.1 (66 + 8 * V + 7))])))) := by
  refine ax_metP q1301 q145 (by decide +kernel) (by decide) hA (Nat.le_of_ble_eq_true rfl) (fun Γ G E => ?_)
  obtain ⟨nm, tk, hPo, hTk⟩ := id hP
  have hlP := wf.lt hPo
  have hβ := hEn.2.2.2.1
  have hlx := xLen_l hK.2.2
  have hSc := hsc0
  obtain ⟨mc, cap, F, hLo, hEo, hc0, hc1, hc2, hF, hCl⟩ := id hLi
  have hPsc : P ≠ sc := fun z => by rw [z, hSc] at hPo; cases hPo
  have hPL : P ≠ L := fun z => by rw [z, hLo] at hPo; cases hPo
  have hPe : P ≠ e := fun z => by rw [z, hEo] at hPo; cases hPo
  have hlsc := wf.lt hSc
  have hlL := wf.lt hLo
  have hle := wf.lt hEo
  obtain ⟨mc9, cap9, F9, hLo9, hEo9, hd0, hd1, hd2, hF9, hCl9⟩ := id hLi9
  have hPL9 : P ≠ L9 := fun z => by rw [z, hLo9] at hPo; cases hPo
  have hPe9 : P ≠ e9 := fun z => by rw [z, hEo9] at hPo; cases hPo
  have hlL9 := wf.lt hLo9
  have hle9 := wf.lt hEo9
  have hLe9 : L ≠ e9 := fun z => by rw [z, hEo9] at hLo; cases hLo
  have hL9e : L9 ≠ e := fun z => by rw [z, hEo] at hLo9; cases hLo9
  have hL9e9 : L9 ≠ e9 := fun z => by rw [z, hEo9] at hLo9; cases hLo9
  have hscL : sc ≠ L := fun z => by rw [z, hLo] at hSc; cases hSc
  have hscL9 : sc ≠ L9 := fun z => by rw [z, hLo9] at hSc; cases hSc
  have hsce : sc ≠ e := fun z => by rw [z, hEo] at hSc; cases hSc
  have hsce9 : sc ≠ e9 := fun z => by rw [z, hEo9] at hSc; cases hSc
  show ax_W Ω Γ 60 1500 h 0 [some (.ref P), none, none, none, none, none, none, none] []
  refine ax_aload_n (pc := 0) G dX11_visit_0 rfl rfl ?_
  obtain ⟨k290, v290, e290, y290⟩ : ∃ (a : pK) (c : Int32), a = pNx b n (if rPrV b (rPrA κ) f N = -1 then pFl (rPrA κ) 3 else rPrA κ) ∧ c = rPrV b (rPrA κ) f N := ⟨_, _, rfl, rfl⟩
  refine ax_pV (pc := 1) (kb := 54) (nb := 1390) G (ct_xearlier hA wf (by omega) hbP hEn hP hK (L := L) (e := e) ⟨_, hsc0⟩ (hLi.fr (rfl) (rfl) (fun q fs hq => (xKp.rfl' h) q _ hq (xIm_o (by decide)))) hNm hN e290 y290) lVX11_244_9 dX11_visit_1 (hPo) rfl (by decide) (Nat.le_of_ble_eq_true rfl) rfl (fun v9 h290 q9 => ?_) (fun x9 h9x q9 => ?_)
  rotate_left
  obtain ⟨c290x, fl290, s290⟩ := q9.x
  have hk9 : ψ.1 = k290 := by rw [hψ, rVisitB, rPr_e e290 y290, rN_c c290x, rL_c c290x, rN_c c290x, rN_c c290x, rN_c c290x, rN_c c290x, rN_c c290x]
  exact ax_outP G E (fun x hx => by cases hx) ⟨((xSt.rfl' wf).trans s290).L, Or.inr ⟨by rw [hk9]; exact c290x, _, rfl, by rw [hk9]; exact fl290⟩⟩
  obtain ⟨rfl, p290, c290, s290⟩ := q9.n
  obtain ⟨nm290, tk290, o290, t290⟩ := id p290
  obtain ⟨f290, z290, w290⟩ := id s290
  have n290 := hEn.kp (xKp.one wf (hPo) (by decide) f290)
  have x290 := xLen_l c290.2.2
  show ax_W Ω Γ _ _ (h290) _ _ (.int v290 :: _)
  refine ax_istore_n (pc := 4) G dX11_visit_4 rfl (Nat.le_of_ble_eq_true rfl) rfl ?_
  refine ax_aload_n (pc := 5) G dX11_visit_5 rfl rfl ?_
  refine ax_iconst (pc := 6) (v := nI 0) G dX11_visit_6 ic_0 ?_
  refine ax_sipush (pc := 7) (v := nI 359) G dX11_visit_7 is_359 ?_
  obtain ⟨k291, v291, e291, y291⟩ : ∃ (a : pK) (c : Int32), a = (pNum b n k290 (nI 0) (nI 359)).1 ∧ c = (pNum b n k290 (nI 0) (nI 359)).2 := ⟨_, _, rfl, rfl⟩
  refine ax_pV (pc := 10) (kb := 49) (nb := 1288) G (ct_xnum2 hA w290 (by omega) hbP n290 p290 c290 (nI 0) (nI 359) e291 y291) lVX11_118_9 dX11_visit_10 (o290) rfl (by decide) (Nat.le_of_ble_eq_true rfl) rfl (fun v9 h291 q9 => ?_) (fun x9 h9x q9 => ?_)
  rotate_left
  obtain ⟨c291x, fl291, s291⟩ := q9.x
  have hk9 : ψ.1 = k291 := by rw [hψ, rVisitB, rPr_e e290 y290, rN_e e291 y291, rL_c c291x, rN_c c291x, rN_c c291x, rN_c c291x, rN_c c291x, rN_c c291x]
  exact ax_outP G E (fun x hx => by cases hx) ⟨(((xSt.rfl' wf).trans s290).trans s291).L, Or.inr ⟨by rw [hk9]; exact c291x, _, rfl, by rw [hk9]; exact fl291⟩⟩
  obtain ⟨rfl, p291, c291, s291⟩ := q9.n
  obtain ⟨nm291, tk291, o291, t291⟩ := id p291
  obtain ⟨f291, z291, w291⟩ := id s291
  have n291 := n290.kp (xKp.one w290 (o290) (by decide) f291)
  have x291 := xLen_l c291.2.2
  show ax_W Ω Γ _ _ (h291) _ _ (.int v291 :: _)
  refine ax_istore_n (pc := 13) G dX11_visit_13 rfl (Nat.le_of_ble_eq_true rfl) rfl ?_
  refine ax_aload_n (pc := 14) G dX11_visit_14 rfl rfl ?_
  obtain ⟨k292, v292, e292, y292⟩ : ∃ (a : pK) (c : Int32), a = (pLatK b n k291).1 ∧ c = (pLatK b n k291).2 := ⟨_, _, rfl, rfl⟩
  refine ax_pV (pc := 15) (kb := 40) (nb := 1092) G (ct_xlat hA w291 (by omega) hbP n291 p291 c291  e292 y292) lVX11_247_9 dX11_visit_15 (o291) rfl (by decide) (Nat.le_of_ble_eq_true rfl) rfl (fun v9 h292 q9 => ?_) (fun x9 h9x q9 => ?_)
  rotate_left
  obtain ⟨c292x, fl292, s292⟩ := q9.x
  have hk9 : ψ.1 = k292 := by rw [hψ, rVisitB, rPr_e e290 y290, rN_e e291 y291, rL_e e292 y292, rN_c c292x, rN_c c292x, rN_c c292x, rN_c c292x, rN_c c292x]
  exact ax_outP G E (fun x hx => by cases hx) ⟨((((xSt.rfl' wf).trans s290).trans s291).trans s292).L, Or.inr ⟨by rw [hk9]; exact c292x, _, rfl, by rw [hk9]; exact fl292⟩⟩
  obtain ⟨rfl, p292, c292, s292⟩ := q9.n
  obtain ⟨nm292, tk292, o292, t292⟩ := id p292
  obtain ⟨f292, z292, w292⟩ := id s292
  have n292 := n291.kp (xKp.one w291 (o291) (by decide) f292)
  have x292 := xLen_l c292.2.2
  show ax_W Ω Γ _ _ (h292) _ _ (.int v292 :: _)
  refine ax_istore_n (pc := 18) G dX11_visit_18 rfl (Nat.le_of_ble_eq_true rfl) rfl ?_
  refine ax_aload_n (pc := 19) G dX11_visit_19 rfl rfl ?_
  refine ax_iconst (pc := 20) (v := nI 1) G dX11_visit_20 ic_1 ?_
  refine ax_sipush (pc := 21) (v := nI 300) G dX11_visit_21 is_300 ?_
  obtain ⟨k293, v293, e293, y293⟩ : ∃ (a : pK) (c : Int32), a = (pNum b n k292 (nI 1) (nI 300)).1 ∧ c = (pNum b n k292 (nI 1) (nI 300)).2 := ⟨_, _, rfl, rfl⟩
  refine ax_pV (pc := 24) (kb := 35) (nb := 990) G (ct_xnum2 hA w292 (by omega) hbP n292 p292 c292 (nI 1) (nI 300) e293 y293) lVX11_118_9 dX11_visit_24 (o292) rfl (by decide) (Nat.le_of_ble_eq_true rfl) rfl (fun v9 h293 q9 => ?_) (fun x9 h9x q9 => ?_)
  rotate_left
  obtain ⟨c293x, fl293, s293⟩ := q9.x
  have hk9 : ψ.1 = k293 := by rw [hψ, rVisitB, rPr_e e290 y290, rN_e e291 y291, rL_e e292 y292, rN_e e293 y293, rN_c c293x, rN_c c293x, rN_c c293x, rN_c c293x]
  exact ax_outP G E (fun x hx => by cases hx) ⟨(((((xSt.rfl' wf).trans s290).trans s291).trans s292).trans s293).L, Or.inr ⟨by rw [hk9]; exact c293x, _, rfl, by rw [hk9]; exact fl293⟩⟩
  obtain ⟨rfl, p293, c293, s293⟩ := q9.n
  obtain ⟨nm293, tk293, o293, t293⟩ := id p293
  obtain ⟨f293, z293, w293⟩ := id s293
  have n293 := n292.kp (xKp.one w292 (o292) (by decide) f293)
  have x293 := xLen_l c293.2.2
  show ax_W Ω Γ _ _ (h293) _ _ (.int v293 :: _)
  refine ax_istore (pc := 27) G dX11_visit_27 (Nat.le_of_ble_eq_true rfl) rfl ?_
  refine ax_aload_n (pc := 29) G dX11_visit_29 rfl rfl ?_
  refine ax_iconst (pc := 30) (v := nI 1) G dX11_visit_30 ic_1 ?_
  refine ax_bipush (pc := 31) (v := nI 9) G dX11_visit_31 ib_9 ?_
  obtain ⟨k294, v294, e294, y294⟩ : ∃ (a : pK) (c : Int32), a = (pNum b n k293 (nI 1) (nI 9)).1 ∧ c = (pNum b n k293 (nI 1) (nI 9)).2 := ⟨_, _, rfl, rfl⟩
  refine ax_pV (pc := 33) (kb := 30) (nb := 888) G (ct_xnum2 hA w293 (by omega) hbP n293 p293 c293 (nI 1) (nI 9) e294 y294) lVX11_118_9 dX11_visit_33 (o293) rfl (by decide) (Nat.le_of_ble_eq_true rfl) rfl (fun v9 h294 q9 => ?_) (fun x9 h9x q9 => ?_)
  rotate_left
  obtain ⟨c294x, fl294, s294⟩ := q9.x
  have hk9 : ψ.1 = k294 := by rw [hψ, rVisitB, rPr_e e290 y290, rN_e e291 y291, rL_e e292 y292, rN_e e293 y293, rN_e e294 y294, rN_c c294x, rN_c c294x, rN_c c294x]
  exact ax_outP G E (fun x hx => by cases hx) ⟨((((((xSt.rfl' wf).trans s290).trans s291).trans s292).trans s293).trans s294).L, Or.inr ⟨by rw [hk9]; exact c294x, _, rfl, by rw [hk9]; exact fl294⟩⟩
  obtain ⟨rfl, p294, c294, s294⟩ := q9.n
  obtain ⟨nm294, tk294, o294, t294⟩ := id p294
  obtain ⟨f294, z294, w294⟩ := id s294
  have n294 := n293.kp (xKp.one w293 (o293) (by decide) f294)
  have x294 := xLen_l c294.2.2
  show ax_W Ω Γ _ _ (h294) _ _ (.int v294 :: _)
  refine ax_istore (pc := 36) G dX11_visit_36 (Nat.le_of_ble_eq_true rfl) rfl ?_
  refine ax_aload_n (pc := 38) G dX11_visit_38 rfl rfl ?_
  refine ax_iconst (pc := 39) (v := nI 0) G dX11_visit_39 ic_0 ?_
  refine ax_bipush (pc := 40) (v := nI 99) G dX11_visit_40 ib_99 ?_
  obtain ⟨k295, v295, e295, y295⟩ : ∃ (a : pK) (c : Int32), a = (pNum b n k294 (nI 0) (nI 99)).1 ∧ c = (pNum b n k294 (nI 0) (nI 99)).2 := ⟨_, _, rfl, rfl⟩
  refine ax_pV (pc := 42) (kb := 25) (nb := 786) G (ct_xnum2 hA w294 (by omega) hbP n294 p294 c294 (nI 0) (nI 99) e295 y295) lVX11_118_9 dX11_visit_42 (o294) rfl (by decide) (Nat.le_of_ble_eq_true rfl) rfl (fun v9 h295 q9 => ?_) (fun x9 h9x q9 => ?_)
  rotate_left
  obtain ⟨c295x, fl295, s295⟩ := q9.x
  have hk9 : ψ.1 = k295 := by rw [hψ, rVisitB, rPr_e e290 y290, rN_e e291 y291, rL_e e292 y292, rN_e e293 y293, rN_e e294 y294, rN_e e295 y295, rN_c c295x, rN_c c295x]
  exact ax_outP G E (fun x hx => by cases hx) ⟨(((((((xSt.rfl' wf).trans s290).trans s291).trans s292).trans s293).trans s294).trans s295).L, Or.inr ⟨by rw [hk9]; exact c295x, _, rfl, by rw [hk9]; exact fl295⟩⟩
  obtain ⟨rfl, p295, c295, s295⟩ := q9.n
  obtain ⟨nm295, tk295, o295, t295⟩ := id p295
  obtain ⟨f295, z295, w295⟩ := id s295
  have n295 := n294.kp (xKp.one w294 (o294) (by decide) f295)
  have x295 := xLen_l c295.2.2
  show ax_W Ω Γ _ _ (h295) _ _ (.int v295 :: _)
  refine ax_istore (pc := 45) G dX11_visit_45 (Nat.le_of_ble_eq_true rfl) rfl ?_
  refine ax_aload_n (pc := 47) G dX11_visit_47 rfl rfl ?_
  refine ax_iconst (pc := 48) (v := nI 0) G dX11_visit_48 ic_0 ?_
  refine ax_sipush (pc := 49) (v := nI 2000) G dX11_visit_49 is_2000 ?_
  obtain ⟨k296, v296, e296, y296⟩ : ∃ (a : pK) (c : Int32), a = (pNum b n k295 (nI 0) (nI 2000)).1 ∧ c = (pNum b n k295 (nI 0) (nI 2000)).2 := ⟨_, _, rfl, rfl⟩
  refine ax_pV (pc := 52) (kb := 20) (nb := 684) G (ct_xnum2 hA w295 (by omega) hbP n295 p295 c295 (nI 0) (nI 2000) e296 y296) lVX11_118_9 dX11_visit_52 (o295) rfl (by decide) (Nat.le_of_ble_eq_true rfl) rfl (fun v9 h296 q9 => ?_) (fun x9 h9x q9 => ?_)
  rotate_left
  obtain ⟨c296x, fl296, s296⟩ := q9.x
  have hk9 : ψ.1 = k296 := by rw [hψ, rVisitB, rPr_e e290 y290, rN_e e291 y291, rL_e e292 y292, rN_e e293 y293, rN_e e294 y294, rN_e e295 y295, rN_e e296 y296, rN_c c296x]
  exact ax_outP G E (fun x hx => by cases hx) ⟨((((((((xSt.rfl' wf).trans s290).trans s291).trans s292).trans s293).trans s294).trans s295).trans s296).L, Or.inr ⟨by rw [hk9]; exact c296x, _, rfl, by rw [hk9]; exact fl296⟩⟩
  obtain ⟨rfl, p296, c296, s296⟩ := q9.n
  obtain ⟨nm296, tk296, o296, t296⟩ := id p296
  obtain ⟨f296, z296, w296⟩ := id s296
  have n296 := n295.kp (xKp.one w295 (o295) (by decide) f296)
  have x296 := xLen_l c296.2.2
  show ax_W Ω Γ _ _ (h296) _ _ (.int v296 :: _)
  refine ax_istore (pc := 55) G dX11_visit_55 (Nat.le_of_ble_eq_true rfl) rfl ?_
  refine ax_aload_n (pc := 57) G dX11_visit_57 rfl rfl ?_
  refine ax_getf (pc := 58) (v := .ref sc) G flX11_20_9 dX11_visit_58 (o296) rfl ?_
  refine ax_getf (pc := 61) (v := .ref L9) G flX11_202_10 dX11_visit_61 ((f296 _ (by first | assumption | omega) (by first | assumption | exact Ne.symm (by assumption) | omega)).trans ((f295 _ (by first | assumption | omega) (by first | assumption | exact Ne.symm (by assumption) | omega)).trans ((f294 _ (by first | assumption | omega) (by first | assumption | exact Ne.symm (by assumption) | omega)).trans ((f293 _ (by first | assumption | omega) (by first | assumption | exact Ne.symm (by assumption) | omega)).trans ((f292 _ (by first | assumption | omega) (by first | assumption | exact Ne.symm (by assumption) | omega)).trans ((f291 _ (by first | assumption | omega) (by first | assumption | exact Ne.symm (by assumption) | omega)).trans ((f290 _ (by first | assumption | omega) (by first | assumption | exact Ne.symm (by assumption) | omega)).trans (hsc0)))))))) rfl ?_
  refine ax_new (pc := 64) (ci := 13) (kb := 19) (nb := 676) G [.int (nI 0), .int (nI 0), .int (nI 0), .int (nI 0), .int (nI 0), .int (nI 0), .int (nI 0), .int (nI 0)] dX11_visit_64 rfl cok_X16 rfl q1310 q1311 q151 (fun j hj => by match j, hj with | 0, _ => rfl | 1, _ => rfl | 2, _ => rfl | 3, _ => rfl | 4, _ => rfl | 5, _ => rfl | 6, _ => rfl | 7, _ => rfl) ?_
  refine ax_hvA w296 (fun h297 g297 f297 z297 w297 => ?_)
  have n297 := n296.kp (fun q e he _ => (f297 q (by have := w296.lt he; omega)).trans he)
  have p297 : xPs h297 P tx n sc sa β k296 := ⟨nm296, tk296, (f297 _ (by first | assumption | exact Ne.symm (by assumption) | omega)).trans (o296), (t296.1.kp (fun q e he _ => (f297 q (by have := w296.lt he; omega)).trans he)), t296.2⟩
  have t297 : xTk h297 tk296 nm296 β k296 := ⟨(t296.1.kp (fun q e he _ => (f297 q (by have := w296.lt he; omega)).trans he)), t296.2⟩
  refine ax_dup (pc := 67) G dX11_visit_67 rfl ?_
  refine ax_iload_n (pc := 68) G dX11_visit_68 rfl rfl ?_
  refine ax_iload_n (pc := 69) G dX11_visit_69 rfl rfl ?_
  refine ax_iload_n (pc := 70) G dX11_visit_70 rfl rfl ?_
  refine ax_iload (pc := 71) G dX11_visit_71 rfl ?_
  refine ax_iload (pc := 73) G dX11_visit_73 rfl ?_
  refine ax_iload (pc := 75) G dX11_visit_75 rfl ?_
  refine ax_iload (pc := 77) G dX11_visit_77 rfl ?_
  refine ax_aload_n (pc := 79) G dX11_visit_79 rfl rfl ?_
  refine ax_iload (pc := 80) G dX11_visit_80 rfl ?_
  refine ax_sipush (pc := 82) (v := nI 2000) G dX11_visit_82 is_2000 ?_
  obtain ⟨k298, v298, e298, y298⟩ : ∃ (a : pK) (c : Int32), a = (pNum b n k296 v296 (nI 2000)).1 ∧ c = (pNum b n k296 v296 (nI 2000)).2 := ⟨_, _, rfl, rfl⟩
  refine ax_pV (pc := 85) (kb := 14) (nb := 574) G (ct_xnum2 hA w297 (by omega) hbP n297 p297 c296 v296 (nI 2000) e298 y298) lVX11_118_9 dX11_visit_85 ((f297 _ (by first | assumption | exact Ne.symm (by assumption) | omega)).trans (o296)) rfl (by decide) (Nat.le_of_ble_eq_true rfl) rfl (fun v9 h298 q9 => ?_) (fun x9 h9x q9 => ?_)
  rotate_left
  obtain ⟨c298x, fl298, s298⟩ := q9.x
  have hk9 : ψ.1 = k298 := by rw [hψ, rVisitB, rPr_e e290 y290, rN_e e291 y291, rL_e e292 y292, rN_e e293 y293, rN_e e294 y294, rN_e e295 y295, rN_e e296 y296, rN_e e298 y298]
  exact ax_outP G E (fun x hx => by cases hx) ⟨((((((((((xSt.rfl' wf).trans s290).trans s291).trans s292).trans s293).trans s294).trans s295).trans s296).trans ⟨fun q a1 _ => f297 q (by omega), by omega, w297⟩).trans s298).L, Or.inr ⟨by rw [hk9]; exact c298x, _, rfl, by rw [hk9]; exact fl298⟩⟩
  obtain ⟨rfl, p298, c298, s298⟩ := q9.n
  obtain ⟨nm298, tk298, o298, t298⟩ := id p298
  obtain ⟨f298, z298, w298⟩ := id s298
  have n298 := n297.kp (xKp.one w297 ((f297 _ (by first | assumption | exact Ne.symm (by assumption) | omega)).trans (o296)) (by decide) f298)
  have x298 := xLen_l c298.2.2
  show ax_W Ω Γ _ _ (h298) _ _ (.int v298 :: _)
  refine ax_nI (pc := 88) (kb := 14) (nb := 574) G (ct_vinit hA w298 (by omega) ((f298 _ (by first | assumption | omega) (by first | assumption | exact Ne.symm (by assumption) | omega)).trans (g297)) (by omega)) lIX11_252 dX11_visit_88 rfl (by decide) (Nat.le_of_ble_eq_true rfl) rfl (fun v299 h299 q9 => ?_)
  obtain ⟨rfl, g299, f299, z299, w299⟩ := q9
  have t299 : xTk h299 tk298 nm298 β k298 := ⟨t298.1.fr (fun q e he h1 h2 => (f299 q (fun y => by rw [y, (f298 _ (by first | assumption | omega) (by first | assumption | exact Ne.symm (by assumption) | omega)).trans (g297)] at he; exact absurd (h1 _ _ (Option.some.inj he).symm) (by decide))).trans he), t298.2⟩
  show ax_W Ω Γ _ _ (h299) _ _ (_)
  refine ax_nJ (pc := 91) (kb := 13) (nb := 374) G (ct_ladd hA w299 (by omega) ((f299 _ (by first | assumption | exact Ne.symm (by assumption) | omega)).trans ((f298 _ (by first | assumption | omega) (by first | assumption | exact Ne.symm (by assumption) | omega)).trans ((f297 _ (by first | assumption | exact Ne.symm (by assumption) | omega)).trans ((f296 _ (by first | assumption | omega) (by first | assumption | exact Ne.symm (by assumption) | omega)).trans ((f295 _ (by first | assumption | omega) (by first | assumption | exact Ne.symm (by assumption) | omega)).trans ((f294 _ (by first | assumption | omega) (by first | assumption | exact Ne.symm (by assumption) | omega)).trans ((f293 _ (by first | assumption | omega) (by first | assumption | exact Ne.symm (by assumption) | omega)).trans ((f292 _ (by first | assumption | omega) (by first | assumption | exact Ne.symm (by assumption) | omega)).trans ((f291 _ (by first | assumption | omega) (by first | assumption | exact Ne.symm (by assumption) | omega)).trans ((f290 _ (by first | assumption | omega) (by first | assumption | exact Ne.symm (by assumption) | omega)).trans (hEo9))))))))))) hbe hd1 ((f299 _ (by first | assumption | exact Ne.symm (by assumption) | omega)).trans ((f298 _ (by first | assumption | omega) (by first | assumption | exact Ne.symm (by assumption) | omega)).trans ((f297 _ (by first | assumption | exact Ne.symm (by assumption) | omega)).trans ((f296 _ (by first | assumption | omega) (by first | assumption | exact Ne.symm (by assumption) | omega)).trans ((f295 _ (by first | assumption | omega) (by first | assumption | exact Ne.symm (by assumption) | omega)).trans ((f294 _ (by first | assumption | omega) (by first | assumption | exact Ne.symm (by assumption) | omega)).trans ((f293 _ (by first | assumption | omega) (by first | assumption | exact Ne.symm (by assumption) | omega)).trans ((f292 _ (by first | assumption | omega) (by first | assumption | exact Ne.symm (by assumption) | omega)).trans ((f291 _ (by first | assumption | omega) (by first | assumption | exact Ne.symm (by assumption) | omega)).trans ((f290 _ (by first | assumption | omega) (by first | assumption | exact Ne.symm (by assumption) | omega)).trans (hLo9))))))))))) hbL (fun j hj q hq => by obtain ⟨fs, hf⟩ := hCl9 j hj q hq; exact ⟨13, fs, (fun q e he hi => (f299 q (by have := wf.lt he; omega)).trans (((((((((((xKp.rfl' h).trans (xKp.one wf (hPo) (by decide) f290)).trans (xKp.one w290 (o290) (by decide) f291)).trans (xKp.one w291 (o291) (by decide) f292)).trans (xKp.one w292 (o292) (by decide) f293)).trans (xKp.one w293 (o293) (by decide) f294)).trans (xKp.one w294 (o294) (by decide) f295)).trans (xKp.one w295 (o295) (by decide) f296)).trans (fun q e he _ => (f297 q (by have := w296.lt he; omega)).trans he)).trans (xKp.one w297 ((f297 _ (by first | assumption | exact Ne.symm (by assumption) | omega)).trans (o296)) (by decide) f298)) q e he hi)) q _ hf (xIm_o (by decide)), ⟨_, rfl, Or.inr q3285⟩⟩) hd0 hd2 (g299) ⟨_, rfl, Or.inr q3285⟩ (by omega)) lJX11_218_16 dX11_visit_91 ((f299 _ (by first | assumption | exact Ne.symm (by assumption) | omega)).trans ((f298 _ (by first | assumption | omega) (by first | assumption | exact Ne.symm (by assumption) | omega)).trans ((f297 _ (by first | assumption | exact Ne.symm (by assumption) | omega)).trans ((f296 _ (by first | assumption | omega) (by first | assumption | exact Ne.symm (by assumption) | omega)).trans ((f295 _ (by first | assumption | omega) (by first | assumption | exact Ne.symm (by assumption) | omega)).trans ((f294 _ (by first | assumption | omega) (by first | assumption | exact Ne.symm (by assumption) | omega)).trans ((f293 _ (by first | assumption | omega) (by first | assumption | exact Ne.symm (by assumption) | omega)).trans ((f292 _ (by first | assumption | omega) (by first | assumption | exact Ne.symm (by assumption) | omega)).trans ((f291 _ (by first | assumption | omega) (by first | assumption | exact Ne.symm (by assumption) | omega)).trans ((f290 _ (by first | assumption | omega) (by first | assumption | exact Ne.symm (by assumption) | omega)).trans (hLo9))))))))))) rfl (by decide) (Nat.le_of_ble_eq_true rfl) rfl (fun v300 h300 q9 => ?_)
  obtain ⟨rfl, a300⟩ := q9
  obtain ⟨e8, cap8, F8, b1, b2, b3, b4, b5, b6, b7, z300, f300, w300⟩ := id a300
  show ax_W Ω Γ _ _ (h300) _ _ (.int (nI 1) :: _)
  refine ax_pop (pc := 96) G dX11_visit_96 rfl ?_
  have hψ9 := hψ
  rw [rVisitB, rPr_e e290 y290, rN_e e291 y291, rL_e e292 y292, rN_e e293 y293, rN_e e294 y294, rN_e e295 y295, rN_e e296 y296, rN_e e298 y298] at hψ9
  have hk9 : ψ.1 = k298 := by rw [hψ9]
  obtain ⟨e7, l7, o7⟩ := xLi.add ((f299 _ (by first | assumption | exact Ne.symm (by assumption) | omega)).trans ((f298 _ (by first | assumption | omega) (by first | assumption | exact Ne.symm (by assumption) | omega)).trans ((f297 _ (by first | assumption | exact Ne.symm (by assumption) | omega)).trans ((f296 _ (by first | assumption | omega) (by first | assumption | exact Ne.symm (by assumption) | omega)).trans ((f295 _ (by first | assumption | omega) (by first | assumption | exact Ne.symm (by assumption) | omega)).trans ((f294 _ (by first | assumption | omega) (by first | assumption | exact Ne.symm (by assumption) | omega)).trans ((f293 _ (by first | assumption | omega) (by first | assumption | exact Ne.symm (by assumption) | omega)).trans ((f292 _ (by first | assumption | omega) (by first | assumption | exact Ne.symm (by assumption) | omega)).trans ((f291 _ (by first | assumption | omega) (by first | assumption | exact Ne.symm (by assumption) | omega)).trans ((f290 _ (by first | assumption | omega) (by first | assumption | exact Ne.symm (by assumption) | omega)).trans (hLo9))))))))))) ((f299 _ (by first | assumption | exact Ne.symm (by assumption) | omega)).trans ((f298 _ (by first | assumption | omega) (by first | assumption | exact Ne.symm (by assumption) | omega)).trans ((f297 _ (by first | assumption | exact Ne.symm (by assumption) | omega)).trans ((f296 _ (by first | assumption | omega) (by first | assumption | exact Ne.symm (by assumption) | omega)).trans ((f295 _ (by first | assumption | omega) (by first | assumption | exact Ne.symm (by assumption) | omega)).trans ((f294 _ (by first | assumption | omega) (by first | assumption | exact Ne.symm (by assumption) | omega)).trans ((f293 _ (by first | assumption | omega) (by first | assumption | exact Ne.symm (by assumption) | omega)).trans ((f292 _ (by first | assumption | omega) (by first | assumption | exact Ne.symm (by assumption) | omega)).trans ((f291 _ (by first | assumption | omega) (by first | assumption | exact Ne.symm (by assumption) | omega)).trans ((f290 _ (by first | assumption | omega) (by first | assumption | exact Ne.symm (by assumption) | omega)).trans (hEo9))))))))))) hV hd2 hd1 hF9 (fun j hj q hq => by obtain ⟨fs, hf⟩ := hCl9 j hj q hq; exact ⟨fs, (fun q e he hi => (f299 q (by have := wf.lt he; omega)).trans (((((((((((xKp.rfl' h).trans (xKp.one wf (hPo) (by decide) f290)).trans (xKp.one w290 (o290) (by decide) f291)).trans (xKp.one w291 (o291) (by decide) f292)).trans (xKp.one w292 (o292) (by decide) f293)).trans (xKp.one w293 (o293) (by decide) f294)).trans (xKp.one w294 (o294) (by decide) f295)).trans (xKp.one w295 (o295) (by decide) f296)).trans (fun q e he _ => (f297 q (by have := w296.lt he; omega)).trans he)).trans (xKp.one w297 ((f297 _ (by first | assumption | exact Ne.symm (by assumption) | omega)).trans (o296)) (by decide) f298)) q e he hi)) q _ hf (xIm_o (by decide))⟩) (g299) (by decide) w299 a300
  have t9 : xTk h300 tk298 nm298 β k298 := ⟨t299.1.fr (fun q e he h1 h2 => (f300 q (w299.lt he) (fun y => by rw [y, (f299 _ (by first | assumption | exact Ne.symm (by assumption) | omega)).trans ((f298 _ (by first | assumption | omega) (by first | assumption | exact Ne.symm (by assumption) | omega)).trans ((f297 _ (by first | assumption | exact Ne.symm (by assumption) | omega)).trans ((f296 _ (by first | assumption | omega) (by first | assumption | exact Ne.symm (by assumption) | omega)).trans ((f295 _ (by first | assumption | omega) (by first | assumption | exact Ne.symm (by assumption) | omega)).trans ((f294 _ (by first | assumption | omega) (by first | assumption | exact Ne.symm (by assumption) | omega)).trans ((f293 _ (by first | assumption | omega) (by first | assumption | exact Ne.symm (by assumption) | omega)).trans ((f292 _ (by first | assumption | omega) (by first | assumption | exact Ne.symm (by assumption) | omega)).trans ((f291 _ (by first | assumption | omega) (by first | assumption | exact Ne.symm (by assumption) | omega)).trans ((f290 _ (by first | assumption | omega) (by first | assumption | exact Ne.symm (by assumption) | omega)).trans (hLo9))))))))))] at he; exact absurd (h1 _ _ (Option.some.inj he).symm) (by decide)) (fun y => by rw [y, (f299 _ (by first | assumption | exact Ne.symm (by assumption) | omega)).trans ((f298 _ (by first | assumption | omega) (by first | assumption | exact Ne.symm (by assumption) | omega)).trans ((f297 _ (by first | assumption | exact Ne.symm (by assumption) | omega)).trans ((f296 _ (by first | assumption | omega) (by first | assumption | exact Ne.symm (by assumption) | omega)).trans ((f295 _ (by first | assumption | omega) (by first | assumption | exact Ne.symm (by assumption) | omega)).trans ((f294 _ (by first | assumption | omega) (by first | assumption | exact Ne.symm (by assumption) | omega)).trans ((f293 _ (by first | assumption | omega) (by first | assumption | exact Ne.symm (by assumption) | omega)).trans ((f292 _ (by first | assumption | omega) (by first | assumption | exact Ne.symm (by assumption) | omega)).trans ((f291 _ (by first | assumption | omega) (by first | assumption | exact Ne.symm (by assumption) | omega)).trans ((f290 _ (by first | assumption | omega) (by first | assumption | exact Ne.symm (by assumption) | omega)).trans (hEo9))))))))))] at he; exact absurd (h2 _ _ _ (Option.some.inj he).symm) (by decide))).trans he), t299.2⟩
  exact ax_vretP (pc := 97) G E rfl dX11_visit_97 ⟨⟨(fun q a1 a2 a3 a4 => (f300 _ (by first | assumption | omega) (by first | assumption | exact Ne.symm (by assumption) | omega) (by first | assumption | exact Ne.symm (by assumption) | omega)).trans ((f299 _ (by first | assumption | exact Ne.symm (by assumption) | omega)).trans ((f298 _ (by first | assumption | omega) (by first | assumption | exact Ne.symm (by assumption) | omega)).trans ((f297 _ (by first | assumption | exact Ne.symm (by assumption) | omega)).trans ((f296 _ (by first | assumption | omega) (by first | assumption | exact Ne.symm (by assumption) | omega)).trans ((f295 _ (by first | assumption | omega) (by first | assumption | exact Ne.symm (by assumption) | omega)).trans ((f294 _ (by first | assumption | omega) (by first | assumption | exact Ne.symm (by assumption) | omega)).trans ((f293 _ (by first | assumption | omega) (by first | assumption | exact Ne.symm (by assumption) | omega)).trans ((f292 _ (by first | assumption | omega) (by first | assumption | exact Ne.symm (by assumption) | omega)).trans ((f291 _ (by first | assumption | omega) (by first | assumption | exact Ne.symm (by assumption) | omega)).trans ((f290 _ (by first | assumption | omega) (by first | assumption | exact Ne.symm (by assumption) | omega))))))))))))), by omega, w300⟩, Or.inl ⟨rfl, by rw [hk9]; exact ⟨nm298, tk298, (f300 _ (by first | assumption | omega) (by first | assumption | exact Ne.symm (by assumption) | omega) (by first | assumption | exact Ne.symm (by assumption) | omega)).trans ((f299 _ (by first | assumption | exact Ne.symm (by assumption) | omega)).trans (o298)), t9⟩, by rw [hk9]; exact c298, e7, h296.2, l7, by rcases o7 with y | y <;> omega, by omega, by rw [hψ9]; simp (disch := omega) only [↓pad_ne, ↓pu_ne, ↓pu_eqq]; exact (f300 _ (by first | assumption | omega) (by first | assumption | exact Ne.symm (by assumption) | omega) (by first | assumption | exact Ne.symm (by assumption) | omega)).trans (g299)⟩⟩

set_option maxHeartbeats 6000000 in
theorem ct_xalert {Ω : ax_O} (hA : ax_Amb Ω) {h : ax_H} (wf : ax_wf h) (hz : Ω.2.1.heap.size ≤ h.2) {P tx n sc sa : Nat} {tb b : Nat → Int32} {β : Nat → Nat} (hbP : Ω.2.1.heap.size ≤ P) (hEn : xEn Ω h tx n tb b β) {κ : pK} (hP : xPs h P tx n sc sa β κ) (hK : xK n β κ) {L e N L9 e9 V : Nat} {xs xs9 : Nat → Nat} {rs0 : List Value} {x0 x1 : Value} (hsc : ∃ rs, h.1 sc = some (.inr (10, .ref L :: rs))) (hsa : h.1 sa = some (.inr (1, x0 :: x1 :: .ref L9 :: rs0))) (hLi : xLi h L e N xs 12) {nm0 ln : Nat → Nat} {lt : Nat → Nat → Nat} {f g : pR} (hNm : xNm h xs nm0 ln lt f g N) (hN : N ≤ 6) (hLi9 : xLi h L9 e9 V xs9 14) (hV : V ≤ 20) (hbL : Ω.2.1.heap.size ≤ L9) (hbe : Ω.2.1.heap.size ≤ e9) (hLL : L9 ≠ L) (hee : e9 ≠ e) {ψ : rS} (hψ : ψ = rAlertB b n κ f g N V)  : ax_MetP Ω yX11_alert 11 60 1500 [.ref P] h (xOutL h P tx n sc sa β ψ.1 L9 e9 (fun h' => ∃ e' xn, xLi h' L9 e' (V + 1) (fun k => if k = V then xn else xs9 k) 14 ∧ (e' = e9 ∨ h.2 ≤ e') ∧ h.2 ≤ xn ∧ h'.1 xn = some (.inr (14, [.int (ψ.2.2 (127 + 10 * V + 0)), .int (ψ.2.2 (127 + 10 * V + 2)), .int (ψ.2.2 (127 + 10 * V + 3)), .int (ψ.2.2 (127 + 10 * V + 4)), .int (ψ.2.2 (127 + 10 * V + 5)), .int (ψ.2.2 (127 + 10 * V + 1)), .int (ψ.2.2 (127 + 10 * V + 6))])))) := by
  refine ax_metP q1348 q145 (by decide +kernel) (by decide) hA (Nat.le_of_ble_eq_true rfl) (fun Γ G E => ?_)
  obtain ⟨nm, tk, hPo, hTk⟩ := id hP
  have hlP := wf.lt hPo
  have hβ := hEn.2.2.2.1
  have hlx := xLen_l hK.2.2
  obtain ⟨rs, hSc⟩ := hsc
  have hPsa : P ≠ sa := fun z => by rw [z, hsa] at hPo; cases hPo
  have hlsa := wf.lt hsa
  obtain ⟨mc, cap, F, hLo, hEo, hc0, hc1, hc2, hF, hCl⟩ := id hLi
  have hPsc : P ≠ sc := fun z => by rw [z, hSc] at hPo; cases hPo
  have hPL : P ≠ L := fun z => by rw [z, hLo] at hPo; cases hPo
  have hPe : P ≠ e := fun z => by rw [z, hEo] at hPo; cases hPo
  have hlsc := wf.lt hSc
  have hlL := wf.lt hLo
  have hle := wf.lt hEo
  obtain ⟨mc9, cap9, F9, hLo9, hEo9, hd0, hd1, hd2, hF9, hCl9⟩ := id hLi9
  have hPL9 : P ≠ L9 := fun z => by rw [z, hLo9] at hPo; cases hPo
  have hPe9 : P ≠ e9 := fun z => by rw [z, hEo9] at hPo; cases hPo
  have hlL9 := wf.lt hLo9
  have hle9 := wf.lt hEo9
  have hLe9 : L ≠ e9 := fun z => by rw [z, hEo9] at hLo; cases hLo
  have hL9e : L9 ≠ e := fun z => by rw [z, hEo] at hLo9; cases hLo9
  have hL9e9 : L9 ≠ e9 := fun z => by rw [z, hEo9] at hLo9; cases hLo9
  have hscL : sc ≠ L := fun z => by rw [z, hLo] at hSc; cases hSc
  have hscL9 : sc ≠ L9 := fun z => by rw [z, hLo9] at hSc; cases hSc
  have hsce : sc ≠ e := fun z => by rw [z, hEo] at hSc; cases hSc
  have hsce9 : sc ≠ e9 := fun z => by rw [z, hEo9] at hSc; cases hSc
  show ax_W Ω Γ 60 1500 h 0 [some (.ref P), none, none, none, none, none, none] []
  refine ax_aload_n (pc := 0) G dX11_alert_0 rfl rfl ?_
  obtain ⟨k301, v301, e301, y301⟩ : ∃ (a : pK) (c : Int32), a = pNx b n (if rPrV b (rPrA κ) f N = -1 then pFl (rPrA κ) 3 else rPrA κ) ∧ c = rPrV b (rPrA κ) f N := ⟨_, _, rfl, rfl⟩
  refine ax_pV (pc := 1) (kb := 54) (nb := 1390) G (ct_xearlier hA wf (by omega) hbP hEn hP hK (L := L) (e := e) ⟨_, hSc⟩ (hLi.fr (rfl) (rfl) (fun q fs hq => (xKp.rfl' h) q _ hq (xIm_o (by decide)))) hNm hN e301 y301) lVX11_244_9 dX11_alert_1 (hPo) rfl (by decide) (Nat.le_of_ble_eq_true rfl) rfl (fun v9 h301 q9 => ?_) (fun x9 h9x q9 => ?_)
  rotate_left
  obtain ⟨c301x, fl301, s301⟩ := q9.x
  have hk9 : ψ.1 = k301 := by rw [hψ, rAlertB, rPr_e e301 y301, rN_c c301x, rN_c c301x, rL_c c301x, rN_c c301x, rN_c c301x, rN_c c301x]
  exact ax_outP G E (fun x hx => by cases hx) ⟨((xSt.rfl' wf).trans s301).L, Or.inr ⟨by rw [hk9]; exact c301x, _, rfl, by rw [hk9]; exact fl301⟩⟩
  obtain ⟨rfl, p301, c301, s301⟩ := q9.n
  obtain ⟨nm301, tk301, o301, t301⟩ := id p301
  obtain ⟨f301, z301, w301⟩ := id s301
  have n301 := hEn.kp (xKp.one wf (hPo) (by decide) f301)
  have x301 := xLen_l c301.2.2
  show ax_W Ω Γ _ _ (h301) _ _ (.int v301 :: _)
  refine ax_istore_n (pc := 4) G dX11_alert_4 rfl (Nat.le_of_ble_eq_true rfl) rfl ?_
  refine ax_aload_n (pc := 5) G dX11_alert_5 rfl rfl ?_
  refine ax_iconst (pc := 6) (v := nI 0) G dX11_alert_6 ic_0 ?_
  refine ax_sipush (pc := 7) (v := nI 2000) G dX11_alert_7 is_2000 ?_
  obtain ⟨k302, v302, e302, y302⟩ : ∃ (a : pK) (c : Int32), a = (pNum b n k301 (nI 0) (nI 2000)).1 ∧ c = (pNum b n k301 (nI 0) (nI 2000)).2 := ⟨_, _, rfl, rfl⟩
  refine ax_pV (pc := 10) (kb := 49) (nb := 1288) G (ct_xnum2 hA w301 (by omega) hbP n301 p301 c301 (nI 0) (nI 2000) e302 y302) lVX11_118_9 dX11_alert_10 (o301) rfl (by decide) (Nat.le_of_ble_eq_true rfl) rfl (fun v9 h302 q9 => ?_) (fun x9 h9x q9 => ?_)
  rotate_left
  obtain ⟨c302x, fl302, s302⟩ := q9.x
  have hk9 : ψ.1 = k302 := by rw [hψ, rAlertB, rPr_e e301 y301, rN_e e302 y302, rN_c c302x, rL_c c302x, rN_c c302x, rN_c c302x, rN_c c302x]
  exact ax_outP G E (fun x hx => by cases hx) ⟨(((xSt.rfl' wf).trans s301).trans s302).L, Or.inr ⟨by rw [hk9]; exact c302x, _, rfl, by rw [hk9]; exact fl302⟩⟩
  obtain ⟨rfl, p302, c302, s302⟩ := q9.n
  obtain ⟨nm302, tk302, o302, t302⟩ := id p302
  obtain ⟨f302, z302, w302⟩ := id s302
  have n302 := n301.kp (xKp.one w301 (o301) (by decide) f302)
  have x302 := xLen_l c302.2.2
  show ax_W Ω Γ _ _ (h302) _ _ (.int v302 :: _)
  refine ax_istore_n (pc := 13) G dX11_alert_13 rfl (Nat.le_of_ble_eq_true rfl) rfl ?_
  refine ax_aload_n (pc := 14) G dX11_alert_14 rfl rfl ?_
  refine ax_iconst (pc := 15) (v := nI 0) G dX11_alert_15 ic_0 ?_
  refine ax_sipush (pc := 16) (v := nI 359) G dX11_alert_16 is_359 ?_
  obtain ⟨k303, v303, e303, y303⟩ : ∃ (a : pK) (c : Int32), a = (pNum b n k302 (nI 0) (nI 359)).1 ∧ c = (pNum b n k302 (nI 0) (nI 359)).2 := ⟨_, _, rfl, rfl⟩
  refine ax_pV (pc := 19) (kb := 44) (nb := 1186) G (ct_xnum2 hA w302 (by omega) hbP n302 p302 c302 (nI 0) (nI 359) e303 y303) lVX11_118_9 dX11_alert_19 (o302) rfl (by decide) (Nat.le_of_ble_eq_true rfl) rfl (fun v9 h303 q9 => ?_) (fun x9 h9x q9 => ?_)
  rotate_left
  obtain ⟨c303x, fl303, s303⟩ := q9.x
  have hk9 : ψ.1 = k303 := by rw [hψ, rAlertB, rPr_e e301 y301, rN_e e302 y302, rN_e e303 y303, rL_c c303x, rN_c c303x, rN_c c303x, rN_c c303x]
  exact ax_outP G E (fun x hx => by cases hx) ⟨((((xSt.rfl' wf).trans s301).trans s302).trans s303).L, Or.inr ⟨by rw [hk9]; exact c303x, _, rfl, by rw [hk9]; exact fl303⟩⟩
  obtain ⟨rfl, p303, c303, s303⟩ := q9.n
  obtain ⟨nm303, tk303, o303, t303⟩ := id p303
  obtain ⟨f303, z303, w303⟩ := id s303
  have n303 := n302.kp (xKp.one w302 (o302) (by decide) f303)
  have x303 := xLen_l c303.2.2
  show ax_W Ω Γ _ _ (h303) _ _ (.int v303 :: _)
  refine ax_istore_n (pc := 22) G dX11_alert_22 rfl (Nat.le_of_ble_eq_true rfl) rfl ?_
  refine ax_aload_n (pc := 23) G dX11_alert_23 rfl rfl ?_
  obtain ⟨k304, v304, e304, y304⟩ : ∃ (a : pK) (c : Int32), a = (pLatK b n k303).1 ∧ c = (pLatK b n k303).2 := ⟨_, _, rfl, rfl⟩
  refine ax_pV (pc := 24) (kb := 35) (nb := 990) G (ct_xlat hA w303 (by omega) hbP n303 p303 c303  e304 y304) lVX11_247_9 dX11_alert_24 (o303) rfl (by decide) (Nat.le_of_ble_eq_true rfl) rfl (fun v9 h304 q9 => ?_) (fun x9 h9x q9 => ?_)
  rotate_left
  obtain ⟨c304x, fl304, s304⟩ := q9.x
  have hk9 : ψ.1 = k304 := by rw [hψ, rAlertB, rPr_e e301 y301, rN_e e302 y302, rN_e e303 y303, rL_e e304 y304, rN_c c304x, rN_c c304x, rN_c c304x]
  exact ax_outP G E (fun x hx => by cases hx) ⟨(((((xSt.rfl' wf).trans s301).trans s302).trans s303).trans s304).L, Or.inr ⟨by rw [hk9]; exact c304x, _, rfl, by rw [hk9]; exact fl304⟩⟩
  obtain ⟨rfl, p304, c304, s304⟩ := q9.n
  obtain ⟨nm304, tk304, o304, t304⟩ := id p304
  obtain ⟨f304, z304, w304⟩ := id s304
  have n304 := n303.kp (xKp.one w303 (o303) (by decide) f304)
  have x304 := xLen_l c304.2.2
  show ax_W Ω Γ _ _ (h304) _ _ (.int v304 :: _)
  refine ax_istore (pc := 27) G dX11_alert_27 (Nat.le_of_ble_eq_true rfl) rfl ?_
  refine ax_aload_n (pc := 29) G dX11_alert_29 rfl rfl ?_
  refine ax_iconst (pc := 30) (v := nI 1) G dX11_alert_30 ic_1 ?_
  refine ax_sipush (pc := 31) (v := nI 300) G dX11_alert_31 is_300 ?_
  obtain ⟨k305, v305, e305, y305⟩ : ∃ (a : pK) (c : Int32), a = (pNum b n k304 (nI 1) (nI 300)).1 ∧ c = (pNum b n k304 (nI 1) (nI 300)).2 := ⟨_, _, rfl, rfl⟩
  refine ax_pV (pc := 34) (kb := 30) (nb := 888) G (ct_xnum2 hA w304 (by omega) hbP n304 p304 c304 (nI 1) (nI 300) e305 y305) lVX11_118_9 dX11_alert_34 (o304) rfl (by decide) (Nat.le_of_ble_eq_true rfl) rfl (fun v9 h305 q9 => ?_) (fun x9 h9x q9 => ?_)
  rotate_left
  obtain ⟨c305x, fl305, s305⟩ := q9.x
  have hk9 : ψ.1 = k305 := by rw [hψ, rAlertB, rPr_e e301 y301, rN_e e302 y302, rN_e e303 y303, rL_e e304 y304, rN_e e305 y305, rN_c c305x, rN_c c305x]
  exact ax_outP G E (fun x hx => by cases hx) ⟨((((((xSt.rfl' wf).trans s301).trans s302).trans s303).trans s304).trans s305).L, Or.inr ⟨by rw [hk9]; exact c305x, _, rfl, by rw [hk9]; exact fl305⟩⟩
  obtain ⟨rfl, p305, c305, s305⟩ := q9.n
  obtain ⟨nm305, tk305, o305, t305⟩ := id p305
  obtain ⟨f305, z305, w305⟩ := id s305
  have n305 := n304.kp (xKp.one w304 (o304) (by decide) f305)
  have x305 := xLen_l c305.2.2
  show ax_W Ω Γ _ _ (h305) _ _ (.int v305 :: _)
  refine ax_istore (pc := 37) G dX11_alert_37 (Nat.le_of_ble_eq_true rfl) rfl ?_
  refine ax_aload_n (pc := 39) G dX11_alert_39 rfl rfl ?_
  refine ax_iconst (pc := 40) (v := nI 0) G dX11_alert_40 ic_0 ?_
  refine ax_bipush (pc := 41) (v := nI 99) G dX11_alert_41 ib_99 ?_
  obtain ⟨k306, v306, e306, y306⟩ : ∃ (a : pK) (c : Int32), a = (pNum b n k305 (nI 0) (nI 99)).1 ∧ c = (pNum b n k305 (nI 0) (nI 99)).2 := ⟨_, _, rfl, rfl⟩
  refine ax_pV (pc := 43) (kb := 25) (nb := 786) G (ct_xnum2 hA w305 (by omega) hbP n305 p305 c305 (nI 0) (nI 99) e306 y306) lVX11_118_9 dX11_alert_43 (o305) rfl (by decide) (Nat.le_of_ble_eq_true rfl) rfl (fun v9 h306 q9 => ?_) (fun x9 h9x q9 => ?_)
  rotate_left
  obtain ⟨c306x, fl306, s306⟩ := q9.x
  have hk9 : ψ.1 = k306 := by rw [hψ, rAlertB, rPr_e e301 y301, rN_e e302 y302, rN_e e303 y303, rL_e e304 y304, rN_e e305 y305, rN_e e306 y306, rN_c c306x]
  exact ax_outP G E (fun x hx => by cases hx) ⟨(((((((xSt.rfl' wf).trans s301).trans s302).trans s303).trans s304).trans s305).trans s306).L, Or.inr ⟨by rw [hk9]; exact c306x, _, rfl, by rw [hk9]; exact fl306⟩⟩
  obtain ⟨rfl, p306, c306, s306⟩ := q9.n
  obtain ⟨nm306, tk306, o306, t306⟩ := id p306
  obtain ⟨f306, z306, w306⟩ := id s306
  have n306 := n305.kp (xKp.one w305 (o305) (by decide) f306)
  have x306 := xLen_l c306.2.2
  show ax_W Ω Γ _ _ (h306) _ _ (.int v306 :: _)
  refine ax_istore (pc := 46) G dX11_alert_46 (Nat.le_of_ble_eq_true rfl) rfl ?_
  refine ax_aload_n (pc := 48) G dX11_alert_48 rfl rfl ?_
  refine ax_getf (pc := 49) (v := .ref sa) G flX11_29_9 dX11_alert_49 (o306) rfl ?_
  refine ax_getf (pc := 52) (v := .ref L9) G flX11_207_1 dX11_alert_52 ((f306 _ (by first | assumption | omega) (by first | assumption | exact Ne.symm (by assumption) | omega)).trans ((f305 _ (by first | assumption | omega) (by first | assumption | exact Ne.symm (by assumption) | omega)).trans ((f304 _ (by first | assumption | omega) (by first | assumption | exact Ne.symm (by assumption) | omega)).trans ((f303 _ (by first | assumption | omega) (by first | assumption | exact Ne.symm (by assumption) | omega)).trans ((f302 _ (by first | assumption | omega) (by first | assumption | exact Ne.symm (by assumption) | omega)).trans ((f301 _ (by first | assumption | omega) (by first | assumption | exact Ne.symm (by assumption) | omega)).trans (hsa))))))) rfl ?_
  refine ax_new (pc := 55) (ci := 14) (kb := 24) (nb := 779) G [.int (nI 0), .int (nI 0), .int (nI 0), .int (nI 0), .int (nI 0), .int (nI 0), .int (nI 0)] dX11_alert_55 rfl cok_X17 rfl q1349 q1350 q152 (fun j hj => by match j, hj with | 0, _ => rfl | 1, _ => rfl | 2, _ => rfl | 3, _ => rfl | 4, _ => rfl | 5, _ => rfl | 6, _ => rfl) ?_
  refine ax_hvA w306 (fun h307 g307 f307 z307 w307 => ?_)
  have n307 := n306.kp (fun q e he _ => (f307 q (by have := w306.lt he; omega)).trans he)
  have p307 : xPs h307 P tx n sc sa β k306 := ⟨nm306, tk306, (f307 _ (by first | assumption | exact Ne.symm (by assumption) | omega)).trans (o306), (t306.1.kp (fun q e he _ => (f307 q (by have := w306.lt he; omega)).trans he)), t306.2⟩
  have t307 : xTk h307 tk306 nm306 β k306 := ⟨(t306.1.kp (fun q e he _ => (f307 q (by have := w306.lt he; omega)).trans he)), t306.2⟩
  refine ax_dup (pc := 58) G dX11_alert_58 rfl ?_
  refine ax_iload_n (pc := 59) G dX11_alert_59 rfl rfl ?_
  refine ax_iload_n (pc := 60) G dX11_alert_60 rfl rfl ?_
  refine ax_iload_n (pc := 61) G dX11_alert_61 rfl rfl ?_
  refine ax_iload (pc := 62) G dX11_alert_62 rfl ?_
  refine ax_iload (pc := 64) G dX11_alert_64 rfl ?_
  refine ax_iload (pc := 66) G dX11_alert_66 rfl ?_
  refine ax_aload_n (pc := 68) G dX11_alert_68 rfl rfl ?_
  refine ax_iconst (pc := 69) (v := nI 0) G dX11_alert_69 ic_0 ?_
  refine ax_sipush (pc := 70) (v := nI 999) G dX11_alert_70 is_999 ?_
  obtain ⟨k308, v308, e308, y308⟩ : ∃ (a : pK) (c : Int32), a = (pNum b n k306 (nI 0) (nI 999)).1 ∧ c = (pNum b n k306 (nI 0) (nI 999)).2 := ⟨_, _, rfl, rfl⟩
  refine ax_pV (pc := 73) (kb := 19) (nb := 677) G (ct_xnum2 hA w307 (by omega) hbP n307 p307 c306 (nI 0) (nI 999) e308 y308) lVX11_118_9 dX11_alert_73 ((f307 _ (by first | assumption | exact Ne.symm (by assumption) | omega)).trans (o306)) rfl (by decide) (Nat.le_of_ble_eq_true rfl) rfl (fun v9 h308 q9 => ?_) (fun x9 h9x q9 => ?_)
  rotate_left
  obtain ⟨c308x, fl308, s308⟩ := q9.x
  have hk9 : ψ.1 = k308 := by rw [hψ, rAlertB, rPr_e e301 y301, rN_e e302 y302, rN_e e303 y303, rL_e e304 y304, rN_e e305 y305, rN_e e306 y306, rN_e e308 y308]
  exact ax_outP G E (fun x hx => by cases hx) ⟨(((((((((xSt.rfl' wf).trans s301).trans s302).trans s303).trans s304).trans s305).trans s306).trans ⟨fun q a1 _ => f307 q (by omega), by omega, w307⟩).trans s308).L, Or.inr ⟨by rw [hk9]; exact c308x, _, rfl, by rw [hk9]; exact fl308⟩⟩
  obtain ⟨rfl, p308, c308, s308⟩ := q9.n
  obtain ⟨nm308, tk308, o308, t308⟩ := id p308
  obtain ⟨f308, z308, w308⟩ := id s308
  have n308 := n307.kp (xKp.one w307 ((f307 _ (by first | assumption | exact Ne.symm (by assumption) | omega)).trans (o306)) (by decide) f308)
  have x308 := xLen_l c308.2.2
  show ax_W Ω Γ _ _ (h308) _ _ (.int v308 :: _)
  refine ax_nI (pc := 76) (kb := 19) (nb := 677) G (ct_ainit hA w308 (by omega) ((f308 _ (by first | assumption | omega) (by first | assumption | exact Ne.symm (by assumption) | omega)).trans (g307)) (by omega)) lIX11_257 dX11_alert_76 rfl (by decide) (Nat.le_of_ble_eq_true rfl) rfl (fun v309 h309 q9 => ?_)
  obtain ⟨rfl, g309, f309, z309, w309⟩ := q9
  have t309 : xTk h309 tk308 nm308 β k308 := ⟨t308.1.fr (fun q e he h1 h2 => (f309 q (fun y => by rw [y, (f308 _ (by first | assumption | omega) (by first | assumption | exact Ne.symm (by assumption) | omega)).trans (g307)] at he; exact absurd (h1 _ _ (Option.some.inj he).symm) (by decide))).trans he), t308.2⟩
  show ax_W Ω Γ _ _ (h309) _ _ (_)
  refine ax_nJ (pc := 79) (kb := 18) (nb := 477) G (ct_ladd hA w309 (by omega) ((f309 _ (by first | assumption | exact Ne.symm (by assumption) | omega)).trans ((f308 _ (by first | assumption | omega) (by first | assumption | exact Ne.symm (by assumption) | omega)).trans ((f307 _ (by first | assumption | exact Ne.symm (by assumption) | omega)).trans ((f306 _ (by first | assumption | omega) (by first | assumption | exact Ne.symm (by assumption) | omega)).trans ((f305 _ (by first | assumption | omega) (by first | assumption | exact Ne.symm (by assumption) | omega)).trans ((f304 _ (by first | assumption | omega) (by first | assumption | exact Ne.symm (by assumption) | omega)).trans ((f303 _ (by first | assumption | omega) (by first | assumption | exact Ne.symm (by assumption) | omega)).trans ((f302 _ (by first | assumption | omega) (by first | assumption | exact Ne.symm (by assumption) | omega)).trans ((f301 _ (by first | assumption | omega) (by first | assumption | exact Ne.symm (by assumption) | omega)).trans (hEo9)))))))))) hbe hd1 ((f309 _ (by first | assumption | exact Ne.symm (by assumption) | omega)).trans ((f308 _ (by first | assumption | omega) (by first | assumption | exact Ne.symm (by assumption) | omega)).trans ((f307 _ (by first | assumption | exact Ne.symm (by assumption) | omega)).trans ((f306 _ (by first | assumption | omega) (by first | assumption | exact Ne.symm (by assumption) | omega)).trans ((f305 _ (by first | assumption | omega) (by first | assumption | exact Ne.symm (by assumption) | omega)).trans ((f304 _ (by first | assumption | omega) (by first | assumption | exact Ne.symm (by assumption) | omega)).trans ((f303 _ (by first | assumption | omega) (by first | assumption | exact Ne.symm (by assumption) | omega)).trans ((f302 _ (by first | assumption | omega) (by first | assumption | exact Ne.symm (by assumption) | omega)).trans ((f301 _ (by first | assumption | omega) (by first | assumption | exact Ne.symm (by assumption) | omega)).trans (hLo9)))))))))) hbL (fun j hj q hq => by obtain ⟨fs, hf⟩ := hCl9 j hj q hq; exact ⟨14, fs, (fun q e he hi => (f309 q (by have := wf.lt he; omega)).trans ((((((((((xKp.rfl' h).trans (xKp.one wf (hPo) (by decide) f301)).trans (xKp.one w301 (o301) (by decide) f302)).trans (xKp.one w302 (o302) (by decide) f303)).trans (xKp.one w303 (o303) (by decide) f304)).trans (xKp.one w304 (o304) (by decide) f305)).trans (xKp.one w305 (o305) (by decide) f306)).trans (fun q e he _ => (f307 q (by have := w306.lt he; omega)).trans he)).trans (xKp.one w307 ((f307 _ (by first | assumption | exact Ne.symm (by assumption) | omega)).trans (o306)) (by decide) f308)) q e he hi)) q _ hf (xIm_o (by decide)), ⟨_, rfl, Or.inr q3286⟩⟩) hd0 hd2 (g309) ⟨_, rfl, Or.inr q3286⟩ (by omega)) lJX11_218_16 dX11_alert_79 ((f309 _ (by first | assumption | exact Ne.symm (by assumption) | omega)).trans ((f308 _ (by first | assumption | omega) (by first | assumption | exact Ne.symm (by assumption) | omega)).trans ((f307 _ (by first | assumption | exact Ne.symm (by assumption) | omega)).trans ((f306 _ (by first | assumption | omega) (by first | assumption | exact Ne.symm (by assumption) | omega)).trans ((f305 _ (by first | assumption | omega) (by first | assumption | exact Ne.symm (by assumption) | omega)).trans ((f304 _ (by first | assumption | omega) (by first | assumption | exact Ne.symm (by assumption) | omega)).trans ((f303 _ (by first | assumption | omega) (by first | assumption | exact Ne.symm (by assumption) | omega)).trans ((f302 _ (by first | assumption | omega) (by first | assumption | exact Ne.symm (by assumption) | omega)).trans ((f301 _ (by first | assumption | omega) (by first | assumption | exact Ne.symm (by assumption) | omega)).trans (hLo9)))))))))) rfl (by decide) (Nat.le_of_ble_eq_true rfl) rfl (fun v310 h310 q9 => ?_)
  obtain ⟨rfl, a310⟩ := q9
  obtain ⟨e8, cap8, F8, b1, b2, b3, b4, b5, b6, b7, z310, f310, w310⟩ := id a310
  show ax_W Ω Γ _ _ (h310) _ _ (.int (nI 1) :: _)
  refine ax_pop (pc := 84) G dX11_alert_84 rfl ?_
  have hψ9 := hψ
  rw [rAlertB, rPr_e e301 y301, rN_e e302 y302, rN_e e303 y303, rL_e e304 y304, rN_e e305 y305, rN_e e306 y306, rN_e e308 y308] at hψ9
  have hk9 : ψ.1 = k308 := by rw [hψ9]
  obtain ⟨e7, l7, o7⟩ := xLi.add ((f309 _ (by first | assumption | exact Ne.symm (by assumption) | omega)).trans ((f308 _ (by first | assumption | omega) (by first | assumption | exact Ne.symm (by assumption) | omega)).trans ((f307 _ (by first | assumption | exact Ne.symm (by assumption) | omega)).trans ((f306 _ (by first | assumption | omega) (by first | assumption | exact Ne.symm (by assumption) | omega)).trans ((f305 _ (by first | assumption | omega) (by first | assumption | exact Ne.symm (by assumption) | omega)).trans ((f304 _ (by first | assumption | omega) (by first | assumption | exact Ne.symm (by assumption) | omega)).trans ((f303 _ (by first | assumption | omega) (by first | assumption | exact Ne.symm (by assumption) | omega)).trans ((f302 _ (by first | assumption | omega) (by first | assumption | exact Ne.symm (by assumption) | omega)).trans ((f301 _ (by first | assumption | omega) (by first | assumption | exact Ne.symm (by assumption) | omega)).trans (hLo9)))))))))) ((f309 _ (by first | assumption | exact Ne.symm (by assumption) | omega)).trans ((f308 _ (by first | assumption | omega) (by first | assumption | exact Ne.symm (by assumption) | omega)).trans ((f307 _ (by first | assumption | exact Ne.symm (by assumption) | omega)).trans ((f306 _ (by first | assumption | omega) (by first | assumption | exact Ne.symm (by assumption) | omega)).trans ((f305 _ (by first | assumption | omega) (by first | assumption | exact Ne.symm (by assumption) | omega)).trans ((f304 _ (by first | assumption | omega) (by first | assumption | exact Ne.symm (by assumption) | omega)).trans ((f303 _ (by first | assumption | omega) (by first | assumption | exact Ne.symm (by assumption) | omega)).trans ((f302 _ (by first | assumption | omega) (by first | assumption | exact Ne.symm (by assumption) | omega)).trans ((f301 _ (by first | assumption | omega) (by first | assumption | exact Ne.symm (by assumption) | omega)).trans (hEo9)))))))))) hV hd2 hd1 hF9 (fun j hj q hq => by obtain ⟨fs, hf⟩ := hCl9 j hj q hq; exact ⟨fs, (fun q e he hi => (f309 q (by have := wf.lt he; omega)).trans ((((((((((xKp.rfl' h).trans (xKp.one wf (hPo) (by decide) f301)).trans (xKp.one w301 (o301) (by decide) f302)).trans (xKp.one w302 (o302) (by decide) f303)).trans (xKp.one w303 (o303) (by decide) f304)).trans (xKp.one w304 (o304) (by decide) f305)).trans (xKp.one w305 (o305) (by decide) f306)).trans (fun q e he _ => (f307 q (by have := w306.lt he; omega)).trans he)).trans (xKp.one w307 ((f307 _ (by first | assumption | exact Ne.symm (by assumption) | omega)).trans (o306)) (by decide) f308)) q e he hi)) q _ hf (xIm_o (by decide))⟩) (g309) (by decide) w309 a310
  have t9 : xTk h310 tk308 nm308 β k308 := ⟨t309.1.fr (fun q e he h1 h2 => (f310 q (w309.lt he) (fun y => by rw [y, (f309 _ (by first | assumption | exact Ne.symm (by assumption) | omega)).trans ((f308 _ (by first | assumption | omega) (by first | assumption | exact Ne.symm (by assumption) | omega)).trans ((f307 _ (by first | assumption | exact Ne.symm (by assumption) | omega)).trans ((f306 _ (by first | assumption | omega) (by first | assumption | exact Ne.symm (by assumption) | omega)).trans ((f305 _ (by first | assumption | omega) (by first | assumption | exact Ne.symm (by assumption) | omega)).trans ((f304 _ (by first | assumption | omega) (by first | assumption | exact Ne.symm (by assumption) | omega)).trans ((f303 _ (by first | assumption | omega) (by first | assumption | exact Ne.symm (by assumption) | omega)).trans ((f302 _ (by first | assumption | omega) (by first | assumption | exact Ne.symm (by assumption) | omega)).trans ((f301 _ (by first | assumption | omega) (by first | assumption | exact Ne.symm (by assumption) | omega)).trans (hLo9)))))))))] at he; exact absurd (h1 _ _ (Option.some.inj he).symm) (by decide)) (fun y => by rw [y, (f309 _ (by first | assumption | exact Ne.symm (by assumption) | omega)).trans ((f308 _ (by first | assumption | omega) (by first | assumption | exact Ne.symm (by assumption) | omega)).trans ((f307 _ (by first | assumption | exact Ne.symm (by assumption) | omega)).trans ((f306 _ (by first | assumption | omega) (by first | assumption | exact Ne.symm (by assumption) | omega)).trans ((f305 _ (by first | assumption | omega) (by first | assumption | exact Ne.symm (by assumption) | omega)).trans ((f304 _ (by first | assumption | omega) (by first | assumption | exact Ne.symm (by assumption) | omega)).trans ((f303 _ (by first | assumption | omega) (by first | assumption | exact Ne.symm (by assumption) | omega)).trans ((f302 _ (by first | assumption | omega) (by first | assumption | exact Ne.symm (by assumption) | omega)).trans ((f301 _ (by first | assumption | omega) (by first | assumption | exact Ne.symm (by assumption) | omega)).trans (hEo9)))))))))] at he; exact absurd (h2 _ _ _ (Option.some.inj he).symm) (by decide))).trans he), t309.2⟩
  exact ax_vretP (pc := 85) G E rfl dX11_alert_85 ⟨⟨(fun q a1 a2 a3 a4 => (f310 _ (by first | assumption | omega) (by first | assumption | exact Ne.symm (by assumption) | omega) (by first | assumption | exact Ne.symm (by assumption) | omega)).trans ((f309 _ (by first | assumption | exact Ne.symm (by assumption) | omega)).trans ((f308 _ (by first | assumption | omega) (by first | assumption | exact Ne.symm (by assumption) | omega)).trans ((f307 _ (by first | assumption | exact Ne.symm (by assumption) | omega)).trans ((f306 _ (by first | assumption | omega) (by first | assumption | exact Ne.symm (by assumption) | omega)).trans ((f305 _ (by first | assumption | omega) (by first | assumption | exact Ne.symm (by assumption) | omega)).trans ((f304 _ (by first | assumption | omega) (by first | assumption | exact Ne.symm (by assumption) | omega)).trans ((f303 _ (by first | assumption | omega) (by first | assumption | exact Ne.symm (by assumption) | omega)).trans ((f302 _ (by first | assumption | omega) (by first | assumption | exact Ne.symm (by assumption) | omega)).trans ((f301 _ (by first | assumption | omega) (by first | assumption | exact Ne.symm (by assumption) | omega)))))))))))), by omega, w310⟩, Or.inl ⟨rfl, by rw [hk9]; exact ⟨nm308, tk308, (f310 _ (by first | assumption | omega) (by first | assumption | exact Ne.symm (by assumption) | omega) (by first | assumption | exact Ne.symm (by assumption) | omega)).trans ((f309 _ (by first | assumption | exact Ne.symm (by assumption) | omega)).trans (o308)), t9⟩, by rw [hk9]; exact c308, e7, h306.2, l7, by rcases o7 with y | y <;> omega, by omega, by rw [hψ9]; simp (disch := omega) only [↓pad_ne, ↓pu_ne, ↓pu_eqq]; exact (f310 _ (by first | assumption | omega) (by first | assumption | exact Ne.symm (by assumption) | omega) (by first | assumption | exact Ne.symm (by assumption) | omega)).trans (g309)⟩⟩

/-- a name more -/
theorem xNm.add {h h' : ax_H} {xs nm0 ln : Nat → Nat} {lt : Nat → Nat → Nat} {f g f' g' : pR} {N xn w m : Nat} {t : Nat → Nat} {v : Int32} (z : xNm h xs nm0 ln lt f g N) (k_ : ∀ q e, h.1 q = some e → xIm e → h'.1 q = some e) (h1 : h'.1 xn = some (.inr (12, [.ref w, .int v]))) (h2 : sStr h' w m t) (hm : m ≤ 8) (f1 : f' (11 + N) = nI m) (f2 : ∀ i, i < m → f' (17 + 8 * N + i) = nI (t i) ∧ t i < 256) (g1 : g' (17 + N) = v) (fo : ∀ k, k < N → f' (11 + k) = f (11 + k) ∧ g' (17 + k) = g (17 + k) ∧ ∀ i, i < 8 → f' (17 + 8 * k + i) = f (17 + 8 * k + i)) :
    xNm h' (fun k => if k = N then xn else xs k) (fun k => if k = N then w else nm0 k) (fun k => if k = N then m else ln k) (fun k => if k = N then t else lt k) f' g' (N + 1) := by
  intro k hk
  by_cases e : k = N
  · subst e
    simp only [if_true]
    rw [g1]
    exact ⟨h1, h2, hm, f1, f2⟩
  · simp only [if_neg e]
    obtain ⟨a1, a2, a3, a4, a5⟩ := z k (by omega)
    obtain ⟨b1, b2, b3⟩ := fo k (by omega)
    rw [b1, b2]
    refine ⟨k_ _ _ a1 (xIm_o (by decide)), a2.kp k_, a3, a4, fun i hi => ?_⟩
    rw [b3 i (by omega)]; exact a5 i hi
theorem rName_v {b f : pR} {st m N : Nat} (hN : N < 6) (hm : m ≤ 8) : (rName b st m f N) (11 + N) = nI m ∧ (∀ i, i < m → (rName b st m f N) (17 + 8 * N + i) = b (st + i)) ∧ ∀ k, k < N → (rName b st m f N) (11 + k) = f (11 + k) ∧ ∀ i, i < 8 → (rName b st m f N) (17 + 8 * k + i) = f (17 + 8 * k + i) := by
  unfold rName
  refine ⟨?_, fun i hi => pPut_in hi, fun k hk => ⟨?_, fun i hi => ?_⟩⟩
  · rw [pPut_out (by omega), pu_eq]
  · rw [pPut_out (by omega), pu_ne (by omega)]
  · rw [pPut_out (by omega), pu_ne (by omega)]
set_option maxHeartbeats 6000000 in
theorem ct_xproposal {Ω : ax_O} (hA : ax_Amb Ω) {h : ax_H} (wf : ax_wf h) (hz : Ω.2.1.heap.size ≤ h.2) {P tx n sc sa : Nat} {tb b : Nat → Int32} {β : Nat → Nat} (hbP : Ω.2.1.heap.size ≤ P) (hEn : xEn Ω h tx n tb b β) {κ : pK} (hP : xPs h P tx n sc sa β κ) (hK : xK n β κ) {L e N : Nat} {xs : Nat → Nat} (hsc : ∃ rs, h.1 sc = some (.inr (10, .ref L :: rs))) (hLi : xLi h L e N xs 12) {nm0 ln : Nat → Nat} {lt : Nat → Nat → Nat} {f g : pR} (hNm : xNm h xs nm0 ln lt f g N) (hN : N ≤ 6) (hbL : Ω.2.1.heap.size ≤ L) (hbe : Ω.2.1.heap.size ≤ e) (hN6 : N < 6) {ψ : rS} (hψ : ψ = rProposalB b n κ f g N)  : ax_MetP Ω yX11_proposal 11 20 700 [.ref P] h (xOutL h P tx n sc sa β ψ.1 L e (fun h' => ∃ e' xn nm' ln' lt', xLi h' L e' (N + 1) (fun k => if k = N then xn else xs k) 12 ∧ (e' = e ∨ h.2 ≤ e') ∧ xNm h' (fun k => if k = N then xn else xs k) nm' ln' lt' ψ.2.1 ψ.2.2 (N + 1))) := by
  refine ax_metP q1178 q145 (by decide +kernel) (by decide) hA (Nat.le_of_ble_eq_true rfl) (fun Γ G E => ?_)
  obtain ⟨nm, tk, hPo, hTk⟩ := id hP
  have hlP := wf.lt hPo
  have hβ := hEn.2.2.2.1
  have hlx := xLen_l hK.2.2
  obtain ⟨rs, hSc⟩ := hsc
  obtain ⟨mc, cap, F, hLo, hEo, hc0, hc1, hc2, hF, hCl⟩ := id hLi
  have hPsc : P ≠ sc := fun z => by rw [z, hSc] at hPo; cases hPo
  have hPL : P ≠ L := fun z => by rw [z, hLo] at hPo; cases hPo
  have hPe : P ≠ e := fun z => by rw [z, hEo] at hPo; cases hPo
  have hlsc := wf.lt hSc
  have hlL := wf.lt hLo
  have hle := wf.lt hEo
  show ax_W Ω Γ 20 700 h 0 [some (.ref P), none] []
  refine ax_aload_n (pc := 0) G dX11_proposal_0 rfl rfl ?_
  obtain ⟨k311, e311⟩ : ∃ a : pK, a = rPrA κ := ⟨_, rfl⟩
  refine ax_pV (pc := 1) (kb := 19) (nb := 692) G (ct_xcheckWord hA wf (by omega) hbP hEn hP hK  e311) lVX11_234_9 dX11_proposal_1 (hPo) rfl (by decide) (Nat.le_of_ble_eq_true rfl) rfl (fun v9 h311 q9 => ?_) (fun x9 h9x q9 => ?_)
  rotate_left
  obtain ⟨c311x, fl311, s311⟩ := q9.x
  have hk9 : ψ.1 = k311 := by have hn2 : ¬ κ.2.1 = 2 := fun z => c311x (by rw [e311, rPrA_0 hK.1 z]; exact hK.1); rw [hψ, rProposalB, if_neg hn2, e311, rPrA_1 hK.1 hn2]
  exact ax_outP G E (fun x hx => by cases hx) ⟨((xSt.rfl' wf).trans s311).L, Or.inr ⟨by rw [hk9]; exact c311x, _, rfl, by rw [hk9]; exact fl311⟩⟩
  obtain ⟨rfl, p311, c311, s311⟩ := q9.n
  obtain ⟨nm311, tk311, o311, t311⟩ := id p311
  obtain ⟨f311, z311, w311⟩ := id s311
  have n311 := hEn.kp (xKp.one wf (hPo) (by decide) f311)
  have x311 := xLen_l c311.2.2
  show ax_W Ω Γ _ _ (h311) _ _ (_)
  have ht2 : κ.2.1 = 2 := by
    by_cases z : κ.2.1 = 2
    · exact z
    · exact absurd c311.1 (by rw [e311, rPrA_1 hK.1 z, pFl_c hK.1]; decide)
  have hki : k311 = κ := by rw [e311, rPrA_0 hK.1 ht2]
  have ht2 : k311.2.1 = 2 := by rw [hki]; exact ht2
  have hob : ∀ j, rNm b k311.2.2.1 (rLn k311) f N 0 = some j → j < 2 ^ 31 := fun j hj => by have := rNm_l hj; omega
  refine ax_aload_n (pc := 4) G dX11_proposal_4 rfl rfl ?_
  refine ax_aload_n (pc := 5) G dX11_proposal_5 rfl rfl ?_
  refine ax_getf (pc := 6) (v := .ref tk311) G flX11_11_9 dX11_proposal_6 (o311) rfl ?_
  refine ax_cV1 (pc := 9) (kb := 19) (nb := 692) G (ct_xnamed hA w311 (by omega) hbP n311 c311 (o311) t311 (L := L) (e := e) ⟨_, (f311 _ (by first | assumption | omega) (by first | assumption | exact Ne.symm (by assumption) | omega)).trans (hSc)⟩ (hLi.fr ((f311 _ (by first | assumption | omega) (by first | assumption | exact Ne.symm (by assumption) | omega))) ((f311 _ (by first | assumption | omega) (by first | assumption | exact Ne.symm (by assumption) | omega))) (fun q fs hq => ((xKp.rfl' h).trans (xKp.one wf (hPo) (by decide) f311)) q _ hq (xIm_o (by decide)))) (hNm.kp ((xKp.rfl' h).trans (xKp.one wf (hPo) (by decide) f311))) hN (ht2)) lVX11_237_9 dX11_proposal_9 (o311) rfl (by decide) (Nat.le_of_ble_eq_true rfl) rfl ?_
  refine ax_iconst (pc := 12) (v := (-1)) G dX11_proposal_12 (by decide) ?_
  refine ax_icmp_eq (pc := 13) (tgt := 22) G dX11_proposal_13 rfl (fun c13 => ?_) (fun c13 => ?_)
  · have hnn := (oI_m hob).mp c13
    refine ax_aload_n (pc := 22) G dX11_proposal_22 rfl rfl ?_
    refine ax_getf (pc := 23) (v := .ref tk311) G flX11_11_9 dX11_proposal_23 (o311) rfl ?_
    refine ax_astore_n (pc := 26) G dX11_proposal_26 rfl (Nat.le_of_ble_eq_true rfl) rfl ?_
    refine ax_aload_n (pc := 27) G dX11_proposal_27 rfl rfl ?_
    obtain ⟨k312, e312⟩ : ∃ a : pK, a = pNx b n k311 := ⟨_, rfl⟩
    refine ax_pV (pc := 28) (kb := 15) (nb := 598) G (ct_xadv hA w311 (by omega) hbP n311 p311 c311  e312) lVX11_103_9 dX11_proposal_28 (o311) rfl (by decide) (Nat.le_of_ble_eq_true rfl) rfl (fun v9 h312 q9 => ?_) (fun x9 h9x q9 => ?_)
    rotate_left
    exact absurd (c311.nx hβ).1 (by have z9 := q9.x.1; rw [e312] at z9; exact z9)
    obtain ⟨rfl, p312, c312, s312⟩ := q9.n
    obtain ⟨nm312, tk312, o312, t312⟩ := id p312
    obtain ⟨f312, z312, w312⟩ := id s312
    have n312 := n311.kp (xKp.one w311 (o311) (by decide) f312)
    have x312 := xLen_l c312.2.2
    show ax_W Ω Γ _ _ (h312) _ _ (_)
    refine ax_aload_n (pc := 31) G dX11_proposal_31 rfl rfl ?_
    refine ax_getf (pc := 32) (v := .ref sc) G flX11_20_9 dX11_proposal_32 (o312) rfl ?_
    refine ax_getf (pc := 35) (v := .ref L) G flX11_171_10 dX11_proposal_35 ((f312 _ (by first | assumption | omega) (by first | assumption | exact Ne.symm (by assumption) | omega)).trans ((f311 _ (by first | assumption | omega) (by first | assumption | exact Ne.symm (by assumption) | omega)).trans (hSc))) rfl ?_
    refine ax_new (pc := 38) (ci := 12) (kb := 14) (nb := 596) G [.null, .int (nI 0)] dX11_proposal_38 rfl cok_X14 rfl q1219 q1220 q149 (fun j hj => by match j, hj with | 0, _ => rfl | 1, _ => rfl) ?_
    refine ax_hvA w312 (fun h313 g313 f313 z313 w313 => ?_)
    have n313 := n312.kp (fun q e he _ => (f313 q (by have := w312.lt he; omega)).trans he)
    have p313 : xPs h313 P tx n sc sa β k312 := ⟨nm312, tk312, (f313 _ (by first | assumption | exact Ne.symm (by assumption) | omega)).trans (o312), (t312.1.kp (fun q e he _ => (f313 q (by have := w312.lt he; omega)).trans he)), t312.2⟩
    have t313 : xTk h313 tk312 nm312 β k312 := ⟨(t312.1.kp (fun q e he _ => (f313 q (by have := w312.lt he; omega)).trans he)), t312.2⟩
    refine ax_dup (pc := 41) G dX11_proposal_41 rfl ?_
    refine ax_aload_n (pc := 42) G dX11_proposal_42 rfl rfl ?_
    refine ax_aload_n (pc := 43) G dX11_proposal_43 rfl rfl ?_
    refine ax_iconst (pc := 44) (v := nI 0) G dX11_proposal_44 ic_0 ?_
    refine ax_sipush (pc := 45) (v := nI 9999) G dX11_proposal_45 is_9999 ?_
    obtain ⟨k314, v314, e314, y314⟩ : ∃ (a : pK) (c : Int32), a = (pNum b n k312 (nI 0) (nI 9999)).1 ∧ c = (pNum b n k312 (nI 0) (nI 9999)).2 := ⟨_, _, rfl, rfl⟩
    refine ax_pV (pc := 48) (kb := 9) (nb := 494) G (ct_xnum2 hA w313 (by omega) hbP n313 p313 c312 (nI 0) (nI 9999) e314 y314) lVX11_118_9 dX11_proposal_48 ((f313 _ (by first | assumption | exact Ne.symm (by assumption) | omega)).trans (o312)) rfl (by decide) (Nat.le_of_ble_eq_true rfl) rfl (fun v9 h314 q9 => ?_) (fun x9 h9x q9 => ?_)
    rotate_left
    obtain ⟨c314x, fl314, s314⟩ := q9.x
    have hk9 : ψ.1 = k314 := by rw [hψ, ← hki, rProposalB, if_pos ht2, if_pos hnn]; simp only [rN, ← e312, ← e314, ← y314]
    exact ax_outP G E (fun x hx => by cases hx) ⟨(((((xSt.rfl' wf).trans s311).trans s312).trans ⟨fun q a1 _ => f313 q (by omega), by omega, w313⟩).trans s314).L, Or.inr ⟨by rw [hk9]; exact c314x, _, rfl, by rw [hk9]; exact fl314⟩⟩
    obtain ⟨rfl, p314, c314, s314⟩ := q9.n
    obtain ⟨nm314, tk314, o314, t314⟩ := id p314
    obtain ⟨f314, z314, w314⟩ := id s314
    have n314 := n313.kp (xKp.one w313 ((f313 _ (by first | assumption | exact Ne.symm (by assumption) | omega)).trans (o312)) (by decide) f314)
    have x314 := xLen_l c314.2.2
    show ax_W Ω Γ _ _ (h314) _ _ (.int v314 :: _)
    refine ax_nI (pc := 51) (kb := 9) (nb := 494) G (ct_pinit hA w314 (by omega) ((f314 _ (by first | assumption | omega) (by first | assumption | exact Ne.symm (by assumption) | omega)).trans (g313)) (by omega)) lIX11_241 dX11_proposal_51 rfl (by decide) (Nat.le_of_ble_eq_true rfl) rfl (fun v315 h315 q9 => ?_)
    obtain ⟨rfl, g315, f315, z315, w315⟩ := q9
    have t315 : xTk h315 tk314 nm314 β k314 := ⟨t314.1.fr (fun q e he h1 h2 => (f315 q (fun y => by rw [y, (f314 _ (by first | assumption | omega) (by first | assumption | exact Ne.symm (by assumption) | omega)).trans (g313)] at he; exact absurd (h1 _ _ (Option.some.inj he).symm) (by decide))).trans he), t314.2⟩
    show ax_W Ω Γ _ _ (h315) _ _ (_)
    refine ax_nJ (pc := 54) (kb := 8) (nb := 294) G (ct_ladd hA w315 (by omega) ((f315 _ (by first | assumption | exact Ne.symm (by assumption) | omega)).trans ((f314 _ (by first | assumption | omega) (by first | assumption | exact Ne.symm (by assumption) | omega)).trans ((f313 _ (by first | assumption | exact Ne.symm (by assumption) | omega)).trans ((f312 _ (by first | assumption | omega) (by first | assumption | exact Ne.symm (by assumption) | omega)).trans ((f311 _ (by first | assumption | omega) (by first | assumption | exact Ne.symm (by assumption) | omega)).trans (hEo)))))) hbe hc1 ((f315 _ (by first | assumption | exact Ne.symm (by assumption) | omega)).trans ((f314 _ (by first | assumption | omega) (by first | assumption | exact Ne.symm (by assumption) | omega)).trans ((f313 _ (by first | assumption | exact Ne.symm (by assumption) | omega)).trans ((f312 _ (by first | assumption | omega) (by first | assumption | exact Ne.symm (by assumption) | omega)).trans ((f311 _ (by first | assumption | omega) (by first | assumption | exact Ne.symm (by assumption) | omega)).trans (hLo)))))) hbL (fun j hj q hq => by obtain ⟨fs, hf⟩ := hCl j hj q hq; exact ⟨12, fs, (fun q e he hi => (f315 q (by have := wf.lt he; omega)).trans ((((((xKp.rfl' h).trans (xKp.one wf (hPo) (by decide) f311)).trans (xKp.one w311 (o311) (by decide) f312)).trans (fun q e he _ => (f313 q (by have := w312.lt he; omega)).trans he)).trans (xKp.one w313 ((f313 _ (by first | assumption | exact Ne.symm (by assumption) | omega)).trans (o312)) (by decide) f314)) q e he hi)) q _ hf (xIm_o (by decide)), ⟨_, rfl, Or.inr q3284⟩⟩) hc0 hc2 (g315) ⟨_, rfl, Or.inr q3284⟩ (by omega)) lJX11_218_16 dX11_proposal_54 ((f315 _ (by first | assumption | exact Ne.symm (by assumption) | omega)).trans ((f314 _ (by first | assumption | omega) (by first | assumption | exact Ne.symm (by assumption) | omega)).trans ((f313 _ (by first | assumption | exact Ne.symm (by assumption) | omega)).trans ((f312 _ (by first | assumption | omega) (by first | assumption | exact Ne.symm (by assumption) | omega)).trans ((f311 _ (by first | assumption | omega) (by first | assumption | exact Ne.symm (by assumption) | omega)).trans (hLo)))))) rfl (by decide) (Nat.le_of_ble_eq_true rfl) rfl (fun v316 h316 q9 => ?_)
    obtain ⟨rfl, a316⟩ := q9
    obtain ⟨e8, cap8, F8, b1, b2, b3, b4, b5, b6, b7, z316, f316, w316⟩ := id a316
    show ax_W Ω Γ _ _ (h316) _ _ (.int (nI 1) :: _)
    refine ax_pop (pc := 59) G dX11_proposal_59 rfl ?_
    have hψ9 := hψ
    rw [← hki, rProposalB, if_pos ht2, if_pos hnn] at hψ9
    simp only [rN, ← e312, ← e314, ← y314] at hψ9
    have hk9 : ψ.1 = k314 := by rw [hψ9]
    obtain ⟨e7, l7, o7⟩ := xLi.add ((f315 _ (by first | assumption | exact Ne.symm (by assumption) | omega)).trans ((f314 _ (by first | assumption | omega) (by first | assumption | exact Ne.symm (by assumption) | omega)).trans ((f313 _ (by first | assumption | exact Ne.symm (by assumption) | omega)).trans ((f312 _ (by first | assumption | omega) (by first | assumption | exact Ne.symm (by assumption) | omega)).trans ((f311 _ (by first | assumption | omega) (by first | assumption | exact Ne.symm (by assumption) | omega)).trans (hLo)))))) ((f315 _ (by first | assumption | exact Ne.symm (by assumption) | omega)).trans ((f314 _ (by first | assumption | omega) (by first | assumption | exact Ne.symm (by assumption) | omega)).trans ((f313 _ (by first | assumption | exact Ne.symm (by assumption) | omega)).trans ((f312 _ (by first | assumption | omega) (by first | assumption | exact Ne.symm (by assumption) | omega)).trans ((f311 _ (by first | assumption | omega) (by first | assumption | exact Ne.symm (by assumption) | omega)).trans (hEo)))))) (by omega) hc2 hc1 hF (fun j hj q hq => by obtain ⟨fs, hf⟩ := hCl j hj q hq; exact ⟨fs, (fun q e he hi => (f315 q (by have := wf.lt he; omega)).trans ((((((xKp.rfl' h).trans (xKp.one wf (hPo) (by decide) f311)).trans (xKp.one w311 (o311) (by decide) f312)).trans (fun q e he _ => (f313 q (by have := w312.lt he; omega)).trans he)).trans (xKp.one w313 ((f313 _ (by first | assumption | exact Ne.symm (by assumption) | omega)).trans (o312)) (by decide) f314)) q e he hi)) q _ hf (xIm_o (by decide))⟩) (g315) (by decide) w315 a316
    have kA : xKp h315 h316 := (fun q e he hi => (f316 q (w315.lt he) (fun y => by rw [y, (f315 _ (by first | assumption | exact Ne.symm (by assumption) | omega)).trans ((f314 _ (by first | assumption | omega) (by first | assumption | exact Ne.symm (by assumption) | omega)).trans ((f313 _ (by first | assumption | exact Ne.symm (by assumption) | omega)).trans ((f312 _ (by first | assumption | omega) (by first | assumption | exact Ne.symm (by assumption) | omega)).trans ((f311 _ (by first | assumption | omega) (by first | assumption | exact Ne.symm (by assumption) | omega)).trans (hLo)))))] at he; have := hi.2 _ _ (Option.some.inj he).symm; omega) (fun y => by rw [y, (f315 _ (by first | assumption | exact Ne.symm (by assumption) | omega)).trans ((f314 _ (by first | assumption | omega) (by first | assumption | exact Ne.symm (by assumption) | omega)).trans ((f313 _ (by first | assumption | exact Ne.symm (by assumption) | omega)).trans ((f312 _ (by first | assumption | omega) (by first | assumption | exact Ne.symm (by assumption) | omega)).trans ((f311 _ (by first | assumption | omega) (by first | assumption | exact Ne.symm (by assumption) | omega)).trans (hEo)))))] at he; exact absurd (hi.1 _ _ _ (Option.some.inj he).symm) (by decide))).trans he)
    have t9 : xTk h316 tk314 nm314 β k314 := ⟨t315.1.kp kA, t315.2⟩
    have hwd : rLn k311 ≤ 8 := (c311.2.2.2.1 ht2).2.1
    have hwl : xLen k311 = rLn k311 := by unfold xLen rLn; rw [if_neg (by omega), if_pos ht2]
    obtain ⟨r1, r2, r3⟩ := rName_v (b := b) (f := f) (st := k311.2.2.1) (m := rLn k311) hN6 hwd
    have s9 : sStr h316 tk311 (rLn k311) (xLet β k311) := ((t311.1.kp (fun q e he hi => (f315 q (by have := w311.lt he; omega)).trans (((((xKp.rfl' h311).trans (xKp.one w311 (o311) (by decide) f312)).trans (fun q e he _ => (f313 q (by have := w312.lt he; omega)).trans he)).trans (xKp.one w313 ((f313 _ (by first | assumption | exact Ne.symm (by assumption) | omega)).trans (o312)) (by decide) f314)) q e he hi))).kp kA).cg hwl (fun _ _ => rfl)
    exact ax_vretP (pc := 60) G E rfl dX11_proposal_60 ⟨⟨(fun q a1 a2 a3 a4 => (f316 _ (by first | assumption | omega) (by first | assumption | exact Ne.symm (by assumption) | omega) (by first | assumption | exact Ne.symm (by assumption) | omega)).trans ((f315 _ (by first | assumption | exact Ne.symm (by assumption) | omega)).trans ((f314 _ (by first | assumption | omega) (by first | assumption | exact Ne.symm (by assumption) | omega)).trans ((f313 _ (by first | assumption | exact Ne.symm (by assumption) | omega)).trans ((f312 _ (by first | assumption | omega) (by first | assumption | exact Ne.symm (by assumption) | omega)).trans ((f311 _ (by first | assumption | omega) (by first | assumption | exact Ne.symm (by assumption) | omega)))))))), by omega, w316⟩, Or.inl ⟨rfl, by rw [hk9]; exact ⟨nm314, tk314, (f316 _ (by first | assumption | omega) (by first | assumption | exact Ne.symm (by assumption) | omega) (by first | assumption | exact Ne.symm (by assumption) | omega)).trans ((f315 _ (by first | assumption | exact Ne.symm (by assumption) | omega)).trans (o314)), t9⟩, by rw [hk9]; exact c314, e7, h312.2, _, _, _, l7, by rcases o7 with y | y <;> omega, (hNm.add (fun q e he hi => kA q e ((fun q e he hi => (f315 q (by have := wf.lt he; omega)).trans ((((((xKp.rfl' h).trans (xKp.one wf (hPo) (by decide) f311)).trans (xKp.one w311 (o311) (by decide) f312)).trans (fun q e he _ => (f313 q (by have := w312.lt he; omega)).trans he)).trans (xKp.one w313 ((f313 _ (by first | assumption | exact Ne.symm (by assumption) | omega)).trans (o312)) (by decide) f314)) q e he hi)) q e he hi) hi) ((kA _ _ (g315) (xIm_o (by decide)))) s9 hwd (by rw [hψ9]; show pAdd _ 10 _ (11 + N) = _; rw [pad_ne (by omega)]; exact r1) (fun j hj => ⟨by rw [hψ9]; show pAdd _ 10 _ (17 + 8 * N + j) = _; rw [pad_ne (by omega), r2 j hj, (hβ _).1]; unfold xLet; rw [if_pos ht2], by unfold xLet; rw [if_pos ht2]; exact (hβ _).2⟩) (by rw [hψ9]; exact pu_eq) (fun j hj => ⟨by rw [hψ9]; show pAdd _ 10 _ (11 + j) = _; rw [pad_ne (by omega)]; exact (r3 j hj).1, by rw [hψ9]; exact pu_ne (by omega), fun i hi => by rw [hψ9]; show pAdd _ 10 _ (17 + 8 * j + i) = _; rw [pad_ne (by omega)]; exact (r3 j hj).2 i hi⟩))⟩⟩
  · refine ax_aload_n (pc := 16) G dX11_proposal_16 rfl rfl ?_
    refine ax_iconst (pc := 17) (v := nI 3) G dX11_proposal_17 ic_3 ?_
    refine ax_nV (pc := 18) (kb := 18) (nb := 684) G (ct_xflaw (b := b) (tb := tb) hA w311 (by omega) (o311) 3) lVX11_110_9 dX11_proposal_18 (o311) rfl (by decide) (Nat.le_of_ble_eq_true rfl) rfl (fun v317 h317 q9 => ?_)
    obtain ⟨rfl, g317, f317, z317, w317⟩ := q9
    show ax_W Ω Γ _ _ (h317) _ _ (.ref h311.2 :: _)
    refine ax_athrow (pc := 21) G dX11_proposal_21 ?_
    have hk9 : ψ.1 = pFl k311 3 := by rw [hψ, ← hki, rProposalB, if_pos ht2, if_neg (fun z => c13 ((oI_m hob).mpr z))]
    exact ax_outP G E (fun x hx => by cases hx) ⟨((((xSt.rfl' wf).trans s311).trans ⟨fun q a1 _ => f317 q a1, by omega, w317⟩)).L, Or.inr ⟨by rw [hk9, pFl_c c311.1]; decide, _, rfl, by rw [xFl, hk9, pFl_v c311.1]; exact g317⟩⟩

