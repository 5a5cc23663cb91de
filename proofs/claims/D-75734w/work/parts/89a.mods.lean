/-! THE MODEL: the text is read -/
theorem kt_nextToken {Ω : ax_O} (hA : ax_Amb Ω) {h : ax_H} {m : Nat} {μ : md_S} (hm : Ω.2.1.heap.size ≤ m) {n : Nat} (hend : μ.1 3 = nI n) (hn : n ≤ 1000) {b : pR} (hb : μ.2 1 = b) (κ : pK) (hκ : pOK n κ) {k1 : pK} (e1 : k1 = pNx b n κ) : ax_Met Ω yX10_nextToken 2 0 0 [.ref m] (md_H h m (mK μ κ)) (.inl none) (md_H h m (mK μ k1)) := by
  subst hb e1
  exact mt_nextToken hA hm hend hn κ hκ
theorem kt_faults {Ω : ax_O} (hA : ax_Amb Ω) {h : ax_H} {m : Nat} {μ : md_S} (hm : Ω.2.1.heap.size ≤ m) {n : Nat} (hend : μ.1 3 = nI n) (hn : n ≤ 1000) {b : pR} (hb : μ.2 1 = b) (κ : pK) (hκ : pOK n κ) (e : Nat) {k1 : pK} (e1 : k1 = pFl κ e) : ax_Met Ω yX10_faults 1 0 0 [.ref m, .int (nI e)] (md_H h m (mK μ κ)) (.inl none) (md_H h m (mK μ k1)) := by
  subst hb e1
  exact mt_faults (n := n) hA hm κ hκ e
theorem kt_isSignHere {Ω : ax_O} (hA : ax_Amb Ω) {h : ax_H} {m : Nat} {μ : md_S} (hm : Ω.2.1.heap.size ≤ m) {n : Nat} (hend : μ.1 3 = nI n) (hn : n ≤ 1000) {b : pR} (hb : μ.2 1 = b) (κ : pK) (hκ : pOK n κ) (v : Int32) : ax_Met Ω yX10_isSignHere 1 0 0 [.ref m, .int v] (md_H h m (mK μ κ)) (.inl (some (.int (bI (pSg κ v))))) (md_H h m (mK μ κ)) := by
  subst hb
  exact mt_isSignHere hA hm hend hn κ hκ v
theorem kt_number {Ω : ax_O} (hA : ax_Amb Ω) {h : ax_H} {m : Nat} {μ : md_S} (hm : Ω.2.1.heap.size ≤ m) {n : Nat} (hend : μ.1 3 = nI n) (hn : n ≤ 1000) {b : pR} (hb : μ.2 1 = b) (κ : pK) (hκ : pOK n κ) (lo hi : Int32) {k1 : pK} (e1 : k1 = (pNum b n κ lo hi).1) {v1 : Int32} (f1 : v1 = (pNum b n κ lo hi).2) : ax_Met Ω yX10_number 3 0 0 [.ref m, .int lo, .int hi] (md_H h m (mK μ κ)) (.inl (some (.int (v1)))) (md_H h m (mK μ k1)) := by
  subst hb e1 f1
  exact mt_number hA hm hend hn κ hκ lo hi
theorem kt_latitude {Ω : ax_O} (hA : ax_Amb Ω) {h : ax_H} {m : Nat} {μ : md_S} (hm : Ω.2.1.heap.size ≤ m) {n : Nat} (hend : μ.1 3 = nI n) (hn : n ≤ 1000) {b : pR} (hb : μ.2 1 = b) (κ : pK) (hκ : pOK n κ) {k1 : pK} (e1 : k1 = (pLatK b n κ).1) {v1 : Int32} (f1 : v1 = (pLatK b n κ).2) : ax_Met Ω yX10_latitude 4 0 0 [.ref m] (md_H h m (mK μ κ)) (.inl (some (.int (v1)))) (md_H h m (mK μ k1)) := by
  subst hb e1 f1
  exact mt_latitude hA hm hend hn κ hκ
theorem kt_isWord {Ω : ax_O} (hA : ax_Amb Ω) {h : ax_H} {m : Nat} {μ : md_S} (hm : Ω.2.1.heap.size ≤ m) {n : Nat} (hend : μ.1 3 = nI n) (hn : n ≤ 1000) {b : pR} (hb : μ.2 1 = b) (κ : pK) (hκ : pOK n κ) {w : Nat} {l : List Int32} (hw : wStr Ω h m w l) : ax_Met Ω yX10_isWord 9 0 0 [.ref m, .ref w] (md_H h m (mK μ κ)) (.inl (some (.int (bI (pWord b κ l))))) (md_H h m (mK μ κ)) := by
  subst hb
  exact mt_isWord hA hm hend hn κ hκ hw
theorem kt_keyword {Ω : ax_O} (hA : ax_Amb Ω) {h : ax_H} {m : Nat} {μ : md_S} (hm : Ω.2.1.heap.size ≤ m) {n : Nat} (hend : μ.1 3 = nI n) (hn : n ≤ 1000) {b : pR} (hb : μ.2 1 = b) (κ : pK) (hκ : pOK n κ) {w : Nat} {l : List Int32} (hw : wStr Ω h m w l) {k1 : pK} (e1 : k1 = pKey b n κ l) : ax_Met Ω yX10_keyword 11 0 0 [.ref m, .ref w] (md_H h m (mK μ κ)) (.inl none) (md_H h m (mK μ k1)) := by
  subst hb e1
  exact mt_keyword hA hm hend hn κ hκ hw
theorem kt_gauge {Ω : ax_O} (hA : ax_Amb Ω) {h : ax_H} {m : Nat} {μ : md_S} (hm : Ω.2.1.heap.size ≤ m) {n : Nat} (hend : μ.1 3 = nI n) (hn : n ≤ 1000) {b : pR} (hb : μ.2 1 = b) (κ : pK) (hκ : pOK n κ) {w : Nat} {l : List Int32} (hw : wStr Ω h m w l) (lo hi : Int32) {k1 : pK} (e1 : k1 = (pGauge b n κ l lo hi).1) {v1 : Int32} (f1 : v1 = (pGauge b n κ l lo hi).2) : ax_Met Ω yX10_gauge 12 0 0 [.ref m, .ref w, .int lo, .int hi] (md_H h m (mK μ κ)) (.inl (some (.int (v1)))) (md_H h m (mK μ k1)) := by
  subst hb e1 f1
  exact mt_gauge hA hm hend hn κ hκ hw lo hi
theorem pNum_ok {b : pR} {n : Nat} {κ : pK} {lo hi : Int32} (h : pOK n κ) : pOK n (pNum b n κ lo hi).1 := pNx_ok (pLook_ok h)
theorem pLatK_ok {b : pR} {n : Nat} {κ : pK} (h : pOK n κ) : pOK n (pLatK b n κ).1 := by
  unfold pLatK
  split
  · exact pNum_ok (pNx_ok h)
  · exact pNum_ok h
/-! WHAT IS READ: a number, a latitude, a gauge, and on -/
def rN {α : Type} (b : pR) (n : Nat) (κ : pK) (lo hi : Int32) (k : pK → Int32 → α) : α := k (pNum b n κ lo hi).1 (pNum b n κ lo hi).2
def rL {α : Type} (b : pR) (n : Nat) (κ : pK) (k : pK → Int32 → α) : α := k (pLatK b n κ).1 (pLatK b n κ).2
def rG {α : Type} (b : pR) (n : Nat) (κ : pK) (l : List Int32) (lo hi : Int32) (k : pK → Int32 → α) : α := k (pGauge b n κ l lo hi).1 (pGauge b n κ l lo hi).2
theorem rN_e {α : Type} {b : pR} {n : Nat} {κ k1 : pK} {lo hi v1 : Int32} (e : k1 = (pNum b n κ lo hi).1) (y : v1 = (pNum b n κ lo hi).2) (F : pK → Int32 → α) : rN b n κ lo hi F = F k1 v1 := by subst e y; rfl
theorem rL_e {α : Type} {b : pR} {n : Nat} {κ k1 : pK} {v1 : Int32} (e : k1 = (pLatK b n κ).1) (y : v1 = (pLatK b n κ).2) (F : pK → Int32 → α) : rL b n κ F = F k1 v1 := by subst e y; rfl
theorem rG_e {α : Type} {b : pR} {n : Nat} {κ k1 : pK} {l : List Int32} {lo hi v1 : Int32} (e : k1 = (pGauge b n κ l lo hi).1) (y : v1 = (pGauge b n κ l lo hi).2) (F : pK → Int32 → α) : rG b n κ l lo hi F = F k1 v1 := by subst e y; rfl
/-- what is read so far: the register file, the new plan, the draft of the row -/
abbrev rS : Type := pK × pR × pR
def mP (μ : md_S) (ψ : rS) : md_S := md_sa (md_sa (mK μ ψ.1) 3 ψ.2.1) 5 ψ.2.2
/-- the first i letters of the word at st are those of name k -/
def rEq (b : pR) (st : Nat) (f : pR) (k : Nat) : Nat → Bool
  | 0 => true
  | i + 1 => rEq b st f k i && decide (f (17 + 8 * k + i) = b (st + i))
def rIs (b : pR) (st ln : Nat) (f : pR) (k : Nat) : Bool := if f (11 + k) = nI ln then rEq b st f k ln else false
/-- the first of n names from k on that is the word at st -/
def rNm (b : pR) (st ln : Nat) (f : pR) : Nat → Nat → Option Nat
  | 0, _ => none
  | n + 1, k => if rIs b st ln f k = true then some k else rNm b st ln f n (k + 1)
/-- the word at st of length ln as name P -/
def rName (b : pR) (st ln : Nat) (f : pR) (P : Nat) : pR := pPut (upd f (11 + P) (nI ln)) (fun i => b (st + i)) (17 + 8 * P) ln
def rFirst (b : pR) (n : Nat) (κ : pK) (f g : pR) : rS :=
  rG b n (pKey b n κ (sL "scope")) (sL "horizon") (nI 60) (nI 2000) fun k1 v1 =>
  rG b n k1 (sL "settle") (nI 0) (nI 60) fun k2 v2 =>
  rG b n k2 (sL "speed") (nI 1) (nI 90) fun k3 v3 =>
  rG b n k3 (sL "cap") (nI 1) (nI 9999) fun k4 v4 =>
  rG b n k4 (sL "dump") (nI 1) (nI 99) fun k5 v5 =>
  rG b n k5 (sL "cadence") (nI 10) (nI 2000) fun k6 v6 =>
  rG b n k6 (sL "cal") (nI 1) (nI 99) fun k7 v7 =>
  rG b n k7 (sL "sun") (nI 0) (nI 359) fun k8 v8 =>
  rG b n k8 (sL "drift") (nI 1) (nI 999) fun k9 v9 =>
  rG b n k9 (sL "avoid") (nI 0) (nI 170) fun k10 v10 =>
  (k10, (upd (upd (upd (upd (upd (upd (upd (upd (upd f 0 v1) 1 v2) 2 v3) 3 v4) 4 v5) 6 v7) 7 v8) 8 v9) 9 v10), (upd g 15 v6))
/-- a fault if c -/
def rIf (c : Prop) [Decidable c] (κ : pK) (e : Nat) : pK := if c then pFl κ e else κ
/-- no fault so far -/
def rOk (κ : pK) : Bool := decide (κ.2.2.2.2.1 = 0)
def rLn (κ : pK) : Nat := κ.1 - κ.2.2.1
/-- what a word that must be an earlier name tells: the register file, the name's number -/
def rPrA (κ : pK) : pK := if κ.2.2.2.2.1 = 0 then (if κ.2.1 = 2 then κ else pFl κ 1) else κ
def rPrV (b : pR) (κ : pK) (f : pR) (P : Nat) : Int32 := if κ.2.2.2.2.1 = 0 then oI (rNm b κ.2.2.1 (rLn κ) f P 0) else nI 0
def rPr {α : Type} (b : pR) (n : Nat) (κ : pK) (f : pR) (P : Nat) (k : pK → Int32 → α) : α :=
  k (pNx b n (if rPrV b (rPrA κ) f P = -1 then pFl (rPrA κ) 3 else rPrA κ)) (rPrV b (rPrA κ) f P)
theorem rPr_e {α : Type} {b : pR} {n : Nat} {κ k1 : pK} {f : pR} {P : Nat} {v1 : Int32} (e : k1 = pNx b n (if rPrV b (rPrA κ) f P = -1 then pFl (rPrA κ) 3 else rPrA κ)) (y : v1 = rPrV b (rPrA κ) f P) (F : pK → Int32 → α) : rPr b n κ f P F = F k1 v1 := by subst e y; rfl
/-- behind a line's first word, of which c say that there may be no more -/
def rBeg (b : pR) (n : Nat) (κ : pK) (k mx : Nat) : pK := pNx b n (if k = mx then pFl κ 4 else κ)
def rProposal (b : pR) (n : Nat) (κ : pK) (f g : pR) (P : Nat) : rS :=
  if (rBeg b n κ P 6).2.2.2.2.1 = 0 then
    (if (rBeg b n κ P 6).2.1 = 2 then
      (if rNm b (rBeg b n κ P 6).2.2.1 (rLn (rBeg b n κ P 6)) f P 0 = none then
        rN b n (pNx b n (rBeg b n κ P 6)) (nI 0) (nI 9999) fun k v => (k, pAdd (rName b (rBeg b n κ P 6).2.2.1 (rLn (rBeg b n κ P 6)) f P) 10 (nI 1), upd g (17 + P) v)
      else (pFl (rBeg b n κ P 6) 3, f, g))
    else (pFl (rBeg b n κ P 6) 1, f, g))
  else (rBeg b n κ P 6, f, g)
def rVisit (b : pR) (n : Nat) (κ : pK) (f g : pR) (P V : Nat) : rS :=
  if (rBeg b n κ V 20).2.2.2.2.1 = 0 then
    rPr b n (rBeg b n κ V 20) f P fun k0 v0 => rN b n k0 (nI 0) (nI 359) fun k1 v1 => rL b n k1 fun k2 v2 => rN b n k2 (nI 1) (nI 300) fun k3 v3 => rN b n k3 (nI 1) (nI 9) fun k4 v4 => rN b n k4 (nI 0) (nI 99) fun k5 v5 =>
    rN b n k5 (nI 0) (nI 2000) fun k6 v6 => rN b n k6 v6 (nI 2000) fun k7 v7 =>
      (k7, pAdd (upd (upd (upd (upd (upd (upd (upd f (66 + 8 * V + 0) v0) (66 + 8 * V + 1) v1) (66 + 8 * V + 2) v2) (66 + 8 * V + 3) v3) (66 + 8 * V + 5) v5) (66 + 8 * V + 6) v6) (66 + 8 * V + 7) v7) 65 (nI 1), upd (upd g (107 + V) v4) (87 + V) (-1))
  else (rBeg b n κ V 20, f, g)
def rAlert (b : pR) (n : Nat) (κ : pK) (f g : pR) (P A : Nat) : rS :=
  if (rBeg b n κ A 5).2.2.2.2.1 = 0 then
    rPr b n (rBeg b n κ A 5) f P fun k0 v0 => rN b n k0 (nI 0) (nI 2000) fun k1 v1 => rN b n k1 (nI 0) (nI 359) fun k2 v2 => rL b n k2 fun k3 v3 => rN b n k3 (nI 1) (nI 300) fun k4 v4 => rN b n k4 (nI 0) (nI 99) fun k5 v5 => rN b n k5 (nI 0) (nI 999) fun k6 v6 =>
      (k6, f, pAdd (upd (upd (upd (upd (upd (upd (upd (upd g (127 + 10 * A + 0) v0) (127 + 10 * A + 1) v1) (127 + 10 * A + 2) v2) (127 + 10 * A + 3) v3) (127 + 10 * A + 4) v4) (127 + 10 * A + 5) v5) (127 + 10 * A + 6) v6) (127 + 10 * A + 8) (-1)) 14 (nI 1))
  else (rBeg b n κ A 5, f, g)
def rOutage (b : pR) (n : Nat) (κ : pK) (f g : pR) (O : Nat) : rS :=
  if (rBeg b n κ O 4).2.2.2.2.1 = 0 then
    rN b n (rBeg b n κ O 4) (nI 0) (nI 2000) fun k0 v0 => rN b n k0 v0 (nI 2000) fun k1 v1 => (k1, pAdd (upd (upd f (227 + 2 * O) v0) (227 + 2 * O + 1) v1) 226 (nI 1), g)
  else (rBeg b n κ O 4, f, g)
/-- so many of each are read -/
def rC (f g : pR) (P V A O : Nat) : Prop := (f 10 = nI P ∧ f 65 = nI V ∧ f 226 = nI O ∧ g 14 = nI A) ∧ P ≤ 6 ∧ V ≤ 20 ∧ A ≤ 5 ∧ O ≤ 4
theorem rBeg_ok {b : pR} {n : Nat} {κ : pK} {k mx : Nat} (h : pOK n κ) : pOK n (rBeg b n κ k mx) := by
  unfold rBeg
  split
  · exact pNx_ok (pFl_ok h (by decide))
  · exact pNx_ok h
theorem oI_m {o : Option Nat} (h : ∀ k, o = some k → k < 2 ^ 31) : (oI o = -1) ↔ o = none := by
  cases o with
  | none => exact ⟨fun _ => rfl, fun _ => rfl⟩
  | some k => exact ⟨fun z => absurd z (nI_nm (h k rfl)), fun z => by cases z⟩
theorem rNm_l {b : pR} {st ln : Nat} {f : pR} : ∀ {n k j : Nat}, rNm b st ln f n k = some j → k ≤ j ∧ j < k + n
  | 0, k, j, h => by cases h
  | n + 1, k, j, h => by
    unfold rNm at h
    split at h
    · cases h; omega
    · have := rNm_l h; omega
theorem pAdd1 {f : pR} {i c : Nat} (h : f i = nI c) : pAdd f i (nI 1) i = nI (c + 1) := by rw [pAdd, pu_eq, h, nI_add]
theorem ax_lwk {Ω : ax_O} {Γ : ax_F} {kb nb pc : Nat} {h : ax_H} {ls ls' : List (Option Value)} {st : List Value} (hl : ls.length = ls'.length) (g : ∀ (i : Nat) (v : Value), ls'[i]? = some (some v) → ls[i]? = some (some v)) (kk : ax_W Ω Γ kb nb h pc ls' st) : ax_W Ω Γ kb nb h pc ls st :=
  fun H locs cells slots L hR hlo hL hn g1 g2 => kk H locs cells slots L hR hlo ⟨hL.1.trans hl, hL.2.1, fun i v hv => hL.2.2 i v (g i v hv)⟩ (hl.symm.trans hn) g1 g2
theorem ax_l4 {Ω : ax_O} {Γ : ax_F} {kb nb pc : Nat} {h : ax_H} {a c x y : Option Value} {st : List Value} (kk : ax_W Ω Γ kb nb h pc [a, c, none, none] st) : ax_W Ω Γ kb nb h pc [a, c, x, y] st :=
  ax_lwk (ls' := [a, c, none, none]) rfl (fun i v hv => by
    rcases i with _ | _ | _ | _ | i
    · exact hv
    · exact hv
    · exact absurd hv (by simp)
    · exact absurd hv (by simp)
    · exact absurd hv (by simp)) kk
theorem mt_named {Ω : ax_O} (hA : ax_Amb Ω) {h : ax_H} {m : Nat} {μ : md_S} (hm : Ω.2.1.heap.size ≤ m) {n : Nat} (hend : μ.1 3 = nI n) (hn : n ≤ 1000) (κ : pK) (hκ : pOK n κ) (h8 : κ.1 - κ.2.2.1 ≤ 8) (P : Nat) (hP : (μ.2 3) 10 = nI P) (hP6 : P ≤ 6)  : ax_Met Ω yX10_named 1 0 0 [.ref m] (md_H h m (mK μ κ)) (.inl (some (.int (oI (rNm (μ.2 1) κ.2.2.1 (rLn κ) (μ.2 3) P 0))))) (md_H h m (mK μ κ)) := by
  refine ax_met q2743 q142 (by decide +kernel) (by decide) hA (Nat.le_of_ble_eq_true rfl) (fun Γ G E => ?_)
  have hc8 : κ.2.2.2.2.1 < 8 := hκ.2.2.1
  have ht8 : κ.2.1 < 8 := hκ.2.2.2
  have hst := hκ.2.1
  have hnx := hκ.1
  have LO : ∀ (q k : Nat), k + q = P → rNm (μ.2 1) κ.2.2.1 (rLn κ) (μ.2 3) q k = rNm (μ.2 1) κ.2.2.1 (rLn κ) (μ.2 3) P 0 → ax_W Ω Γ 0 0 (md_H h m (mK μ κ)) 2 [some (.ref m), some (.int (nI k)), none, none] [] := by
    intro q
    induction q with
    | zero =>
      intro k hi hv
      have hv0 : none = rNm (μ.2 1) κ.2.2.1 (rLn κ) (μ.2 3) P 0 := hv
      refine ax_iload_n (pc := 2) G dX10_named_2 rfl rfl ?_
      refine ax_aload_n (pc := 3) G dX10_named_3 rfl rfl ?_
      refine md_get (pc := 4) (v := .ref (m + 3)) G flX10_20_8 dX10_named_4 rfl ?_
      refine ax_bipush (pc := 7) (v := nI 10) G dX10_named_7 ib_10 ?_
      refine md_ld (pc := 9) (i := 10) (j := 3) G 235 dX10_named_9 (by decide) (by decide) rfl rfl rfl (by omega) (by decide) ?_
      refine ax_top (show Value.int ((μ.2 3) 10) = .int (nI P) from congrArg Value.int (hP)) ?_
      refine ax_icmp_geN (pc := 10) (tgt := 111) G dX10_named_10 rfl (by omega) (by omega) (fun c10 => ?_) (fun c10 => ?_)
      · refine ax_iconst (pc := 111) (v := (-1)) G dX10_named_111 (by decide) ?_
        exact ax_iretE (pc := 112) G E rfl (rfl) dX10_named_112 (by rw [← hv0]; rfl) (rfl)
      · omega
    | succ q ih =>
      intro k hi hv
      refine ax_iload_n (pc := 2) G dX10_named_2 rfl rfl ?_
      refine ax_aload_n (pc := 3) G dX10_named_3 rfl rfl ?_
      refine md_get (pc := 4) (v := .ref (m + 3)) G flX10_20_8 dX10_named_4 rfl ?_
      refine ax_bipush (pc := 7) (v := nI 10) G dX10_named_7 ib_10 ?_
      refine md_ld (pc := 9) (i := 10) (j := 3) G 235 dX10_named_9 (by decide) (by decide) rfl rfl rfl (by omega) (by decide) ?_
      refine ax_top (show Value.int ((μ.2 3) 10) = .int (nI P) from congrArg Value.int (hP)) ?_
      refine ax_icmp_geN (pc := 10) (tgt := 111) G dX10_named_10 rfl (by omega) (by omega) (fun c10 => ?_) (fun c10 => ?_)
      · omega
      · refine ax_aload_n (pc := 13) G dX10_named_13 rfl rfl ?_
        refine md_get (pc := 14) (v := .ref (m + 3)) G flX10_20_8 dX10_named_14 rfl ?_
        refine ax_bipush (pc := 17) (v := nI 11) G dX10_named_17 ib_11 ?_
        refine ax_iload_n (pc := 19) G dX10_named_19 rfl rfl ?_
        refine ax_iaddN (pc := 20) G dX10_named_20 ?_
        refine md_ld (pc := 21) (i := 11 + k) (j := 3) G 235 dX10_named_21 (by decide) (by decide) rfl rfl rfl (by omega) (by decide) ?_
        refine ax_aload_n (pc := 22) G dX10_named_22 rfl rfl ?_
        refine md_get (pc := 23) (v := .int (nI κ.1)) G flX10_64_8 dX10_named_23 rfl ?_
        refine ax_aload_n (pc := 26) G dX10_named_26 rfl rfl ?_
        refine md_get (pc := 27) (v := .int (nI κ.2.2.1)) G flX10_61_8 dX10_named_27 rfl ?_
        refine ax_isubN (pc := 30) G dX10_named_30 (by omega) ?_
        refine ax_icmp_ne (pc := 31) (tgt := 38) G dX10_named_31 rfl (fun c31 => ?_) (fun c31 => ?_)
        · replace c31 : ¬ ((μ.2 3) (11 + k)) = (nI (κ.1 - κ.2.2.1)) := c31
          refine ax_iconst (pc := 38) (v := nI 0) G dX10_named_38 ic_0 ?_
          refine ax_istore_n (pc := 39) G dX10_named_39 rfl (Nat.le_of_ble_eq_true rfl) rfl ?_
          refine ax_iconst (pc := 40) (v := nI 0) G dX10_named_40 ic_0 ?_
          refine ax_istore_n (pc := 41) G dX10_named_41 rfl (Nat.le_of_ble_eq_true rfl) rfl ?_
          have LI : ∀ (q i : Nat), i + q = (κ.1 - κ.2.2.1) → ax_W Ω Γ 0 0 (md_H h m (mK μ κ)) 42 [some (.ref m), some (.int (nI k)), some (.int (nI 0)), some (.int (nI i))] [] := by
            intro q
            induction q with
            | zero =>
              intro i hi
              refine ax_iload_n (pc := 42) G dX10_named_42 rfl rfl ?_
              refine ax_aload_n (pc := 43) G dX10_named_43 rfl rfl ?_
              refine md_get (pc := 44) (v := .int (nI κ.1)) G flX10_64_8 dX10_named_44 rfl ?_
              refine ax_aload_n (pc := 47) G dX10_named_47 rfl rfl ?_
              refine md_get (pc := 48) (v := .int (nI κ.2.2.1)) G flX10_61_8 dX10_named_48 rfl ?_
              refine ax_isubN (pc := 51) G dX10_named_51 (by omega) ?_
              refine ax_icmp_geN (pc := 52) (tgt := 99) G dX10_named_52 rfl (by omega) (by omega) (fun c52 => ?_) (fun c52 => ?_)
              · refine ax_iload_n (pc := 99) G dX10_named_99 rfl rfl ?_
                refine ax_if_eq (pc := 100) (tgt := 105) G dX10_named_100 rfl (fun _ => ?_) (fun c9 => absurd rfl c9)
                refine ax_iincN (pc := 105) (n := 1) G dX10_named_105 rfl rfl ic_1 ?_
                refine ax_goto (pc := 108) (tgt := 2) G dX10_named_108 rfl ?_
                exact ax_l4 (ih (k + 1) (by omega) (by rw [← hv, rNm, rIs, if_neg (show ¬ _ = nI (rLn κ) from c31), if_neg (show ¬ (false = true) by decide)]))
              · omega
            | succ q ih2 =>
              intro i hi
              refine ax_iload_n (pc := 42) G dX10_named_42 rfl rfl ?_
              refine ax_aload_n (pc := 43) G dX10_named_43 rfl rfl ?_
              refine md_get (pc := 44) (v := .int (nI κ.1)) G flX10_64_8 dX10_named_44 rfl ?_
              refine ax_aload_n (pc := 47) G dX10_named_47 rfl rfl ?_
              refine md_get (pc := 48) (v := .int (nI κ.2.2.1)) G flX10_61_8 dX10_named_48 rfl ?_
              refine ax_isubN (pc := 51) G dX10_named_51 (by omega) ?_
              refine ax_icmp_geN (pc := 52) (tgt := 99) G dX10_named_52 rfl (by omega) (by omega) (fun c52 => ?_) (fun c52 => ?_)
              · omega
              · refine ax_iload_n (pc := 55) G dX10_named_55 rfl rfl ?_
                refine ax_if_eq (pc := 56) (tgt := 91) G dX10_named_56 rfl (fun _ => ?_) (fun c9 => absurd rfl c9)
                refine ax_iconst (pc := 91) (v := nI 0) G dX10_named_91 ic_0 ?_
                refine ax_istore_n (pc := 92) G dX10_named_92 rfl (Nat.le_of_ble_eq_true rfl) rfl ?_
                refine ax_iincN (pc := 93) (n := 1) G dX10_named_93 rfl rfl ic_1 ?_
                refine ax_goto (pc := 96) (tgt := 42) G dX10_named_96 rfl ?_
                exact ih2 (i + 1) (by omega)
          have q8 := LI (κ.1 - κ.2.2.1) 0 (by omega)
          exact q8
        · replace c31 : ((μ.2 3) (11 + k)) = (nI (κ.1 - κ.2.2.1)) := c31
          refine ax_iconst (pc := 34) (v := nI 1) G dX10_named_34 ic_1 ?_
          refine ax_goto (pc := 35) (tgt := 39) G dX10_named_35 rfl ?_
          refine ax_istore_n (pc := 39) G dX10_named_39 rfl (Nat.le_of_ble_eq_true rfl) rfl ?_
          refine ax_iconst (pc := 40) (v := nI 0) G dX10_named_40 ic_0 ?_
          refine ax_istore_n (pc := 41) G dX10_named_41 rfl (Nat.le_of_ble_eq_true rfl) rfl ?_
          have LI : ∀ (q i : Nat), i + q = (κ.1 - κ.2.2.1) → ax_W Ω Γ 0 0 (md_H h m (mK μ κ)) 42 [some (.ref m), some (.int (nI k)), some (.int (bI (rEq (μ.2 1) κ.2.2.1 (μ.2 3) k i))), some (.int (nI i))] [] := by
            intro q
            induction q with
            | zero =>
              intro i hi
              refine ax_iload_n (pc := 42) G dX10_named_42 rfl rfl ?_
              refine ax_aload_n (pc := 43) G dX10_named_43 rfl rfl ?_
              refine md_get (pc := 44) (v := .int (nI κ.1)) G flX10_64_8 dX10_named_44 rfl ?_
              refine ax_aload_n (pc := 47) G dX10_named_47 rfl rfl ?_
              refine md_get (pc := 48) (v := .int (nI κ.2.2.1)) G flX10_61_8 dX10_named_48 rfl ?_
              refine ax_isubN (pc := 51) G dX10_named_51 (by omega) ?_
              refine ax_icmp_geN (pc := 52) (tgt := 99) G dX10_named_52 rfl (by omega) (by omega) (fun c52 => ?_) (fun c52 => ?_)
              · refine ax_iload_n (pc := 99) G dX10_named_99 rfl rfl ?_
                refine ax_if_eq (pc := 100) (tgt := 105) G dX10_named_100 rfl (fun c100 => ?_) (fun c100 => ?_)
                · replace c100 : (bI (rEq (μ.2 1) κ.2.2.1 (μ.2 3) k i)) = 0 := c100
                  have c100b := bI_f c100
                  refine ax_iincN (pc := 105) (n := 1) G dX10_named_105 rfl rfl ic_1 ?_
                  refine ax_goto (pc := 108) (tgt := 2) G dX10_named_108 rfl ?_
                  exact ax_l4 (ih (k + 1) (by omega) (by rw [← hv, rNm, rIs, if_pos (show _ = nI (rLn κ) from c31), show rLn κ = i by unfold rLn; omega, c100b, if_neg (show ¬ (false = true) by decide)]))
                · replace c100 : ¬ (bI (rEq (μ.2 1) κ.2.2.1 (μ.2 3) k i)) = 0 := c100
                  have c100b := bI_t c100
                  refine ax_iload_n (pc := 103) G dX10_named_103 rfl rfl ?_
                  exact ax_iretE (pc := 104) G E rfl (rfl) dX10_named_104 (by rw [← hv, rNm, rIs, if_pos (show _ = nI (rLn κ) from c31), show rLn κ = i by unfold rLn; omega, c100b, if_pos (show (true = true) from rfl)]; rfl) (rfl)
              · omega
            | succ q ih2 =>
              intro i hi
              refine ax_iload_n (pc := 42) G dX10_named_42 rfl rfl ?_
              refine ax_aload_n (pc := 43) G dX10_named_43 rfl rfl ?_
              refine md_get (pc := 44) (v := .int (nI κ.1)) G flX10_64_8 dX10_named_44 rfl ?_
              refine ax_aload_n (pc := 47) G dX10_named_47 rfl rfl ?_
              refine md_get (pc := 48) (v := .int (nI κ.2.2.1)) G flX10_61_8 dX10_named_48 rfl ?_
              refine ax_isubN (pc := 51) G dX10_named_51 (by omega) ?_
              refine ax_icmp_geN (pc := 52) (tgt := 99) G dX10_named_52 rfl (by omega) (by omega) (fun c52 => ?_) (fun c52 => ?_)
              · omega
              · refine ax_iload_n (pc := 55) G dX10_named_55 rfl rfl ?_
                refine ax_if_eq (pc := 56) (tgt := 91) G dX10_named_56 rfl (fun c56 => ?_) (fun c56 => ?_)
                · replace c56 : (bI (rEq (μ.2 1) κ.2.2.1 (μ.2 3) k i)) = 0 := c56
                  have c56b := bI_f c56
                  refine ax_iconst (pc := 91) (v := nI 0) G dX10_named_91 ic_0 ?_
                  refine ax_istore_n (pc := 92) G dX10_named_92 rfl (Nat.le_of_ble_eq_true rfl) rfl ?_
                  refine ax_iincN (pc := 93) (n := 1) G dX10_named_93 rfl rfl ic_1 ?_
                  refine ax_goto (pc := 96) (tgt := 42) G dX10_named_96 rfl ?_
                  have eX : bI (rEq (μ.2 1) κ.2.2.1 (μ.2 3) k (i + 1)) = nI 0 := by
                    rw [rEq]
                    first | (rw [c56b, decide_eq_true c84]; rfl) | (rw [c56b, decide_eq_false c84]; rfl) | (rw [c56b]; rfl)
                  have q9 := ih2 (i + 1) (by omega)
                  rw [eX] at q9
                  exact q9
                · replace c56 : ¬ (bI (rEq (μ.2 1) κ.2.2.1 (μ.2 3) k i)) = 0 := c56
                  have c56b := bI_t c56
                  refine ax_aload_n (pc := 59) G dX10_named_59 rfl rfl ?_
                  refine md_get (pc := 60) (v := .ref (m + 3)) G flX10_20_8 dX10_named_60 rfl ?_
                  refine ax_bipush (pc := 63) (v := nI 17) G dX10_named_63 ib_17 ?_
                  refine ax_bipush (pc := 65) (v := nI 8) G dX10_named_65 ib_8 ?_
                  refine ax_iload_n (pc := 67) G dX10_named_67 rfl rfl ?_
                  refine ax_imulN (pc := 68) G dX10_named_68 ?_
                  refine ax_iaddN (pc := 69) G dX10_named_69 ?_
                  refine ax_iload_n (pc := 70) G dX10_named_70 rfl rfl ?_
                  refine ax_iaddN (pc := 71) G dX10_named_71 ?_
                  refine md_ld (pc := 72) (i := 17 + (8 * k) + i) (j := 3) G 235 dX10_named_72 (by decide) (by decide) rfl rfl rfl (by omega) (by decide) ?_
                  refine ax_aload_n (pc := 73) G dX10_named_73 rfl rfl ?_
                  refine md_get (pc := 74) (v := .ref (m + 1)) G flX10_9_8 dX10_named_74 rfl ?_
                  refine ax_aload_n (pc := 77) G dX10_named_77 rfl rfl ?_
                  refine md_get (pc := 78) (v := .int (nI κ.2.2.1)) G flX10_61_8 dX10_named_78 rfl ?_
                  refine ax_iload_n (pc := 81) G dX10_named_81 rfl rfl ?_
                  refine ax_iaddN (pc := 82) G dX10_named_82 ?_
                  refine md_ld (pc := 83) (i := κ.2.2.1 + i) (j := 1) G 1000 dX10_named_83 (by decide) (by decide) rfl rfl rfl (by omega) (by decide) ?_
                  refine ax_icmp_ne (pc := 84) (tgt := 91) G dX10_named_84 rfl (fun c84 => ?_) (fun c84 => ?_)
                  · replace c84 : ¬ ((μ.2 3) (17 + (8 * k) + i)) = ((μ.2 1) (κ.2.2.1 + i)) := c84
                    refine ax_iconst (pc := 91) (v := nI 0) G dX10_named_91 ic_0 ?_
                    refine ax_istore_n (pc := 92) G dX10_named_92 rfl (Nat.le_of_ble_eq_true rfl) rfl ?_
                    refine ax_iincN (pc := 93) (n := 1) G dX10_named_93 rfl rfl ic_1 ?_
                    refine ax_goto (pc := 96) (tgt := 42) G dX10_named_96 rfl ?_
                    have eX : bI (rEq (μ.2 1) κ.2.2.1 (μ.2 3) k (i + 1)) = nI 0 := by
                      rw [rEq]
                      first | (rw [c56b, decide_eq_true c84]; rfl) | (rw [c56b, decide_eq_false c84]; rfl) | (rw [c56b]; rfl)
                    have q9 := ih2 (i + 1) (by omega)
                    rw [eX] at q9
                    exact q9
                  · replace c84 : ((μ.2 3) (17 + (8 * k) + i)) = ((μ.2 1) (κ.2.2.1 + i)) := c84
                    refine ax_iconst (pc := 87) (v := nI 1) G dX10_named_87 ic_1 ?_
                    refine ax_goto (pc := 88) (tgt := 92) G dX10_named_88 rfl ?_
                    refine ax_istore_n (pc := 92) G dX10_named_92 rfl (Nat.le_of_ble_eq_true rfl) rfl ?_
                    refine ax_iincN (pc := 93) (n := 1) G dX10_named_93 rfl rfl ic_1 ?_
                    refine ax_goto (pc := 96) (tgt := 42) G dX10_named_96 rfl ?_
                    have eX : bI (rEq (μ.2 1) κ.2.2.1 (μ.2 3) k (i + 1)) = nI 1 := by
                      rw [rEq]
                      first | (rw [c56b, decide_eq_true c84]; rfl) | (rw [c56b, decide_eq_false c84]; rfl) | (rw [c56b]; rfl)
                    have q9 := ih2 (i + 1) (by omega)
                    rw [eX] at q9
                    exact q9
          have q8 := LI (κ.1 - κ.2.2.1) 0 (by omega)
          exact q8
  show ax_W Ω Γ 0 0 (md_H h m (mK μ κ)) 0 [some (.ref m), none, none, none] []
  refine ax_iconst (pc := 0) (v := nI 0) G dX10_named_0 ic_0 ?_
  refine ax_istore_n (pc := 1) G dX10_named_1 rfl (Nat.le_of_ble_eq_true rfl) rfl ?_
  exact LO P 0 (by omega) rfl

theorem kt_named {Ω : ax_O} (hA : ax_Amb Ω) {h : ax_H} {m : Nat} {μ : md_S} (hm : Ω.2.1.heap.size ≤ m) {n : Nat} (hend : μ.1 3 = nI n) (hn : n ≤ 1000) {b : pR} (hb : μ.2 1 = b) (κ : pK) (hκ : pOK n κ) {f : pR} (hf : μ.2 3 = f) (h8 : rLn κ ≤ 8) (P : Nat) (hP : f 10 = nI P) (hP6 : P ≤ 6) : ax_Met Ω yX10_named 1 0 0 [.ref m] (md_H h m (mK μ κ)) (.inl (some (.int (oI (rNm b κ.2.2.1 (rLn κ) f P 0))))) (md_H h m (mK μ κ)) := by
  subst hb hf
  exact mt_named hA hm hend hn κ hκ h8 P hP hP6
theorem pNx_w {b : pR} {n : Nat} {κ : pK} (h0 : (pNx b n κ).2.2.2.2.1 = 0) (h2 : (pNx b n κ).2.1 = 2) : rLn (pNx b n κ) ≤ 8 := by
  unfold pNx at h0 h2 ⊢
  split at h0
  · rename_i e
    rw [if_pos e] at h2 ⊢
    unfold pTok pTokA at h2 ⊢
    generalize pSkip b n (n - κ.1) κ.1 = s at h2 ⊢
    unfold rLn
    split at h2
    · cases h2
    · rename_i e1
      rw [if_neg e1]
      split at h2
      · rename_i e2
        rw [if_pos e2]
        dsimp only at h2 ⊢
        split at h2
        · assumption
        · cases h2
      · split at h2
        · dsimp only at h2
          split at h2 <;> cases h2
        · dsimp only at h2
          split at h2 <;> cases h2
  · rename_i e; exact absurd h0 e
theorem pNx_c {b : pR} {n : Nat} {κ : pK} (h : ¬ κ.2.2.2.2.1 = 0) : pNx b n κ = κ := by rw [pNx, if_neg h]
theorem rBeg_lt {b : pR} {n : Nat} {κ : pK} {k mx : Nat} (h0 : (rBeg b n κ k mx).2.2.2.2.1 = 0) : k ≠ mx := by
  intro e
  unfold rBeg at h0
  rw [if_pos e] at h0
  by_cases z : κ.2.2.2.2.1 = 0
  · rw [pNx_c (by rw [pFl_c z]; decide), pFl_c z] at h0; cases h0
  · have z2 : pFl κ 4 = κ := by rw [pFl, if_neg z]
    rw [z2, pNx_c z] at h0; exact z h0
theorem rBeg_w {b : pR} {n : Nat} {κ : pK} {k mx : Nat} (h0 : (rBeg b n κ k mx).2.2.2.2.1 = 0) (h2 : (rBeg b n κ k mx).2.1 = 2) : rLn (rBeg b n κ k mx) ≤ 8 := by
  unfold rBeg at h0 h2 ⊢
  split at h0
  · rename_i e; rw [if_pos e] at h2 ⊢; exact pNx_w h0 h2
  · rename_i e; rw [if_neg e] at h2 ⊢; exact pNx_w h0 h2
theorem rPrA_0 {κ : pK} (h : κ.2.2.2.2.1 = 0) (h2 : κ.2.1 = 2) : rPrA κ = κ := by rw [rPrA, if_pos h, if_pos h2]
theorem rPrA_1 {κ : pK} (h : κ.2.2.2.2.1 = 0) (h2 : ¬ κ.2.1 = 2) : rPrA κ = pFl κ 1 := by rw [rPrA, if_pos h, if_neg h2]
theorem rPrA_2 {κ : pK} (h : ¬ κ.2.2.2.2.1 = 0) : rPrA κ = κ := by rw [rPrA, if_neg h]
theorem rPrA_ok {n : Nat} {κ : pK} (h : pOK n κ) : pOK n (rPrA κ) := by
  unfold rPrA
  split
  · split
    · exact h
    · exact pFl_ok h (by decide)
  · exact h
theorem rPr_ok {b : pR} {n : Nat} {κ : pK} {f : pR} {P : Nat} (h : pOK n κ) : pOK n (pNx b n (if rPrV b (rPrA κ) f P = -1 then pFl (rPrA κ) 3 else rPrA κ)) := by
  split
  · exact pNx_ok (pFl_ok (rPrA_ok h) (by decide))
  · exact pNx_ok (rPrA_ok h)
theorem mt_proposalRead {Ω : ax_O} (hA : ax_Amb Ω) {h : ax_H} {m : Nat} {μ : md_S} (hm : Ω.2.1.heap.size ≤ m) {n : Nat} (hend : μ.1 3 = nI n) (hn : n ≤ 1000) {b : pR} (hb : μ.2 1 = b) (κ : pK) (hκ : pOK n κ) {f g : pR} (h8 : κ.2.2.2.2.1 = 0 → κ.2.1 = 2 → rLn κ ≤ 8) (P : Nat) (hP : f 10 = nI P) (hP6 : P ≤ 6) {k0 : pK} (e0 : k0 = pNx b n (if rPrV b (rPrA κ) f P = -1 then pFl (rPrA κ) 3 else rPrA κ)) {v0 : Int32} (y0 : v0 = rPrV b (rPrA κ) f P)  : ax_Met Ω yX10_proposalRead 4 0 0 [.ref m] (md_H h m (md_sa (md_sa (mK μ κ) 3 f) 5 g)) (.inl (some (.int v0))) (md_H h m (md_sa (md_sa (mK μ k0) 3 f) 5 g)) := by
  refine ax_met q2752 q142 (by decide +kernel) (by decide) hA (Nat.le_of_ble_eq_true rfl) (fun Γ G E => ?_)
  have hc8 : κ.2.2.2.2.1 < 8 := hκ.2.2.1
  have ht8 : κ.2.1 < 8 := hκ.2.2.2
  have hst := hκ.2.1
  have hnx := hκ.1
  show ax_W Ω Γ 0 0 (md_H h m (md_sa (md_sa (mK μ κ) 3 f) 5 g)) 0 [some (.ref m), none] []
  refine ax_aload_n (pc := 0) G dX10_proposalRead_0 rfl rfl ?_
  refine md_get (pc := 1) (v := .int (nI κ.2.2.2.2.1)) G flX10_55_8 dX10_proposalRead_1 rfl ?_
  refine ax_if_ne (pc := 4) (tgt := 20) G dX10_proposalRead_4 rfl (fun c4 => ?_) (fun c4 => ?_)
  · replace c4 : ¬ (nI κ.2.2.2.2.1) = 0 := c4
    have c4b : ¬ κ.2.2.2.2.1 = 0 := nz_ne c4
    refine ax_aload_n (pc := 20) G dX10_proposalRead_20 rfl rfl ?_
    refine md_get (pc := 21) (v := .int (nI κ.2.2.2.2.1)) G flX10_55_8 dX10_proposalRead_21 rfl ?_
    refine ax_if_le (pc := 24) (tgt := 31) G dX10_proposalRead_24 rfl (fun c9 => absurd c9 (fun z => c4b (nz_le z (by omega)))) (fun _ => ?_)
    refine ax_iconst (pc := 27) (v := nI 0) G dX10_proposalRead_27 ic_0 ?_
    refine ax_goto (pc := 28) (tgt := 35) G dX10_proposalRead_28 rfl ?_
    refine ax_istore_n (pc := 35) G dX10_proposalRead_35 rfl (Nat.le_of_ble_eq_true rfl) rfl ?_
    refine ax_iload_n (pc := 36) G dX10_proposalRead_36 rfl rfl ?_
    refine ax_iconst (pc := 37) (v := (-1)) G dX10_proposalRead_37 (by decide) ?_
    refine ax_icmp_ne (pc := 38) (tgt := 46) G dX10_proposalRead_38 rfl (fun _ => ?_) (fun c9 => absurd c9 (nI_nm (by omega)))
    refine ax_aload_n (pc := 46) G dX10_proposalRead_46 rfl rfl ?_
    obtain ⟨k1, e1⟩ : ∃ a : pK, a = pNx b n κ := ⟨_, rfl⟩
    have o1 : pOK n k1 := by rw [e1]; exact pNx_ok hκ
    have oc1 : k1.2.2.2.2.1 < 8 := o1.2.2.1
    have ot1 : k1.2.1 < 8 := o1.2.2.2
    refine ax_cV0 (pc := 47) (kb := 0) (nb := 0) G (kt_nextToken hA (h := h) (m := m) (μ := (md_sa (md_sa μ 3 f) 5 g)) hm (n := n) hend hn (b := b) hb κ hκ e1) lVX10_99_8 dX10_proposalRead_47 md_obj rfl (by decide) (Nat.le_of_ble_eq_true rfl) rfl ?_
    show ax_W Ω Γ _ _ (md_H h m (md_sa (md_sa (mK μ k1) 3 f) 5 g)) _ _ _
    refine ax_iload_n (pc := 50) G dX10_proposalRead_50 rfl rfl ?_
    exact ax_iretE (pc := 51) G E rfl (rfl) dX10_proposalRead_51 (by rw [y0, rPrA_2 c4b, rPrV, if_neg c4b]) (by rw [e1, e0, rPrA_2 c4b, rPrV, if_neg c4b, if_neg (by decide)])
  · replace c4 : (nI κ.2.2.2.2.1) = 0 := c4
    have c4b : κ.2.2.2.2.1 = 0 := nz_eq c4 (by omega)
    refine ax_aload_n (pc := 7) G dX10_proposalRead_7 rfl rfl ?_
    refine md_get (pc := 8) (v := .int (nI κ.2.1)) G flX10_71_8 dX10_proposalRead_8 rfl ?_
    refine ax_iconst (pc := 11) (v := nI 2) G dX10_proposalRead_11 ic_2 ?_
    refine ax_icmp_eqN (pc := 12) (tgt := 20) G dX10_proposalRead_12 rfl (by omega) (by omega) (fun c12 => ?_) (fun c12 => ?_)
    · refine ax_aload_n (pc := 20) G dX10_proposalRead_20 rfl rfl ?_
      refine md_get (pc := 21) (v := .int (nI κ.2.2.2.2.1)) G flX10_55_8 dX10_proposalRead_21 rfl ?_
      refine ax_if_le (pc := 24) (tgt := 31) G dX10_proposalRead_24 rfl (fun _ => ?_) (fun c9 => absurd (by rw [c4b]; decide) c9)
      refine ax_aload_n (pc := 31) G dX10_proposalRead_31 rfl rfl ?_
      refine ax_cV1 (pc := 32) (kb := 0) (nb := 0) G (kt_named hA (h := h) (m := m) (μ := (md_sa (md_sa μ 3 f) 5 g)) hm (n := n) hend hn (b := b) hb κ hκ (f := f) rfl (h8 c4b c12) P hP (by omega)) lVX10_145_8 dX10_proposalRead_32 md_obj rfl (by decide) (Nat.le_of_ble_eq_true rfl) rfl ?_
      refine ax_istore_n (pc := 35) G dX10_proposalRead_35 rfl (Nat.le_of_ble_eq_true rfl) rfl ?_
      refine ax_iload_n (pc := 36) G dX10_proposalRead_36 rfl rfl ?_
      refine ax_iconst (pc := 37) (v := (-1)) G dX10_proposalRead_37 (by decide) ?_
      refine ax_icmp_ne (pc := 38) (tgt := 46) G dX10_proposalRead_38 rfl (fun c38 => ?_) (fun c38 => ?_)
      · replace c38 : ¬ (oI (rNm b κ.2.2.1 (rLn κ) f P 0)) = (-1) := c38
        refine ax_aload_n (pc := 46) G dX10_proposalRead_46 rfl rfl ?_
        obtain ⟨k2, e2⟩ : ∃ a : pK, a = pNx b n κ := ⟨_, rfl⟩
        have o2 : pOK n k2 := by rw [e2]; exact pNx_ok hκ
        have oc2 : k2.2.2.2.2.1 < 8 := o2.2.2.1
        have ot2 : k2.2.1 < 8 := o2.2.2.2
        refine ax_cV0 (pc := 47) (kb := 0) (nb := 0) G (kt_nextToken hA (h := h) (m := m) (μ := (md_sa (md_sa μ 3 f) 5 g)) hm (n := n) hend hn (b := b) hb κ hκ e2) lVX10_99_8 dX10_proposalRead_47 md_obj rfl (by decide) (Nat.le_of_ble_eq_true rfl) rfl ?_
        show ax_W Ω Γ _ _ (md_H h m (md_sa (md_sa (mK μ k2) 3 f) 5 g)) _ _ _
        refine ax_iload_n (pc := 50) G dX10_proposalRead_50 rfl rfl ?_
        exact ax_iretE (pc := 51) G E rfl (rfl) dX10_proposalRead_51 (by rw [y0, rPrA_0 c4b c12, rPrV, if_pos c4b]) (by rw [e2, e0, rPrA_0 c4b c12, rPrV, if_pos c4b, if_neg c38])
      · replace c38 : (oI (rNm b κ.2.2.1 (rLn κ) f P 0)) = (-1) := c38
        refine ax_aload_n (pc := 41) G dX10_proposalRead_41 rfl rfl ?_
        refine ax_iconst (pc := 42) (v := nI 3) G dX10_proposalRead_42 ic_3 ?_
        obtain ⟨k3, e3⟩ : ∃ a : pK, a = pFl κ 3 := ⟨_, rfl⟩
        have o3 : pOK n k3 := by rw [e3]; exact pFl_ok hκ (by decide)
        have oc3 : k3.2.2.2.2.1 < 8 := o3.2.2.1
        have ot3 : k3.2.1 < 8 := o3.2.2.2
        refine ax_cV0 (pc := 43) (kb := 0) (nb := 0) G (kt_faults hA (h := h) (m := m) (μ := (md_sa (md_sa μ 3 f) 5 g)) hm (n := n) hend hn (b := b) hb κ hκ 3 e3) lVX10_105_8 dX10_proposalRead_43 md_obj rfl (by decide) (Nat.le_of_ble_eq_true rfl) rfl ?_
        show ax_W Ω Γ _ _ (md_H h m (md_sa (md_sa (mK μ k3) 3 f) 5 g)) _ _ _
        refine ax_aload_n (pc := 46) G dX10_proposalRead_46 rfl rfl ?_
        obtain ⟨k4, e4⟩ : ∃ a : pK, a = pNx b n k3 := ⟨_, rfl⟩
        have o4 : pOK n k4 := by rw [e4]; exact pNx_ok o3
        have oc4 : k4.2.2.2.2.1 < 8 := o4.2.2.1
        have ot4 : k4.2.1 < 8 := o4.2.2.2
        refine ax_cV0 (pc := 47) (kb := 0) (nb := 0) G (kt_nextToken hA (h := h) (m := m) (μ := (md_sa (md_sa μ 3 f) 5 g)) hm (n := n) hend hn (b := b) hb k3 o3 e4) lVX10_99_8 dX10_proposalRead_47 md_obj rfl (by decide) (Nat.le_of_ble_eq_true rfl) rfl ?_
        show ax_W Ω Γ _ _ (md_H h m (md_sa (md_sa (mK μ k4) 3 f) 5 g)) _ _ _
        refine ax_iload_n (pc := 50) G dX10_proposalRead_50 rfl rfl ?_
        exact ax_iretE (pc := 51) G E rfl (rfl) dX10_proposalRead_51 (by rw [y0, rPrA_0 c4b c12, rPrV, if_pos c4b]) (by rw [e4, e3, e0, rPrA_0 c4b c12, rPrV, if_pos c4b, if_pos c38])
    · refine ax_aload_n (pc := 15) G dX10_proposalRead_15 rfl rfl ?_
      refine ax_iconst (pc := 16) (v := nI 1) G dX10_proposalRead_16 ic_1 ?_
      obtain ⟨k5, e5⟩ : ∃ a : pK, a = pFl κ 1 := ⟨_, rfl⟩
      have o5 : pOK n k5 := by rw [e5]; exact pFl_ok hκ (by decide)
      have oc5 : k5.2.2.2.2.1 < 8 := o5.2.2.1
      have ot5 : k5.2.1 < 8 := o5.2.2.2
      refine ax_cV0 (pc := 17) (kb := 0) (nb := 0) G (kt_faults hA (h := h) (m := m) (μ := (md_sa (md_sa μ 3 f) 5 g)) hm (n := n) hend hn (b := b) hb κ hκ 1 e5) lVX10_105_8 dX10_proposalRead_17 md_obj rfl (by decide) (Nat.le_of_ble_eq_true rfl) rfl ?_
      show ax_W Ω Γ _ _ (md_H h m (md_sa (md_sa (mK μ k5) 3 f) 5 g)) _ _ _
      refine ax_aload_n (pc := 20) G dX10_proposalRead_20 rfl rfl ?_
      refine md_get (pc := 21) (v := .int (nI k5.2.2.2.2.1)) G flX10_55_8 dX10_proposalRead_21 rfl ?_
      refine ax_if_le (pc := 24) (tgt := 31) G dX10_proposalRead_24 rfl (fun c9 => absurd c9 (by rw [e5, pFl_c c4b]; decide)) (fun _ => ?_)
      refine ax_iconst (pc := 27) (v := nI 0) G dX10_proposalRead_27 ic_0 ?_
      refine ax_goto (pc := 28) (tgt := 35) G dX10_proposalRead_28 rfl ?_
      refine ax_istore_n (pc := 35) G dX10_proposalRead_35 rfl (Nat.le_of_ble_eq_true rfl) rfl ?_
      refine ax_iload_n (pc := 36) G dX10_proposalRead_36 rfl rfl ?_
      refine ax_iconst (pc := 37) (v := (-1)) G dX10_proposalRead_37 (by decide) ?_
      refine ax_icmp_ne (pc := 38) (tgt := 46) G dX10_proposalRead_38 rfl (fun _ => ?_) (fun c9 => absurd c9 (nI_nm (by omega)))
      refine ax_aload_n (pc := 46) G dX10_proposalRead_46 rfl rfl ?_
      obtain ⟨k6, e6⟩ : ∃ a : pK, a = pNx b n k5 := ⟨_, rfl⟩
      have o6 : pOK n k6 := by rw [e6]; exact pNx_ok o5
      have oc6 : k6.2.2.2.2.1 < 8 := o6.2.2.1
      have ot6 : k6.2.1 < 8 := o6.2.2.2
      refine ax_cV0 (pc := 47) (kb := 0) (nb := 0) G (kt_nextToken hA (h := h) (m := m) (μ := (md_sa (md_sa μ 3 f) 5 g)) hm (n := n) hend hn (b := b) hb k5 o5 e6) lVX10_99_8 dX10_proposalRead_47 md_obj rfl (by decide) (Nat.le_of_ble_eq_true rfl) rfl ?_
      show ax_W Ω Γ _ _ (md_H h m (md_sa (md_sa (mK μ k6) 3 f) 5 g)) _ _ _
      refine ax_iload_n (pc := 50) G dX10_proposalRead_50 rfl rfl ?_
      exact ax_iretE (pc := 51) G E rfl (rfl) dX10_proposalRead_51 (by rw [y0, rPrA_1 c4b c12, rPrV, if_neg (show ¬ (pFl κ 1).2.2.2.2.1 = 0 by rw [pFl_c c4b]; decide)]) (by rw [e6, e5, e0, rPrA_1 c4b c12, rPrV, if_neg (show ¬ (pFl κ 1).2.2.2.2.1 = 0 by rw [pFl_c c4b]; decide), if_neg (by decide)])

theorem kt_proposalRead {Ω : ax_O} (hA : ax_Amb Ω) {h : ax_H} {m : Nat} {μ : md_S} (hm : Ω.2.1.heap.size ≤ m) {n : Nat} (hend : μ.1 3 = nI n) (hn : n ≤ 1000) {b : pR} (hb : μ.2 1 = b) (κ : pK) (hκ : pOK n κ) {f : pR} (hf : μ.2 3 = f) (h8 : κ.2.2.2.2.1 = 0 → κ.2.1 = 2 → rLn κ ≤ 8) (P : Nat) (hP : f 10 = nI P) (hP6 : P ≤ 6) {k1 : pK} (e1 : k1 = pNx b n (if rPrV b (rPrA κ) f P = -1 then pFl (rPrA κ) 3 else rPrA κ)) {v1 : Int32} (f1 : v1 = rPrV b (rPrA κ) f P) : ax_Met Ω yX10_proposalRead 4 0 0 [.ref m] (md_H h m (mK μ κ)) (.inl (some (.int v1))) (md_H h m (mK μ k1)) := by
  have e0 : ∀ ν : md_S, md_sa (md_sa ν 3 (μ.2 3)) 5 (μ.2 5) = md_sa (md_sa ν 3 (μ.2 3)) 5 (μ.2 5) := fun _ => rfl
  have e9 : ∀ k : pK, md_sa (md_sa (mK μ k) 3 f) 5 (μ.2 5) = mK μ k := fun k => by
    rw [← hf, show μ.2 3 = (mK μ k).2 3 from rfl, md_same, show μ.2 5 = (mK μ k).2 5 from rfl, md_same]
  have M := mt_proposalRead hA (h := h) (m := m) (μ := μ) hm hend hn hb κ hκ (f := f) (g := μ.2 5) h8 P hP hP6 e1 f1
  rw [e9, e9] at M
  exact M
theorem mt_readOutage {Ω : ax_O} (hA : ax_Amb Ω) {h : ax_H} {m : Nat} {μ : md_S} (hm : Ω.2.1.heap.size ≤ m) {n : Nat} (hend : μ.1 3 = nI n) (hn : n ≤ 1000) {b : pR} (hb : μ.2 1 = b) (κ : pK) (hκ : pOK n κ) {f g : pR} {P V A O : Nat} (hC : rC f g P V A O)  : ax_Met Ω yX10_readOutage 5 0 0 [.ref m] (md_H h m (md_sa (md_sa (mK μ κ) 3 f) 5 g)) (.inl none) (md_H h m (mP μ (rOutage b n κ f g O))) := by
  refine ax_met q2766 q142 (by decide +kernel) (by decide) hA (Nat.le_of_ble_eq_true rfl) (fun Γ G E => ?_)
  have hc8 : κ.2.2.2.2.1 < 8 := hκ.2.2.1
  have ht8 : κ.2.1 < 8 := hκ.2.2.2
  have hst := hκ.2.1
  have hnx := hκ.1
  obtain ⟨kb, hkb⟩ : ∃ a, a = rBeg b n κ O 4 := ⟨_, rfl⟩
  have okb : pOK n kb := by rw [hkb]; exact rBeg_ok hκ
  have okc : kb.2.2.2.2.1 < 8 := okb.2.2.1
  have okt : kb.2.1 < 8 := okb.2.2.2
  have okn : kb.1 ≤ n := okb.1
  have oks : kb.2.2.1 ≤ kb.1 := okb.2.1
  have hlt : kb.2.2.2.2.1 = 0 → O ≠ 4 := by rw [hkb]; exact rBeg_lt
  have w8 : kb.2.2.2.2.1 = 0 → kb.2.1 = 2 → rLn kb ≤ 8 := by rw [hkb]; exact rBeg_w
  have hP6 : P ≤ 6 := hC.2.1
  have hV20 : V ≤ 20 := hC.2.2.1
  have hA5 : A ≤ 5 := hC.2.2.2.1
  have hO4 : O ≤ 4 := hC.2.2.2.2
  have hP : f 10 = nI P := hC.1.1
  have KB : ∀ kx : pK, kx = kb → ax_W Ω Γ 0 0 (md_H h m (md_sa (md_sa (mK μ kx) 3 f) 5 g)) 21 [some (.ref m), none] [] := by
    intro kx hx9
    rw [hx9]
    clear hx9 kx
    refine ax_aload_n (pc := 21) G dX10_readOutage_21 rfl rfl ?_
    refine md_get (pc := 22) (v := .int (nI kb.2.2.2.2.1)) G flX10_55_8 dX10_readOutage_22 rfl ?_
    refine ax_if_le (pc := 25) (tgt := 29) G dX10_readOutage_25 rfl (fun c25 => ?_) (fun c25 => ?_)
    · replace c25 : (nI kb.2.2.2.2.1) ≤ 0 := c25
      have c25b : kb.2.2.2.2.1 = 0 := nz_le c25 (by omega)
      have hlt9 := hlt c25b
      refine ax_sipush (pc := 29) (v := nI 227) G dX10_readOutage_29 is_227 ?_
      refine ax_iconst (pc := 32) (v := nI 2) G dX10_readOutage_32 ic_2 ?_
      refine ax_aload_n (pc := 33) G dX10_readOutage_33 rfl rfl ?_
      refine md_get (pc := 34) (v := .ref (m + 3)) G flX10_20_8 dX10_readOutage_34 rfl ?_
      refine ax_sipush (pc := 37) (v := nI 226) G dX10_readOutage_37 is_226 ?_
      refine md_ld (pc := 40) (i := 226) (j := 3) G 235 dX10_readOutage_40 (by decide) (by decide) rfl rfl rfl (by omega) (by decide) ?_
      refine ax_top (show Value.int (f 226) = .int (nI O) from congrArg Value.int (hC.1.2.2.1)) ?_
      refine ax_imulN (pc := 41) G dX10_readOutage_41 ?_
      refine ax_iaddN (pc := 42) G dX10_readOutage_42 ?_
      refine ax_istore_n (pc := 43) G dX10_readOutage_43 rfl (Nat.le_of_ble_eq_true rfl) rfl ?_
      refine ax_aload_n (pc := 44) G dX10_readOutage_44 rfl rfl ?_
      refine md_get (pc := 45) (v := .ref (m + 3)) G flX10_20_8 dX10_readOutage_45 rfl ?_
      refine ax_iload_n (pc := 48) G dX10_readOutage_48 rfl rfl ?_
      refine ax_aload_n (pc := 49) G dX10_readOutage_49 rfl rfl ?_
      refine ax_iconst (pc := 50) (v := nI 0) G dX10_readOutage_50 ic_0 ?_
      refine ax_sipush (pc := 51) (v := nI 2000) G dX10_readOutage_51 is_2000 ?_
      obtain ⟨k1, v1, e1, f1⟩ : ∃ (a : pK) (c : Int32), a = (pNum b n kb (nI 0) (nI 2000)).1 ∧ c = (pNum b n kb (nI 0) (nI 2000)).2 := ⟨_, _, rfl, rfl⟩
      have o1 : pOK n k1 := by rw [e1]; exact pNum_ok okb
      have oc1 : k1.2.2.2.2.1 < 8 := o1.2.2.1
      have ot1 : k1.2.1 < 8 := o1.2.2.2
      refine ax_cV1 (pc := 54) (kb := 0) (nb := 0) G (kt_number hA (h := h) (m := m) (μ := (md_sa (md_sa μ 3 f) 5 g)) hm (n := n) hend hn (b := b) hb kb okb (nI 0) (nI 2000) e1 f1) lVX10_116_8 dX10_readOutage_54 md_obj rfl (by decide) (Nat.le_of_ble_eq_true rfl) rfl ?_
      show ax_W Ω Γ _ _ (md_H h m (md_sa (md_sa (mK μ k1) 3 f) 5 g)) _ _ _
      refine md_st (pc := 57) (i := 227 + (2 * O)) (j := 3) G 235 dX10_readOutage_57 hm (by decide) (by decide) rfl rfl rfl (by omega) (by decide) ?_
      show ax_W Ω Γ _ _ (md_H h m (md_sa (md_sa (md_sa (mK μ k1) 3 f) 5 g) 3 (upd f (227 + (2 * O)) v1))) _ _ _
      rw [md_sac _ 3 5 _ _ (by decide)]
      rw [md_saa]
      show ax_W Ω Γ _ _ (md_H h m (md_sa (md_sa (mK μ k1) 5 g) 3 (upd f (227 + (2 * O)) v1))) _ _ _
      refine ax_aload_n (pc := 58) G dX10_readOutage_58 rfl rfl ?_
      refine md_get (pc := 59) (v := .ref (m + 3)) G flX10_20_8 dX10_readOutage_59 rfl ?_
      refine ax_iload_n (pc := 62) G dX10_readOutage_62 rfl rfl ?_
      refine ax_iconst (pc := 63) (v := nI 1) G dX10_readOutage_63 ic_1 ?_
      refine ax_iaddN (pc := 64) G dX10_readOutage_64 ?_
      refine ax_aload_n (pc := 65) G dX10_readOutage_65 rfl rfl ?_
      refine ax_aload_n (pc := 66) G dX10_readOutage_66 rfl rfl ?_
      refine md_get (pc := 67) (v := .ref (m + 3)) G flX10_20_8 dX10_readOutage_67 rfl ?_
      refine ax_iload_n (pc := 70) G dX10_readOutage_70 rfl rfl ?_
      refine md_ld (pc := 71) (i := 227 + (2 * O)) (j := 3) G 235 dX10_readOutage_71 (by decide) (by decide) rfl rfl rfl (by omega) (by decide) ?_
      refine ax_top (show Value.int ((upd f (227 + (2 * O)) v1) (227 + (2 * O))) = .int v1 from congrArg Value.int pu_eq) ?_
      refine ax_sipush (pc := 72) (v := nI 2000) G dX10_readOutage_72 is_2000 ?_
      obtain ⟨k2, v2, e2, f2⟩ : ∃ (a : pK) (c : Int32), a = (pNum b n k1 v1 (nI 2000)).1 ∧ c = (pNum b n k1 v1 (nI 2000)).2 := ⟨_, _, rfl, rfl⟩
      have o2 : pOK n k2 := by rw [e2]; exact pNum_ok o1
      have oc2 : k2.2.2.2.2.1 < 8 := o2.2.2.1
      have ot2 : k2.2.1 < 8 := o2.2.2.2
      refine ax_cV1 (pc := 75) (kb := 0) (nb := 0) G (kt_number hA (h := h) (m := m) (μ := (md_sa (md_sa μ 5 g) 3 (upd f (227 + (2 * O)) v1))) hm (n := n) hend hn (b := b) hb k1 o1 v1 (nI 2000) e2 f2) lVX10_116_8 dX10_readOutage_75 md_obj rfl (by decide) (Nat.le_of_ble_eq_true rfl) rfl ?_
      show ax_W Ω Γ _ _ (md_H h m (md_sa (md_sa (mK μ k2) 5 g) 3 (upd f (227 + (2 * O)) v1))) _ _ _
      refine md_st (pc := 78) (i := 227 + (2 * O) + 1) (j := 3) G 235 dX10_readOutage_78 hm (by decide) (by decide) rfl rfl rfl (by omega) (by decide) ?_
      show ax_W Ω Γ _ _ (md_H h m (md_sa (md_sa (md_sa (mK μ k2) 5 g) 3 (upd f (227 + (2 * O)) v1)) 3 (upd (upd f (227 + (2 * O)) v1) (227 + (2 * O) + 1) v2))) _ _ _
      rw [md_saa]
      show ax_W Ω Γ _ _ (md_H h m (md_sa (md_sa (mK μ k2) 5 g) 3 (upd (upd f (227 + (2 * O)) v1) (227 + (2 * O) + 1) v2))) _ _ _
      refine ax_aload_n (pc := 79) G dX10_readOutage_79 rfl rfl ?_
      refine md_get (pc := 80) (v := .ref (m + 3)) G flX10_20_8 dX10_readOutage_80 rfl ?_
      refine ax_sipush (pc := 83) (v := nI 226) G dX10_readOutage_83 is_226 ?_
      refine ax_dup2_11 (pc := 86) G dX10_readOutage_86 rfl rfl ?_
      refine md_ld (pc := 87) (i := 226) (j := 3) G 235 dX10_readOutage_87 (by decide) (by decide) rfl rfl rfl (by omega) (by decide) ?_
      refine ax_iconst (pc := 88) (v := nI 1) G dX10_readOutage_88 ic_1 ?_
      refine ax_iadd (pc := 89) G dX10_readOutage_89 ?_
      refine md_st (pc := 90) (i := 226) (j := 3) G 235 dX10_readOutage_90 hm (by decide) (by decide) rfl rfl rfl (by omega) (by decide) ?_
      show ax_W Ω Γ _ _ (md_H h m (md_sa (md_sa (md_sa (mK μ k2) 5 g) 3 (upd (upd f (227 + (2 * O)) v1) (227 + (2 * O) + 1) v2)) 3 (pAdd (upd (upd f (227 + (2 * O)) v1) (227 + (2 * O) + 1) v2) 226 (nI 1)))) _ _ _
      rw [md_saa]
      show ax_W Ω Γ _ _ (md_H h m (md_sa (md_sa (mK μ k2) 5 g) 3 (pAdd (upd (upd f (227 + (2 * O)) v1) (227 + (2 * O) + 1) v2) 226 (nI 1)))) _ _ _
      exact ax_vretE (pc := 91) G E rfl dX10_readOutage_91 (by rw [rOutage, ← hkb, if_pos c25b]; rw [md_sac _ 5 3 _ _ (by decide)]; rw [rN_e e1 f1, rN_e e2 f2]; rfl)
    · replace c25 : ¬ (nI kb.2.2.2.2.1) ≤ 0 := c25
      have c25b : ¬ kb.2.2.2.2.1 = 0 := nz_nle c25
      exact ax_vretE (pc := 28) G E rfl dX10_readOutage_28 (by rw [rOutage, ← hkb, if_neg c25b]; rfl)
  show ax_W Ω Γ 0 0 (md_H h m (md_sa (md_sa (mK μ κ) 3 f) 5 g)) 0 [some (.ref m), none] []
  refine ax_aload_n (pc := 0) G dX10_readOutage_0 rfl rfl ?_
  refine md_get (pc := 1) (v := .ref (m + 3)) G flX10_20_8 dX10_readOutage_1 rfl ?_
  refine ax_sipush (pc := 4) (v := nI 226) G dX10_readOutage_4 is_226 ?_
  refine md_ld (pc := 7) (i := 226) (j := 3) G 235 dX10_readOutage_7 (by decide) (by decide) rfl rfl rfl (by omega) (by decide) ?_
  refine ax_top (show Value.int (f 226) = .int (nI O) from congrArg Value.int (hC.1.2.2.1)) ?_
  refine ax_iconst (pc := 8) (v := nI 4) G dX10_readOutage_8 ic_4 ?_
  refine ax_icmp_neN (pc := 9) (tgt := 17) G dX10_readOutage_9 rfl (by omega) (by omega) (fun c9 => ?_) (fun c9 => ?_)
  · refine ax_aload_n (pc := 17) G dX10_readOutage_17 rfl rfl ?_
    obtain ⟨k51, e51⟩ : ∃ a : pK, a = pNx b n κ := ⟨_, rfl⟩
    have o51 : pOK n k51 := by rw [e51]; exact pNx_ok hκ
    have oc51 : k51.2.2.2.2.1 < 8 := o51.2.2.1
    have ot51 : k51.2.1 < 8 := o51.2.2.2
    refine ax_cV0 (pc := 18) (kb := 0) (nb := 0) G (kt_nextToken hA (h := h) (m := m) (μ := (md_sa (md_sa μ 3 f) 5 g)) hm (n := n) hend hn (b := b) hb κ hκ e51) lVX10_99_8 dX10_readOutage_18 md_obj rfl (by decide) (Nat.le_of_ble_eq_true rfl) rfl ?_
    show ax_W Ω Γ _ _ (md_H h m (md_sa (md_sa (mK μ k51) 3 f) 5 g)) _ _ _
    exact KB k51 (by rw [e51, hkb, rBeg, if_neg c9])
  · refine ax_aload_n (pc := 12) G dX10_readOutage_12 rfl rfl ?_
    refine ax_iconst (pc := 13) (v := nI 4) G dX10_readOutage_13 ic_4 ?_
    obtain ⟨k52, e52⟩ : ∃ a : pK, a = pFl κ 4 := ⟨_, rfl⟩
    have o52 : pOK n k52 := by rw [e52]; exact pFl_ok hκ (by decide)
    have oc52 : k52.2.2.2.2.1 < 8 := o52.2.2.1
    have ot52 : k52.2.1 < 8 := o52.2.2.2
    refine ax_cV0 (pc := 14) (kb := 0) (nb := 0) G (kt_faults hA (h := h) (m := m) (μ := (md_sa (md_sa μ 3 f) 5 g)) hm (n := n) hend hn (b := b) hb κ hκ 4 e52) lVX10_105_8 dX10_readOutage_14 md_obj rfl (by decide) (Nat.le_of_ble_eq_true rfl) rfl ?_
    show ax_W Ω Γ _ _ (md_H h m (md_sa (md_sa (mK μ k52) 3 f) 5 g)) _ _ _
    refine ax_aload_n (pc := 17) G dX10_readOutage_17 rfl rfl ?_
    obtain ⟨k53, e53⟩ : ∃ a : pK, a = pNx b n k52 := ⟨_, rfl⟩
    have o53 : pOK n k53 := by rw [e53]; exact pNx_ok o52
    have oc53 : k53.2.2.2.2.1 < 8 := o53.2.2.1
    have ot53 : k53.2.1 < 8 := o53.2.2.2
    refine ax_cV0 (pc := 18) (kb := 0) (nb := 0) G (kt_nextToken hA (h := h) (m := m) (μ := (md_sa (md_sa μ 3 f) 5 g)) hm (n := n) hend hn (b := b) hb k52 o52 e53) lVX10_99_8 dX10_readOutage_18 md_obj rfl (by decide) (Nat.le_of_ble_eq_true rfl) rfl ?_
    show ax_W Ω Γ _ _ (md_H h m (md_sa (md_sa (mK μ k53) 3 f) 5 g)) _ _ _
    exact KB k53 (by rw [e53, e52, hkb, rBeg, if_pos c9])

theorem mt_readVisit {Ω : ax_O} (hA : ax_Amb Ω) {h : ax_H} {m : Nat} {μ : md_S} (hm : Ω.2.1.heap.size ≤ m) {n : Nat} (hend : μ.1 3 = nI n) (hn : n ≤ 1000) {b : pR} (hb : μ.2 1 = b) (κ : pK) (hκ : pOK n κ) {f g : pR} {P V A O : Nat} (hC : rC f g P V A O)  : ax_Met Ω yX10_readVisit 6 0 0 [.ref m] (md_H h m (md_sa (md_sa (mK μ κ) 3 f) 5 g)) (.inl none) (md_H h m (mP μ (rVisit b n κ f g P V))) := by
  refine ax_met q2748 q142 (by decide +kernel) (by decide) hA (Nat.le_of_ble_eq_true rfl) (fun Γ G E => ?_)
  have hc8 : κ.2.2.2.2.1 < 8 := hκ.2.2.1
  have ht8 : κ.2.1 < 8 := hκ.2.2.2
  have hst := hκ.2.1
  have hnx := hκ.1
  obtain ⟨kb, hkb⟩ : ∃ a, a = rBeg b n κ V 20 := ⟨_, rfl⟩
  have okb : pOK n kb := by rw [hkb]; exact rBeg_ok hκ
  have okc : kb.2.2.2.2.1 < 8 := okb.2.2.1
  have okt : kb.2.1 < 8 := okb.2.2.2
  have okn : kb.1 ≤ n := okb.1
  have oks : kb.2.2.1 ≤ kb.1 := okb.2.1
  have hlt : kb.2.2.2.2.1 = 0 → V ≠ 20 := by rw [hkb]; exact rBeg_lt
  have w8 : kb.2.2.2.2.1 = 0 → kb.2.1 = 2 → rLn kb ≤ 8 := by rw [hkb]; exact rBeg_w
  have hP6 : P ≤ 6 := hC.2.1
  have hV20 : V ≤ 20 := hC.2.2.1
  have hA5 : A ≤ 5 := hC.2.2.2.1
  have hO4 : O ≤ 4 := hC.2.2.2.2
  have hP : f 10 = nI P := hC.1.1
  have KB : ∀ kx : pK, kx = kb → ax_W Ω Γ 0 0 (md_H h m (md_sa (md_sa (mK μ kx) 3 f) 5 g)) 23 [some (.ref m), some (.int (nI V)), none] [] := by
    intro kx hx9
    rw [hx9]
    clear hx9 kx
    refine ax_aload_n (pc := 23) G dX10_readVisit_23 rfl rfl ?_
    refine md_get (pc := 24) (v := .int (nI kb.2.2.2.2.1)) G flX10_55_8 dX10_readVisit_24 rfl ?_
    refine ax_if_le (pc := 27) (tgt := 31) G dX10_readVisit_27 rfl (fun c27 => ?_) (fun c27 => ?_)
    · replace c27 : (nI kb.2.2.2.2.1) ≤ 0 := c27
      have c27b : kb.2.2.2.2.1 = 0 := nz_le c27 (by omega)
      have hlt9 := hlt c27b
      refine ax_bipush (pc := 31) (v := nI 66) G dX10_readVisit_31 ib_66 ?_
      refine ax_bipush (pc := 33) (v := nI 8) G dX10_readVisit_33 ib_8 ?_
      refine ax_iload_n (pc := 35) G dX10_readVisit_35 rfl rfl ?_
      refine ax_imulN (pc := 36) G dX10_readVisit_36 ?_
      refine ax_iaddN (pc := 37) G dX10_readVisit_37 ?_
      refine ax_istore_n (pc := 38) G dX10_readVisit_38 rfl (Nat.le_of_ble_eq_true rfl) rfl ?_
      refine ax_aload_n (pc := 39) G dX10_readVisit_39 rfl rfl ?_
      refine md_get (pc := 40) (v := .ref (m + 3)) G flX10_20_8 dX10_readVisit_40 rfl ?_
      refine ax_iload_n (pc := 43) G dX10_readVisit_43 rfl rfl ?_
      refine ax_iconst (pc := 44) (v := nI 0) G dX10_readVisit_44 ic_0 ?_
      refine ax_iaddN (pc := 45) G dX10_readVisit_45 ?_
      refine ax_aload_n (pc := 46) G dX10_readVisit_46 rfl rfl ?_
      obtain ⟨k1, v1, e1, f1⟩ : ∃ (a : pK) (c : Int32), a = pNx b n (if rPrV b (rPrA kb) f P = -1 then pFl (rPrA kb) 3 else rPrA kb) ∧ c = rPrV b (rPrA kb) f P := ⟨_, _, rfl, rfl⟩
      have o1 : pOK n k1 := by rw [e1]; exact rPr_ok okb
      have oc1 : k1.2.2.2.2.1 < 8 := o1.2.2.1
      have ot1 : k1.2.1 < 8 := o1.2.2.2
      refine ax_cV1 (pc := 47) (kb := 0) (nb := 0) G (kt_proposalRead hA (h := h) (m := m) (μ := (md_sa (md_sa μ 3 f) 5 g)) hm (n := n) hend hn (b := b) hb kb okb (f := f) rfl (w8) P hP (by omega) e1 f1) lVX10_151_8 dX10_readVisit_47 md_obj rfl (by decide) (Nat.le_of_ble_eq_true rfl) rfl ?_
      show ax_W Ω Γ _ _ (md_H h m (md_sa (md_sa (mK μ k1) 3 f) 5 g)) _ _ _
      refine md_st (pc := 50) (i := 66 + (8 * V) + 0) (j := 3) G 235 dX10_readVisit_50 hm (by decide) (by decide) rfl rfl rfl (by omega) (by decide) ?_
      show ax_W Ω Γ _ _ (md_H h m (md_sa (md_sa (md_sa (mK μ k1) 3 f) 5 g) 3 (upd f (66 + (8 * V) + 0) v1))) _ _ _
      rw [md_sac _ 3 5 _ _ (by decide)]
      rw [md_saa]
      show ax_W Ω Γ _ _ (md_H h m (md_sa (md_sa (mK μ k1) 5 g) 3 (upd f (66 + (8 * V) + 0) v1))) _ _ _
      refine ax_aload_n (pc := 51) G dX10_readVisit_51 rfl rfl ?_
      refine md_get (pc := 52) (v := .ref (m + 3)) G flX10_20_8 dX10_readVisit_52 rfl ?_
      refine ax_iload_n (pc := 55) G dX10_readVisit_55 rfl rfl ?_
      refine ax_iconst (pc := 56) (v := nI 1) G dX10_readVisit_56 ic_1 ?_
      refine ax_iaddN (pc := 57) G dX10_readVisit_57 ?_
      refine ax_aload_n (pc := 58) G dX10_readVisit_58 rfl rfl ?_
      refine ax_iconst (pc := 59) (v := nI 0) G dX10_readVisit_59 ic_0 ?_
      refine ax_sipush (pc := 60) (v := nI 359) G dX10_readVisit_60 is_359 ?_
      obtain ⟨k2, v2, e2, f2⟩ : ∃ (a : pK) (c : Int32), a = (pNum b n k1 (nI 0) (nI 359)).1 ∧ c = (pNum b n k1 (nI 0) (nI 359)).2 := ⟨_, _, rfl, rfl⟩
      have o2 : pOK n k2 := by rw [e2]; exact pNum_ok o1
      have oc2 : k2.2.2.2.2.1 < 8 := o2.2.2.1
      have ot2 : k2.2.1 < 8 := o2.2.2.2
      refine ax_cV1 (pc := 63) (kb := 0) (nb := 0) G (kt_number hA (h := h) (m := m) (μ := (md_sa (md_sa μ 5 g) 3 (upd f (66 + (8 * V) + 0) v1))) hm (n := n) hend hn (b := b) hb k1 o1 (nI 0) (nI 359) e2 f2) lVX10_116_8 dX10_readVisit_63 md_obj rfl (by decide) (Nat.le_of_ble_eq_true rfl) rfl ?_
      show ax_W Ω Γ _ _ (md_H h m (md_sa (md_sa (mK μ k2) 5 g) 3 (upd f (66 + (8 * V) + 0) v1))) _ _ _
      refine md_st (pc := 66) (i := 66 + (8 * V) + 1) (j := 3) G 235 dX10_readVisit_66 hm (by decide) (by decide) rfl rfl rfl (by omega) (by decide) ?_
      show ax_W Ω Γ _ _ (md_H h m (md_sa (md_sa (md_sa (mK μ k2) 5 g) 3 (upd f (66 + (8 * V) + 0) v1)) 3 (upd (upd f (66 + (8 * V) + 0) v1) (66 + (8 * V) + 1) v2))) _ _ _
      rw [md_saa]
      show ax_W Ω Γ _ _ (md_H h m (md_sa (md_sa (mK μ k2) 5 g) 3 (upd (upd f (66 + (8 * V) + 0) v1) (66 + (8 * V) + 1) v2))) _ _ _
      refine ax_aload_n (pc := 67) G dX10_readVisit_67 rfl rfl ?_
      refine md_get (pc := 68) (v := .ref (m + 3)) G flX10_20_8 dX10_readVisit_68 rfl ?_
      refine ax_iload_n (pc := 71) G dX10_readVisit_71 rfl rfl ?_
      refine ax_iconst (pc := 72) (v := nI 2) G dX10_readVisit_72 ic_2 ?_
      refine ax_iaddN (pc := 73) G dX10_readVisit_73 ?_
      refine ax_aload_n (pc := 74) G dX10_readVisit_74 rfl rfl ?_
      obtain ⟨k3, v3, e3, f3⟩ : ∃ (a : pK) (c : Int32), a = (pLatK b n k2).1 ∧ c = (pLatK b n k2).2 := ⟨_, _, rfl, rfl⟩
      have o3 : pOK n k3 := by rw [e3]; exact pLatK_ok o2
      have oc3 : k3.2.2.2.2.1 < 8 := o3.2.2.1
      have ot3 : k3.2.1 < 8 := o3.2.2.2
      refine ax_cV1 (pc := 75) (kb := 0) (nb := 0) G (kt_latitude hA (h := h) (m := m) (μ := (md_sa (md_sa μ 5 g) 3 (upd (upd f (66 + (8 * V) + 0) v1) (66 + (8 * V) + 1) v2))) hm (n := n) hend hn (b := b) hb k2 o2 e3 f3) lVX10_154_8 dX10_readVisit_75 md_obj rfl (by decide) (Nat.le_of_ble_eq_true rfl) rfl ?_
      show ax_W Ω Γ _ _ (md_H h m (md_sa (md_sa (mK μ k3) 5 g) 3 (upd (upd f (66 + (8 * V) + 0) v1) (66 + (8 * V) + 1) v2))) _ _ _
      refine md_st (pc := 78) (i := 66 + (8 * V) + 2) (j := 3) G 235 dX10_readVisit_78 hm (by decide) (by decide) rfl rfl rfl (by omega) (by decide) ?_
      show ax_W Ω Γ _ _ (md_H h m (md_sa (md_sa (md_sa (mK μ k3) 5 g) 3 (upd (upd f (66 + (8 * V) + 0) v1) (66 + (8 * V) + 1) v2)) 3 (upd (upd (upd f (66 + (8 * V) + 0) v1) (66 + (8 * V) + 1) v2) (66 + (8 * V) + 2) v3))) _ _ _
      rw [md_saa]
      show ax_W Ω Γ _ _ (md_H h m (md_sa (md_sa (mK μ k3) 5 g) 3 (upd (upd (upd f (66 + (8 * V) + 0) v1) (66 + (8 * V) + 1) v2) (66 + (8 * V) + 2) v3))) _ _ _
      refine ax_aload_n (pc := 79) G dX10_readVisit_79 rfl rfl ?_
      refine md_get (pc := 80) (v := .ref (m + 3)) G flX10_20_8 dX10_readVisit_80 rfl ?_
      refine ax_iload_n (pc := 83) G dX10_readVisit_83 rfl rfl ?_
      refine ax_iconst (pc := 84) (v := nI 3) G dX10_readVisit_84 ic_3 ?_
      refine ax_iaddN (pc := 85) G dX10_readVisit_85 ?_
      refine ax_aload_n (pc := 86) G dX10_readVisit_86 rfl rfl ?_
      refine ax_iconst (pc := 87) (v := nI 1) G dX10_readVisit_87 ic_1 ?_
      refine ax_sipush (pc := 88) (v := nI 300) G dX10_readVisit_88 is_300 ?_
      obtain ⟨k4, v4, e4, f4⟩ : ∃ (a : pK) (c : Int32), a = (pNum b n k3 (nI 1) (nI 300)).1 ∧ c = (pNum b n k3 (nI 1) (nI 300)).2 := ⟨_, _, rfl, rfl⟩
      have o4 : pOK n k4 := by rw [e4]; exact pNum_ok o3
      have oc4 : k4.2.2.2.2.1 < 8 := o4.2.2.1
      have ot4 : k4.2.1 < 8 := o4.2.2.2
      refine ax_cV1 (pc := 91) (kb := 0) (nb := 0) G (kt_number hA (h := h) (m := m) (μ := (md_sa (md_sa μ 5 g) 3 (upd (upd (upd f (66 + (8 * V) + 0) v1) (66 + (8 * V) + 1) v2) (66 + (8 * V) + 2) v3))) hm (n := n) hend hn (b := b) hb k3 o3 (nI 1) (nI 300) e4 f4) lVX10_116_8 dX10_readVisit_91 md_obj rfl (by decide) (Nat.le_of_ble_eq_true rfl) rfl ?_
      show ax_W Ω Γ _ _ (md_H h m (md_sa (md_sa (mK μ k4) 5 g) 3 (upd (upd (upd f (66 + (8 * V) + 0) v1) (66 + (8 * V) + 1) v2) (66 + (8 * V) + 2) v3))) _ _ _
      refine md_st (pc := 94) (i := 66 + (8 * V) + 3) (j := 3) G 235 dX10_readVisit_94 hm (by decide) (by decide) rfl rfl rfl (by omega) (by decide) ?_
      show ax_W Ω Γ _ _ (md_H h m (md_sa (md_sa (md_sa (mK μ k4) 5 g) 3 (upd (upd (upd f (66 + (8 * V) + 0) v1) (66 + (8 * V) + 1) v2) (66 + (8 * V) + 2) v3)) 3 (upd (upd (upd (upd f (66 + (8 * V) + 0) v1) (66 + (8 * V) + 1) v2) (66 + (8 * V) + 2) v3) (66 + (8 * V) + 3) v4))) _ _ _
      rw [md_saa]
      show ax_W Ω Γ _ _ (md_H h m (md_sa (md_sa (mK μ k4) 5 g) 3 (upd (upd (upd (upd f (66 + (8 * V) + 0) v1) (66 + (8 * V) + 1) v2) (66 + (8 * V) + 2) v3) (66 + (8 * V) + 3) v4))) _ _ _
      refine ax_aload_n (pc := 95) G dX10_readVisit_95 rfl rfl ?_
      refine md_get (pc := 96) (v := .ref (m + 5)) G flX10_26_8 dX10_readVisit_96 rfl ?_
      refine ax_bipush (pc := 99) (v := nI 107) G dX10_readVisit_99 ib_107 ?_
      refine ax_iload_n (pc := 101) G dX10_readVisit_101 rfl rfl ?_
      refine ax_iaddN (pc := 102) G dX10_readVisit_102 ?_
      refine ax_aload_n (pc := 103) G dX10_readVisit_103 rfl rfl ?_
      refine ax_iconst (pc := 104) (v := nI 1) G dX10_readVisit_104 ic_1 ?_
      refine ax_bipush (pc := 105) (v := nI 9) G dX10_readVisit_105 ib_9 ?_
      obtain ⟨k5, v5, e5, f5⟩ : ∃ (a : pK) (c : Int32), a = (pNum b n k4 (nI 1) (nI 9)).1 ∧ c = (pNum b n k4 (nI 1) (nI 9)).2 := ⟨_, _, rfl, rfl⟩
      have o5 : pOK n k5 := by rw [e5]; exact pNum_ok o4
      have oc5 : k5.2.2.2.2.1 < 8 := o5.2.2.1
      have ot5 : k5.2.1 < 8 := o5.2.2.2
      refine ax_cV1 (pc := 107) (kb := 0) (nb := 0) G (kt_number hA (h := h) (m := m) (μ := (md_sa (md_sa μ 5 g) 3 (upd (upd (upd (upd f (66 + (8 * V) + 0) v1) (66 + (8 * V) + 1) v2) (66 + (8 * V) + 2) v3) (66 + (8 * V) + 3) v4))) hm (n := n) hend hn (b := b) hb k4 o4 (nI 1) (nI 9) e5 f5) lVX10_116_8 dX10_readVisit_107 md_obj rfl (by decide) (Nat.le_of_ble_eq_true rfl) rfl ?_
      show ax_W Ω Γ _ _ (md_H h m (md_sa (md_sa (mK μ k5) 5 g) 3 (upd (upd (upd (upd f (66 + (8 * V) + 0) v1) (66 + (8 * V) + 1) v2) (66 + (8 * V) + 2) v3) (66 + (8 * V) + 3) v4))) _ _ _
      refine md_st (pc := 110) (i := 107 + V) (j := 5) G 627 dX10_readVisit_110 hm (by decide) (by decide) rfl rfl rfl (by omega) (by decide) ?_
      show ax_W Ω Γ _ _ (md_H h m (md_sa (md_sa (md_sa (mK μ k5) 5 g) 3 (upd (upd (upd (upd f (66 + (8 * V) + 0) v1) (66 + (8 * V) + 1) v2) (66 + (8 * V) + 2) v3) (66 + (8 * V) + 3) v4)) 5 (upd g (107 + V) v5))) _ _ _
      rw [md_sac _ 5 3 _ _ (by decide)]
      rw [md_saa]
      show ax_W Ω Γ _ _ (md_H h m (md_sa (md_sa (mK μ k5) 3 (upd (upd (upd (upd f (66 + (8 * V) + 0) v1) (66 + (8 * V) + 1) v2) (66 + (8 * V) + 2) v3) (66 + (8 * V) + 3) v4)) 5 (upd g (107 + V) v5))) _ _ _
      refine ax_aload_n (pc := 111) G dX10_readVisit_111 rfl rfl ?_
      refine md_get (pc := 112) (v := .ref (m + 3)) G flX10_20_8 dX10_readVisit_112 rfl ?_
      refine ax_iload_n (pc := 115) G dX10_readVisit_115 rfl rfl ?_
      refine ax_iconst (pc := 116) (v := nI 5) G dX10_readVisit_116 ic_5 ?_
      refine ax_iaddN (pc := 117) G dX10_readVisit_117 ?_
      refine ax_aload_n (pc := 118) G dX10_readVisit_118 rfl rfl ?_
      refine ax_iconst (pc := 119) (v := nI 0) G dX10_readVisit_119 ic_0 ?_
      refine ax_bipush (pc := 120) (v := nI 99) G dX10_readVisit_120 ib_99 ?_
      obtain ⟨k6, v6, e6, f6⟩ : ∃ (a : pK) (c : Int32), a = (pNum b n k5 (nI 0) (nI 99)).1 ∧ c = (pNum b n k5 (nI 0) (nI 99)).2 := ⟨_, _, rfl, rfl⟩
      have o6 : pOK n k6 := by rw [e6]; exact pNum_ok o5
      have oc6 : k6.2.2.2.2.1 < 8 := o6.2.2.1
      have ot6 : k6.2.1 < 8 := o6.2.2.2
      refine ax_cV1 (pc := 122) (kb := 0) (nb := 0) G (kt_number hA (h := h) (m := m) (μ := (md_sa (md_sa μ 3 (upd (upd (upd (upd f (66 + (8 * V) + 0) v1) (66 + (8 * V) + 1) v2) (66 + (8 * V) + 2) v3) (66 + (8 * V) + 3) v4)) 5 (upd g (107 + V) v5))) hm (n := n) hend hn (b := b) hb k5 o5 (nI 0) (nI 99) e6 f6) lVX10_116_8 dX10_readVisit_122 md_obj rfl (by decide) (Nat.le_of_ble_eq_true rfl) rfl ?_
      show ax_W Ω Γ _ _ (md_H h m (md_sa (md_sa (mK μ k6) 3 (upd (upd (upd (upd f (66 + (8 * V) + 0) v1) (66 + (8 * V) + 1) v2) (66 + (8 * V) + 2) v3) (66 + (8 * V) + 3) v4)) 5 (upd g (107 + V) v5))) _ _ _
      refine md_st (pc := 125) (i := 66 + (8 * V) + 5) (j := 3) G 235 dX10_readVisit_125 hm (by decide) (by decide) rfl rfl rfl (by omega) (by decide) ?_
      show ax_W Ω Γ _ _ (md_H h m (md_sa (md_sa (md_sa (mK μ k6) 3 (upd (upd (upd (upd f (66 + (8 * V) + 0) v1) (66 + (8 * V) + 1) v2) (66 + (8 * V) + 2) v3) (66 + (8 * V) + 3) v4)) 5 (upd g (107 + V) v5)) 3 (upd (upd (upd (upd (upd f (66 + (8 * V) + 0) v1) (66 + (8 * V) + 1) v2) (66 + (8 * V) + 2) v3) (66 + (8 * V) + 3) v4) (66 + (8 * V) + 5) v6))) _ _ _
      rw [md_sac _ 3 5 _ _ (by decide)]
      rw [md_saa]
      show ax_W Ω Γ _ _ (md_H h m (md_sa (md_sa (mK μ k6) 5 (upd g (107 + V) v5)) 3 (upd (upd (upd (upd (upd f (66 + (8 * V) + 0) v1) (66 + (8 * V) + 1) v2) (66 + (8 * V) + 2) v3) (66 + (8 * V) + 3) v4) (66 + (8 * V) + 5) v6))) _ _ _
      refine ax_aload_n (pc := 126) G dX10_readVisit_126 rfl rfl ?_
      refine md_get (pc := 127) (v := .ref (m + 3)) G flX10_20_8 dX10_readVisit_127 rfl ?_
      refine ax_iload_n (pc := 130) G dX10_readVisit_130 rfl rfl ?_
      refine ax_bipush (pc := 131) (v := nI 6) G dX10_readVisit_131 ib_6 ?_
      refine ax_iaddN (pc := 133) G dX10_readVisit_133 ?_
      refine ax_aload_n (pc := 134) G dX10_readVisit_134 rfl rfl ?_
      refine ax_iconst (pc := 135) (v := nI 0) G dX10_readVisit_135 ic_0 ?_
      refine ax_sipush (pc := 136) (v := nI 2000) G dX10_readVisit_136 is_2000 ?_
      obtain ⟨k7, v7, e7, f7⟩ : ∃ (a : pK) (c : Int32), a = (pNum b n k6 (nI 0) (nI 2000)).1 ∧ c = (pNum b n k6 (nI 0) (nI 2000)).2 := ⟨_, _, rfl, rfl⟩
      have o7 : pOK n k7 := by rw [e7]; exact pNum_ok o6
      have oc7 : k7.2.2.2.2.1 < 8 := o7.2.2.1
      have ot7 : k7.2.1 < 8 := o7.2.2.2
      refine ax_cV1 (pc := 139) (kb := 0) (nb := 0) G (kt_number hA (h := h) (m := m) (μ := (md_sa (md_sa μ 5 (upd g (107 + V) v5)) 3 (upd (upd (upd (upd (upd f (66 + (8 * V) + 0) v1) (66 + (8 * V) + 1) v2) (66 + (8 * V) + 2) v3) (66 + (8 * V) + 3) v4) (66 + (8 * V) + 5) v6))) hm (n := n) hend hn (b := b) hb k6 o6 (nI 0) (nI 2000) e7 f7) lVX10_116_8 dX10_readVisit_139 md_obj rfl (by decide) (Nat.le_of_ble_eq_true rfl) rfl ?_
      show ax_W Ω Γ _ _ (md_H h m (md_sa (md_sa (mK μ k7) 5 (upd g (107 + V) v5)) 3 (upd (upd (upd (upd (upd f (66 + (8 * V) + 0) v1) (66 + (8 * V) + 1) v2) (66 + (8 * V) + 2) v3) (66 + (8 * V) + 3) v4) (66 + (8 * V) + 5) v6))) _ _ _
      refine md_st (pc := 142) (i := 66 + (8 * V) + 6) (j := 3) G 235 dX10_readVisit_142 hm (by decide) (by decide) rfl rfl rfl (by omega) (by decide) ?_
      show ax_W Ω Γ _ _ (md_H h m (md_sa (md_sa (md_sa (mK μ k7) 5 (upd g (107 + V) v5)) 3 (upd (upd (upd (upd (upd f (66 + (8 * V) + 0) v1) (66 + (8 * V) + 1) v2) (66 + (8 * V) + 2) v3) (66 + (8 * V) + 3) v4) (66 + (8 * V) + 5) v6)) 3 (upd (upd (upd (upd (upd (upd f (66 + (8 * V) + 0) v1) (66 + (8 * V) + 1) v2) (66 + (8 * V) + 2) v3) (66 + (8 * V) + 3) v4) (66 + (8 * V) + 5) v6) (66 + (8 * V) + 6) v7))) _ _ _
      rw [md_saa]
      show ax_W Ω Γ _ _ (md_H h m (md_sa (md_sa (mK μ k7) 5 (upd g (107 + V) v5)) 3 (upd (upd (upd (upd (upd (upd f (66 + (8 * V) + 0) v1) (66 + (8 * V) + 1) v2) (66 + (8 * V) + 2) v3) (66 + (8 * V) + 3) v4) (66 + (8 * V) + 5) v6) (66 + (8 * V) + 6) v7))) _ _ _
      refine ax_aload_n (pc := 143) G dX10_readVisit_143 rfl rfl ?_
      refine md_get (pc := 144) (v := .ref (m + 3)) G flX10_20_8 dX10_readVisit_144 rfl ?_
      refine ax_iload_n (pc := 147) G dX10_readVisit_147 rfl rfl ?_
      refine ax_bipush (pc := 148) (v := nI 7) G dX10_readVisit_148 ib_7 ?_
      refine ax_iaddN (pc := 150) G dX10_readVisit_150 ?_
      refine ax_aload_n (pc := 151) G dX10_readVisit_151 rfl rfl ?_
      refine ax_aload_n (pc := 152) G dX10_readVisit_152 rfl rfl ?_
      refine md_get (pc := 153) (v := .ref (m + 3)) G flX10_20_8 dX10_readVisit_153 rfl ?_
      refine ax_iload_n (pc := 156) G dX10_readVisit_156 rfl rfl ?_
      refine ax_bipush (pc := 157) (v := nI 6) G dX10_readVisit_157 ib_6 ?_
      refine ax_iaddN (pc := 159) G dX10_readVisit_159 ?_
      refine md_ld (pc := 160) (i := 66 + (8 * V) + 6) (j := 3) G 235 dX10_readVisit_160 (by decide) (by decide) rfl rfl rfl (by omega) (by decide) ?_
      refine ax_top (show Value.int ((upd (upd (upd (upd (upd (upd f (66 + (8 * V) + 0) v1) (66 + (8 * V) + 1) v2) (66 + (8 * V) + 2) v3) (66 + (8 * V) + 3) v4) (66 + (8 * V) + 5) v6) (66 + (8 * V) + 6) v7) (66 + (8 * V) + 6)) = .int v7 from congrArg Value.int pu_eq) ?_
      refine ax_sipush (pc := 161) (v := nI 2000) G dX10_readVisit_161 is_2000 ?_
      obtain ⟨k8, v8, e8, f8⟩ : ∃ (a : pK) (c : Int32), a = (pNum b n k7 v7 (nI 2000)).1 ∧ c = (pNum b n k7 v7 (nI 2000)).2 := ⟨_, _, rfl, rfl⟩
      have o8 : pOK n k8 := by rw [e8]; exact pNum_ok o7
      have oc8 : k8.2.2.2.2.1 < 8 := o8.2.2.1
      have ot8 : k8.2.1 < 8 := o8.2.2.2
      refine ax_cV1 (pc := 164) (kb := 0) (nb := 0) G (kt_number hA (h := h) (m := m) (μ := (md_sa (md_sa μ 5 (upd g (107 + V) v5)) 3 (upd (upd (upd (upd (upd (upd f (66 + (8 * V) + 0) v1) (66 + (8 * V) + 1) v2) (66 + (8 * V) + 2) v3) (66 + (8 * V) + 3) v4) (66 + (8 * V) + 5) v6) (66 + (8 * V) + 6) v7))) hm (n := n) hend hn (b := b) hb k7 o7 v7 (nI 2000) e8 f8) lVX10_116_8 dX10_readVisit_164 md_obj rfl (by decide) (Nat.le_of_ble_eq_true rfl) rfl ?_
      show ax_W Ω Γ _ _ (md_H h m (md_sa (md_sa (mK μ k8) 5 (upd g (107 + V) v5)) 3 (upd (upd (upd (upd (upd (upd f (66 + (8 * V) + 0) v1) (66 + (8 * V) + 1) v2) (66 + (8 * V) + 2) v3) (66 + (8 * V) + 3) v4) (66 + (8 * V) + 5) v6) (66 + (8 * V) + 6) v7))) _ _ _
      refine md_st (pc := 167) (i := 66 + (8 * V) + 7) (j := 3) G 235 dX10_readVisit_167 hm (by decide) (by decide) rfl rfl rfl (by omega) (by decide) ?_
      show ax_W Ω Γ _ _ (md_H h m (md_sa (md_sa (md_sa (mK μ k8) 5 (upd g (107 + V) v5)) 3 (upd (upd (upd (upd (upd (upd f (66 + (8 * V) + 0) v1) (66 + (8 * V) + 1) v2) (66 + (8 * V) + 2) v3) (66 + (8 * V) + 3) v4) (66 + (8 * V) + 5) v6) (66 + (8 * V) + 6) v7)) 3 (upd (upd (upd (upd (upd (upd (upd f (66 + (8 * V) + 0) v1) (66 + (8 * V) + 1) v2) (66 + (8 * V) + 2) v3) (66 + (8 * V) + 3) v4) (66 + (8 * V) + 5) v6) (66 + (8 * V) + 6) v7) (66 + (8 * V) + 7) v8))) _ _ _
      rw [md_saa]
      show ax_W Ω Γ _ _ (md_H h m (md_sa (md_sa (mK μ k8) 5 (upd g (107 + V) v5)) 3 (upd (upd (upd (upd (upd (upd (upd f (66 + (8 * V) + 0) v1) (66 + (8 * V) + 1) v2) (66 + (8 * V) + 2) v3) (66 + (8 * V) + 3) v4) (66 + (8 * V) + 5) v6) (66 + (8 * V) + 6) v7) (66 + (8 * V) + 7) v8))) _ _ _
      refine ax_aload_n (pc := 168) G dX10_readVisit_168 rfl rfl ?_
      refine md_get (pc := 169) (v := .ref (m + 5)) G flX10_26_8 dX10_readVisit_169 rfl ?_
      refine ax_bipush (pc := 172) (v := nI 87) G dX10_readVisit_172 ib_87 ?_
      refine ax_iload_n (pc := 174) G dX10_readVisit_174 rfl rfl ?_
      refine ax_iaddN (pc := 175) G dX10_readVisit_175 ?_
      refine ax_iconst (pc := 176) (v := (-1)) G dX10_readVisit_176 (by decide) ?_
      refine md_st (pc := 177) (i := 87 + V) (j := 5) G 627 dX10_readVisit_177 hm (by decide) (by decide) rfl rfl rfl (by omega) (by decide) ?_
      show ax_W Ω Γ _ _ (md_H h m (md_sa (md_sa (md_sa (mK μ k8) 5 (upd g (107 + V) v5)) 3 (upd (upd (upd (upd (upd (upd (upd f (66 + (8 * V) + 0) v1) (66 + (8 * V) + 1) v2) (66 + (8 * V) + 2) v3) (66 + (8 * V) + 3) v4) (66 + (8 * V) + 5) v6) (66 + (8 * V) + 6) v7) (66 + (8 * V) + 7) v8)) 5 (upd (upd g (107 + V) v5) (87 + V) (-1)))) _ _ _
      rw [md_sac _ 5 3 _ _ (by decide)]
      rw [md_saa]
      show ax_W Ω Γ _ _ (md_H h m (md_sa (md_sa (mK μ k8) 3 (upd (upd (upd (upd (upd (upd (upd f (66 + (8 * V) + 0) v1) (66 + (8 * V) + 1) v2) (66 + (8 * V) + 2) v3) (66 + (8 * V) + 3) v4) (66 + (8 * V) + 5) v6) (66 + (8 * V) + 6) v7) (66 + (8 * V) + 7) v8)) 5 (upd (upd g (107 + V) v5) (87 + V) (-1)))) _ _ _
      refine ax_aload_n (pc := 178) G dX10_readVisit_178 rfl rfl ?_
      refine md_get (pc := 179) (v := .ref (m + 3)) G flX10_20_8 dX10_readVisit_179 rfl ?_
      refine ax_bipush (pc := 182) (v := nI 65) G dX10_readVisit_182 ib_65 ?_
      refine ax_dup2_11 (pc := 184) G dX10_readVisit_184 rfl rfl ?_
      refine md_ld (pc := 185) (i := 65) (j := 3) G 235 dX10_readVisit_185 (by decide) (by decide) rfl rfl rfl (by omega) (by decide) ?_
      refine ax_iconst (pc := 186) (v := nI 1) G dX10_readVisit_186 ic_1 ?_
      refine ax_iadd (pc := 187) G dX10_readVisit_187 ?_
      refine md_st (pc := 188) (i := 65) (j := 3) G 235 dX10_readVisit_188 hm (by decide) (by decide) rfl rfl rfl (by omega) (by decide) ?_
      show ax_W Ω Γ _ _ (md_H h m (md_sa (md_sa (md_sa (mK μ k8) 3 (upd (upd (upd (upd (upd (upd (upd f (66 + (8 * V) + 0) v1) (66 + (8 * V) + 1) v2) (66 + (8 * V) + 2) v3) (66 + (8 * V) + 3) v4) (66 + (8 * V) + 5) v6) (66 + (8 * V) + 6) v7) (66 + (8 * V) + 7) v8)) 5 (upd (upd g (107 + V) v5) (87 + V) (-1))) 3 (pAdd (upd (upd (upd (upd (upd (upd (upd f (66 + (8 * V) + 0) v1) (66 + (8 * V) + 1) v2) (66 + (8 * V) + 2) v3) (66 + (8 * V) + 3) v4) (66 + (8 * V) + 5) v6) (66 + (8 * V) + 6) v7) (66 + (8 * V) + 7) v8) 65 (nI 1)))) _ _ _
      rw [md_sac _ 3 5 _ _ (by decide)]
      rw [md_saa]
      show ax_W Ω Γ _ _ (md_H h m (md_sa (md_sa (mK μ k8) 5 (upd (upd g (107 + V) v5) (87 + V) (-1))) 3 (pAdd (upd (upd (upd (upd (upd (upd (upd f (66 + (8 * V) + 0) v1) (66 + (8 * V) + 1) v2) (66 + (8 * V) + 2) v3) (66 + (8 * V) + 3) v4) (66 + (8 * V) + 5) v6) (66 + (8 * V) + 6) v7) (66 + (8 * V) + 7) v8) 65 (nI 1)))) _ _ _
      exact ax_vretE (pc := 189) G E rfl dX10_readVisit_189 (by rw [rVisit, ← hkb, if_pos c27b]; rw [md_sac _ 5 3 _ _ (by decide)]; rw [rPr_e e1 f1, rN_e e2 f2, rL_e e3 f3, rN_e e4 f4, rN_e e5 f5, rN_e e6 f6, rN_e e7 f7, rN_e e8 f8]; rfl)
    · replace c27 : ¬ (nI kb.2.2.2.2.1) ≤ 0 := c27
      have c27b : ¬ kb.2.2.2.2.1 = 0 := nz_nle c27
      exact ax_vretE (pc := 30) G E rfl dX10_readVisit_30 (by rw [rVisit, ← hkb, if_neg c27b]; rfl)
  show ax_W Ω Γ 0 0 (md_H h m (md_sa (md_sa (mK μ κ) 3 f) 5 g)) 0 [some (.ref m), none, none] []
  refine ax_aload_n (pc := 0) G dX10_readVisit_0 rfl rfl ?_
  refine md_get (pc := 1) (v := .ref (m + 3)) G flX10_20_8 dX10_readVisit_1 rfl ?_
  refine ax_bipush (pc := 4) (v := nI 65) G dX10_readVisit_4 ib_65 ?_
  refine md_ld (pc := 6) (i := 65) (j := 3) G 235 dX10_readVisit_6 (by decide) (by decide) rfl rfl rfl (by omega) (by decide) ?_
  refine ax_top (show Value.int (f 65) = .int (nI V) from congrArg Value.int (hC.1.2.1)) ?_
  refine ax_istore_n (pc := 7) G dX10_readVisit_7 rfl (Nat.le_of_ble_eq_true rfl) rfl ?_
  refine ax_iload_n (pc := 8) G dX10_readVisit_8 rfl rfl ?_
  refine ax_bipush (pc := 9) (v := nI 20) G dX10_readVisit_9 ib_20 ?_
  refine ax_icmp_neN (pc := 11) (tgt := 19) G dX10_readVisit_11 rfl (by omega) (by omega) (fun c11 => ?_) (fun c11 => ?_)
  · refine ax_aload_n (pc := 19) G dX10_readVisit_19 rfl rfl ?_
    obtain ⟨k51, e51⟩ : ∃ a : pK, a = pNx b n κ := ⟨_, rfl⟩
    have o51 : pOK n k51 := by rw [e51]; exact pNx_ok hκ
    have oc51 : k51.2.2.2.2.1 < 8 := o51.2.2.1
    have ot51 : k51.2.1 < 8 := o51.2.2.2
    refine ax_cV0 (pc := 20) (kb := 0) (nb := 0) G (kt_nextToken hA (h := h) (m := m) (μ := (md_sa (md_sa μ 3 f) 5 g)) hm (n := n) hend hn (b := b) hb κ hκ e51) lVX10_99_8 dX10_readVisit_20 md_obj rfl (by decide) (Nat.le_of_ble_eq_true rfl) rfl ?_
    show ax_W Ω Γ _ _ (md_H h m (md_sa (md_sa (mK μ k51) 3 f) 5 g)) _ _ _
    exact KB k51 (by rw [e51, hkb, rBeg, if_neg c11])
  · refine ax_aload_n (pc := 14) G dX10_readVisit_14 rfl rfl ?_
    refine ax_iconst (pc := 15) (v := nI 4) G dX10_readVisit_15 ic_4 ?_
    obtain ⟨k52, e52⟩ : ∃ a : pK, a = pFl κ 4 := ⟨_, rfl⟩
    have o52 : pOK n k52 := by rw [e52]; exact pFl_ok hκ (by decide)
    have oc52 : k52.2.2.2.2.1 < 8 := o52.2.2.1
    have ot52 : k52.2.1 < 8 := o52.2.2.2
    refine ax_cV0 (pc := 16) (kb := 0) (nb := 0) G (kt_faults hA (h := h) (m := m) (μ := (md_sa (md_sa μ 3 f) 5 g)) hm (n := n) hend hn (b := b) hb κ hκ 4 e52) lVX10_105_8 dX10_readVisit_16 md_obj rfl (by decide) (Nat.le_of_ble_eq_true rfl) rfl ?_
    show ax_W Ω Γ _ _ (md_H h m (md_sa (md_sa (mK μ k52) 3 f) 5 g)) _ _ _
    refine ax_aload_n (pc := 19) G dX10_readVisit_19 rfl rfl ?_
    obtain ⟨k53, e53⟩ : ∃ a : pK, a = pNx b n k52 := ⟨_, rfl⟩
    have o53 : pOK n k53 := by rw [e53]; exact pNx_ok o52
    have oc53 : k53.2.2.2.2.1 < 8 := o53.2.2.1
    have ot53 : k53.2.1 < 8 := o53.2.2.2
    refine ax_cV0 (pc := 20) (kb := 0) (nb := 0) G (kt_nextToken hA (h := h) (m := m) (μ := (md_sa (md_sa μ 3 f) 5 g)) hm (n := n) hend hn (b := b) hb k52 o52 e53) lVX10_99_8 dX10_readVisit_20 md_obj rfl (by decide) (Nat.le_of_ble_eq_true rfl) rfl ?_
    show ax_W Ω Γ _ _ (md_H h m (md_sa (md_sa (mK μ k53) 3 f) 5 g)) _ _ _
    exact KB k53 (by rw [e53, e52, hkb, rBeg, if_pos c11])

theorem mt_readAlert {Ω : ax_O} (hA : ax_Amb Ω) {h : ax_H} {m : Nat} {μ : md_S} (hm : Ω.2.1.heap.size ≤ m) {n : Nat} (hend : μ.1 3 = nI n) (hn : n ≤ 1000) {b : pR} (hb : μ.2 1 = b) (κ : pK) (hκ : pOK n κ) {f g : pR} {P V A O : Nat} (hC : rC f g P V A O)  : ax_Met Ω yX10_readAlert 6 0 0 [.ref m] (md_H h m (md_sa (md_sa (mK μ κ) 3 f) 5 g)) (.inl none) (md_H h m (mP μ (rAlert b n κ f g P A))) := by
  refine ax_met q2761 q142 (by decide +kernel) (by decide) hA (Nat.le_of_ble_eq_true rfl) (fun Γ G E => ?_)
  have hc8 : κ.2.2.2.2.1 < 8 := hκ.2.2.1
  have ht8 : κ.2.1 < 8 := hκ.2.2.2
  have hst := hκ.2.1
  have hnx := hκ.1
  obtain ⟨kb, hkb⟩ : ∃ a, a = rBeg b n κ A 5 := ⟨_, rfl⟩
  have okb : pOK n kb := by rw [hkb]; exact rBeg_ok hκ
  have okc : kb.2.2.2.2.1 < 8 := okb.2.2.1
  have okt : kb.2.1 < 8 := okb.2.2.2
  have okn : kb.1 ≤ n := okb.1
  have oks : kb.2.2.1 ≤ kb.1 := okb.2.1
  have hlt : kb.2.2.2.2.1 = 0 → A ≠ 5 := by rw [hkb]; exact rBeg_lt
  have w8 : kb.2.2.2.2.1 = 0 → kb.2.1 = 2 → rLn kb ≤ 8 := by rw [hkb]; exact rBeg_w
  have hP6 : P ≤ 6 := hC.2.1
  have hV20 : V ≤ 20 := hC.2.2.1
  have hA5 : A ≤ 5 := hC.2.2.2.1
  have hO4 : O ≤ 4 := hC.2.2.2.2
  have hP : f 10 = nI P := hC.1.1
  have KB : ∀ kx : pK, kx = kb → ax_W Ω Γ 0 0 (md_H h m (md_sa (md_sa (mK μ kx) 3 f) 5 g)) 22 [some (.ref m), some (.int (nI A)), none] [] := by
    intro kx hx9
    rw [hx9]
    clear hx9 kx
    refine ax_aload_n (pc := 22) G dX10_readAlert_22 rfl rfl ?_
    refine md_get (pc := 23) (v := .int (nI kb.2.2.2.2.1)) G flX10_55_8 dX10_readAlert_23 rfl ?_
    refine ax_if_le (pc := 26) (tgt := 30) G dX10_readAlert_26 rfl (fun c26 => ?_) (fun c26 => ?_)
    · replace c26 : (nI kb.2.2.2.2.1) ≤ 0 := c26
      have c26b : kb.2.2.2.2.1 = 0 := nz_le c26 (by omega)
      have hlt9 := hlt c26b
      refine ax_bipush (pc := 30) (v := nI 127) G dX10_readAlert_30 ib_127 ?_
      refine ax_bipush (pc := 32) (v := nI 10) G dX10_readAlert_32 ib_10 ?_
      refine ax_iload_n (pc := 34) G dX10_readAlert_34 rfl rfl ?_
      refine ax_imulN (pc := 35) G dX10_readAlert_35 ?_
      refine ax_iaddN (pc := 36) G dX10_readAlert_36 ?_
      refine ax_istore_n (pc := 37) G dX10_readAlert_37 rfl (Nat.le_of_ble_eq_true rfl) rfl ?_
      refine ax_aload_n (pc := 38) G dX10_readAlert_38 rfl rfl ?_
      refine md_get (pc := 39) (v := .ref (m + 5)) G flX10_26_8 dX10_readAlert_39 rfl ?_
      refine ax_iload_n (pc := 42) G dX10_readAlert_42 rfl rfl ?_
      refine ax_iconst (pc := 43) (v := nI 0) G dX10_readAlert_43 ic_0 ?_
      refine ax_iaddN (pc := 44) G dX10_readAlert_44 ?_
      refine ax_aload_n (pc := 45) G dX10_readAlert_45 rfl rfl ?_
      obtain ⟨k1, v1, e1, f1⟩ : ∃ (a : pK) (c : Int32), a = pNx b n (if rPrV b (rPrA kb) f P = -1 then pFl (rPrA kb) 3 else rPrA kb) ∧ c = rPrV b (rPrA kb) f P := ⟨_, _, rfl, rfl⟩
      have o1 : pOK n k1 := by rw [e1]; exact rPr_ok okb
      have oc1 : k1.2.2.2.2.1 < 8 := o1.2.2.1
      have ot1 : k1.2.1 < 8 := o1.2.2.2
      refine ax_cV1 (pc := 46) (kb := 0) (nb := 0) G (kt_proposalRead hA (h := h) (m := m) (μ := (md_sa (md_sa μ 3 f) 5 g)) hm (n := n) hend hn (b := b) hb kb okb (f := f) rfl (w8) P hP (by omega) e1 f1) lVX10_151_8 dX10_readAlert_46 md_obj rfl (by decide) (Nat.le_of_ble_eq_true rfl) rfl ?_
      show ax_W Ω Γ _ _ (md_H h m (md_sa (md_sa (mK μ k1) 3 f) 5 g)) _ _ _
      refine md_st (pc := 49) (i := 127 + (10 * A) + 0) (j := 5) G 627 dX10_readAlert_49 hm (by decide) (by decide) rfl rfl rfl (by omega) (by decide) ?_
      show ax_W Ω Γ _ _ (md_H h m (md_sa (md_sa (md_sa (mK μ k1) 3 f) 5 g) 5 (upd g (127 + (10 * A) + 0) v1))) _ _ _
      rw [md_saa]
      show ax_W Ω Γ _ _ (md_H h m (md_sa (md_sa (mK μ k1) 3 f) 5 (upd g (127 + (10 * A) + 0) v1))) _ _ _
      refine ax_aload_n (pc := 50) G dX10_readAlert_50 rfl rfl ?_
      refine md_get (pc := 51) (v := .ref (m + 5)) G flX10_26_8 dX10_readAlert_51 rfl ?_
      refine ax_iload_n (pc := 54) G dX10_readAlert_54 rfl rfl ?_
      refine ax_iconst (pc := 55) (v := nI 1) G dX10_readAlert_55 ic_1 ?_
      refine ax_iaddN (pc := 56) G dX10_readAlert_56 ?_
      refine ax_aload_n (pc := 57) G dX10_readAlert_57 rfl rfl ?_
      refine ax_iconst (pc := 58) (v := nI 0) G dX10_readAlert_58 ic_0 ?_
      refine ax_sipush (pc := 59) (v := nI 2000) G dX10_readAlert_59 is_2000 ?_
      obtain ⟨k2, v2, e2, f2⟩ : ∃ (a : pK) (c : Int32), a = (pNum b n k1 (nI 0) (nI 2000)).1 ∧ c = (pNum b n k1 (nI 0) (nI 2000)).2 := ⟨_, _, rfl, rfl⟩
      have o2 : pOK n k2 := by rw [e2]; exact pNum_ok o1
      have oc2 : k2.2.2.2.2.1 < 8 := o2.2.2.1
      have ot2 : k2.2.1 < 8 := o2.2.2.2
      refine ax_cV1 (pc := 62) (kb := 0) (nb := 0) G (kt_number hA (h := h) (m := m) (μ := (md_sa (md_sa μ 3 f) 5 (upd g (127 + (10 * A) + 0) v1))) hm (n := n) hend hn (b := b) hb k1 o1 (nI 0) (nI 2000) e2 f2) lVX10_116_8 dX10_readAlert_62 md_obj rfl (by decide) (Nat.le_of_ble_eq_true rfl) rfl ?_
      show ax_W Ω Γ _ _ (md_H h m (md_sa (md_sa (mK μ k2) 3 f) 5 (upd g (127 + (10 * A) + 0) v1))) _ _ _
      refine md_st (pc := 65) (i := 127 + (10 * A) + 1) (j := 5) G 627 dX10_readAlert_65 hm (by decide) (by decide) rfl rfl rfl (by omega) (by decide) ?_
      show ax_W Ω Γ _ _ (md_H h m (md_sa (md_sa (md_sa (mK μ k2) 3 f) 5 (upd g (127 + (10 * A) + 0) v1)) 5 (upd (upd g (127 + (10 * A) + 0) v1) (127 + (10 * A) + 1) v2))) _ _ _
      rw [md_saa]
      show ax_W Ω Γ _ _ (md_H h m (md_sa (md_sa (mK μ k2) 3 f) 5 (upd (upd g (127 + (10 * A) + 0) v1) (127 + (10 * A) + 1) v2))) _ _ _
      refine ax_aload_n (pc := 66) G dX10_readAlert_66 rfl rfl ?_
      refine md_get (pc := 67) (v := .ref (m + 5)) G flX10_26_8 dX10_readAlert_67 rfl ?_
      refine ax_iload_n (pc := 70) G dX10_readAlert_70 rfl rfl ?_
      refine ax_iconst (pc := 71) (v := nI 2) G dX10_readAlert_71 ic_2 ?_
      refine ax_iaddN (pc := 72) G dX10_readAlert_72 ?_
      refine ax_aload_n (pc := 73) G dX10_readAlert_73 rfl rfl ?_
      refine ax_iconst (pc := 74) (v := nI 0) G dX10_readAlert_74 ic_0 ?_
      refine ax_sipush (pc := 75) (v := nI 359) G dX10_readAlert_75 is_359 ?_
      obtain ⟨k3, v3, e3, f3⟩ : ∃ (a : pK) (c : Int32), a = (pNum b n k2 (nI 0) (nI 359)).1 ∧ c = (pNum b n k2 (nI 0) (nI 359)).2 := ⟨_, _, rfl, rfl⟩
      have o3 : pOK n k3 := by rw [e3]; exact pNum_ok o2
      have oc3 : k3.2.2.2.2.1 < 8 := o3.2.2.1
      have ot3 : k3.2.1 < 8 := o3.2.2.2
      refine ax_cV1 (pc := 78) (kb := 0) (nb := 0) G (kt_number hA (h := h) (m := m) (μ := (md_sa (md_sa μ 3 f) 5 (upd (upd g (127 + (10 * A) + 0) v1) (127 + (10 * A) + 1) v2))) hm (n := n) hend hn (b := b) hb k2 o2 (nI 0) (nI 359) e3 f3) lVX10_116_8 dX10_readAlert_78 md_obj rfl (by decide) (Nat.le_of_ble_eq_true rfl) rfl ?_
      show ax_W Ω Γ _ _ (md_H h m (md_sa (md_sa (mK μ k3) 3 f) 5 (upd (upd g (127 + (10 * A) + 0) v1) (127 + (10 * A) + 1) v2))) _ _ _
      refine md_st (pc := 81) (i := 127 + (10 * A) + 2) (j := 5) G 627 dX10_readAlert_81 hm (by decide) (by decide) rfl rfl rfl (by omega) (by decide) ?_
      show ax_W Ω Γ _ _ (md_H h m (md_sa (md_sa (md_sa (mK μ k3) 3 f) 5 (upd (upd g (127 + (10 * A) + 0) v1) (127 + (10 * A) + 1) v2)) 5 (upd (upd (upd g (127 + (10 * A) + 0) v1) (127 + (10 * A) + 1) v2) (127 + (10 * A) + 2) v3))) _ _ _
      rw [md_saa]
      show ax_W Ω Γ _ _ (md_H h m (md_sa (md_sa (mK μ k3) 3 f) 5 (upd (upd (upd g (127 + (10 * A) + 0) v1) (127 + (10 * A) + 1) v2) (127 + (10 * A) + 2) v3))) _ _ _
      refine ax_aload_n (pc := 82) G dX10_readAlert_82 rfl rfl ?_
      refine md_get (pc := 83) (v := .ref (m + 5)) G flX10_26_8 dX10_readAlert_83 rfl ?_
      refine ax_iload_n (pc := 86) G dX10_readAlert_86 rfl rfl ?_
      refine ax_iconst (pc := 87) (v := nI 3) G dX10_readAlert_87 ic_3 ?_
      refine ax_iaddN (pc := 88) G dX10_readAlert_88 ?_
      refine ax_aload_n (pc := 89) G dX10_readAlert_89 rfl rfl ?_
      obtain ⟨k4, v4, e4, f4⟩ : ∃ (a : pK) (c : Int32), a = (pLatK b n k3).1 ∧ c = (pLatK b n k3).2 := ⟨_, _, rfl, rfl⟩
      have o4 : pOK n k4 := by rw [e4]; exact pLatK_ok o3
      have oc4 : k4.2.2.2.2.1 < 8 := o4.2.2.1
      have ot4 : k4.2.1 < 8 := o4.2.2.2
      refine ax_cV1 (pc := 90) (kb := 0) (nb := 0) G (kt_latitude hA (h := h) (m := m) (μ := (md_sa (md_sa μ 3 f) 5 (upd (upd (upd g (127 + (10 * A) + 0) v1) (127 + (10 * A) + 1) v2) (127 + (10 * A) + 2) v3))) hm (n := n) hend hn (b := b) hb k3 o3 e4 f4) lVX10_154_8 dX10_readAlert_90 md_obj rfl (by decide) (Nat.le_of_ble_eq_true rfl) rfl ?_
      show ax_W Ω Γ _ _ (md_H h m (md_sa (md_sa (mK μ k4) 3 f) 5 (upd (upd (upd g (127 + (10 * A) + 0) v1) (127 + (10 * A) + 1) v2) (127 + (10 * A) + 2) v3))) _ _ _
      refine md_st (pc := 93) (i := 127 + (10 * A) + 3) (j := 5) G 627 dX10_readAlert_93 hm (by decide) (by decide) rfl rfl rfl (by omega) (by decide) ?_
      show ax_W Ω Γ _ _ (md_H h m (md_sa (md_sa (md_sa (mK μ k4) 3 f) 5 (upd (upd (upd g (127 + (10 * A) + 0) v1) (127 + (10 * A) + 1) v2) (127 + (10 * A) + 2) v3)) 5 (upd (upd (upd (upd g (127 + (10 * A) + 0) v1) (127 + (10 * A) + 1) v2) (127 + (10 * A) + 2) v3) (127 + (10 * A) + 3) v4))) _ _ _
      rw [md_saa]
      show ax_W Ω Γ _ _ (md_H h m (md_sa (md_sa (mK μ k4) 3 f) 5 (upd (upd (upd (upd g (127 + (10 * A) + 0) v1) (127 + (10 * A) + 1) v2) (127 + (10 * A) + 2) v3) (127 + (10 * A) + 3) v4))) _ _ _
      refine ax_aload_n (pc := 94) G dX10_readAlert_94 rfl rfl ?_
      refine md_get (pc := 95) (v := .ref (m + 5)) G flX10_26_8 dX10_readAlert_95 rfl ?_
      refine ax_iload_n (pc := 98) G dX10_readAlert_98 rfl rfl ?_
      refine ax_iconst (pc := 99) (v := nI 4) G dX10_readAlert_99 ic_4 ?_
      refine ax_iaddN (pc := 100) G dX10_readAlert_100 ?_
      refine ax_aload_n (pc := 101) G dX10_readAlert_101 rfl rfl ?_
      refine ax_iconst (pc := 102) (v := nI 1) G dX10_readAlert_102 ic_1 ?_
      refine ax_sipush (pc := 103) (v := nI 300) G dX10_readAlert_103 is_300 ?_
      obtain ⟨k5, v5, e5, f5⟩ : ∃ (a : pK) (c : Int32), a = (pNum b n k4 (nI 1) (nI 300)).1 ∧ c = (pNum b n k4 (nI 1) (nI 300)).2 := ⟨_, _, rfl, rfl⟩
      have o5 : pOK n k5 := by rw [e5]; exact pNum_ok o4
      have oc5 : k5.2.2.2.2.1 < 8 := o5.2.2.1
      have ot5 : k5.2.1 < 8 := o5.2.2.2
      refine ax_cV1 (pc := 106) (kb := 0) (nb := 0) G (kt_number hA (h := h) (m := m) (μ := (md_sa (md_sa μ 3 f) 5 (upd (upd (upd (upd g (127 + (10 * A) + 0) v1) (127 + (10 * A) + 1) v2) (127 + (10 * A) + 2) v3) (127 + (10 * A) + 3) v4))) hm (n := n) hend hn (b := b) hb k4 o4 (nI 1) (nI 300) e5 f5) lVX10_116_8 dX10_readAlert_106 md_obj rfl (by decide) (Nat.le_of_ble_eq_true rfl) rfl ?_
      show ax_W Ω Γ _ _ (md_H h m (md_sa (md_sa (mK μ k5) 3 f) 5 (upd (upd (upd (upd g (127 + (10 * A) + 0) v1) (127 + (10 * A) + 1) v2) (127 + (10 * A) + 2) v3) (127 + (10 * A) + 3) v4))) _ _ _
      refine md_st (pc := 109) (i := 127 + (10 * A) + 4) (j := 5) G 627 dX10_readAlert_109 hm (by decide) (by decide) rfl rfl rfl (by omega) (by decide) ?_
      show ax_W Ω Γ _ _ (md_H h m (md_sa (md_sa (md_sa (mK μ k5) 3 f) 5 (upd (upd (upd (upd g (127 + (10 * A) + 0) v1) (127 + (10 * A) + 1) v2) (127 + (10 * A) + 2) v3) (127 + (10 * A) + 3) v4)) 5 (upd (upd (upd (upd (upd g (127 + (10 * A) + 0) v1) (127 + (10 * A) + 1) v2) (127 + (10 * A) + 2) v3) (127 + (10 * A) + 3) v4) (127 + (10 * A) + 4) v5))) _ _ _
      rw [md_saa]
      show ax_W Ω Γ _ _ (md_H h m (md_sa (md_sa (mK μ k5) 3 f) 5 (upd (upd (upd (upd (upd g (127 + (10 * A) + 0) v1) (127 + (10 * A) + 1) v2) (127 + (10 * A) + 2) v3) (127 + (10 * A) + 3) v4) (127 + (10 * A) + 4) v5))) _ _ _
      refine ax_aload_n (pc := 110) G dX10_readAlert_110 rfl rfl ?_
      refine md_get (pc := 111) (v := .ref (m + 5)) G flX10_26_8 dX10_readAlert_111 rfl ?_
      refine ax_iload_n (pc := 114) G dX10_readAlert_114 rfl rfl ?_
      refine ax_iconst (pc := 115) (v := nI 5) G dX10_readAlert_115 ic_5 ?_
      refine ax_iaddN (pc := 116) G dX10_readAlert_116 ?_
      refine ax_aload_n (pc := 117) G dX10_readAlert_117 rfl rfl ?_
      refine ax_iconst (pc := 118) (v := nI 0) G dX10_readAlert_118 ic_0 ?_
      refine ax_bipush (pc := 119) (v := nI 99) G dX10_readAlert_119 ib_99 ?_
      obtain ⟨k6, v6, e6, f6⟩ : ∃ (a : pK) (c : Int32), a = (pNum b n k5 (nI 0) (nI 99)).1 ∧ c = (pNum b n k5 (nI 0) (nI 99)).2 := ⟨_, _, rfl, rfl⟩
      have o6 : pOK n k6 := by rw [e6]; exact pNum_ok o5
      have oc6 : k6.2.2.2.2.1 < 8 := o6.2.2.1
      have ot6 : k6.2.1 < 8 := o6.2.2.2
      refine ax_cV1 (pc := 121) (kb := 0) (nb := 0) G (kt_number hA (h := h) (m := m) (μ := (md_sa (md_sa μ 3 f) 5 (upd (upd (upd (upd (upd g (127 + (10 * A) + 0) v1) (127 + (10 * A) + 1) v2) (127 + (10 * A) + 2) v3) (127 + (10 * A) + 3) v4) (127 + (10 * A) + 4) v5))) hm (n := n) hend hn (b := b) hb k5 o5 (nI 0) (nI 99) e6 f6) lVX10_116_8 dX10_readAlert_121 md_obj rfl (by decide) (Nat.le_of_ble_eq_true rfl) rfl ?_
      show ax_W Ω Γ _ _ (md_H h m (md_sa (md_sa (mK μ k6) 3 f) 5 (upd (upd (upd (upd (upd g (127 + (10 * A) + 0) v1) (127 + (10 * A) + 1) v2) (127 + (10 * A) + 2) v3) (127 + (10 * A) + 3) v4) (127 + (10 * A) + 4) v5))) _ _ _
      refine md_st (pc := 124) (i := 127 + (10 * A) + 5) (j := 5) G 627 dX10_readAlert_124 hm (by decide) (by decide) rfl rfl rfl (by omega) (by decide) ?_
      show ax_W Ω Γ _ _ (md_H h m (md_sa (md_sa (md_sa (mK μ k6) 3 f) 5 (upd (upd (upd (upd (upd g (127 + (10 * A) + 0) v1) (127 + (10 * A) + 1) v2) (127 + (10 * A) + 2) v3) (127 + (10 * A) + 3) v4) (127 + (10 * A) + 4) v5)) 5 (upd (upd (upd (upd (upd (upd g (127 + (10 * A) + 0) v1) (127 + (10 * A) + 1) v2) (127 + (10 * A) + 2) v3) (127 + (10 * A) + 3) v4) (127 + (10 * A) + 4) v5) (127 + (10 * A) + 5) v6))) _ _ _
      rw [md_saa]
      show ax_W Ω Γ _ _ (md_H h m (md_sa (md_sa (mK μ k6) 3 f) 5 (upd (upd (upd (upd (upd (upd g (127 + (10 * A) + 0) v1) (127 + (10 * A) + 1) v2) (127 + (10 * A) + 2) v3) (127 + (10 * A) + 3) v4) (127 + (10 * A) + 4) v5) (127 + (10 * A) + 5) v6))) _ _ _
      refine ax_aload_n (pc := 125) G dX10_readAlert_125 rfl rfl ?_
      refine md_get (pc := 126) (v := .ref (m + 5)) G flX10_26_8 dX10_readAlert_126 rfl ?_
      refine ax_iload_n (pc := 129) G dX10_readAlert_129 rfl rfl ?_
      refine ax_bipush (pc := 130) (v := nI 6) G dX10_readAlert_130 ib_6 ?_
      refine ax_iaddN (pc := 132) G dX10_readAlert_132 ?_
      refine ax_aload_n (pc := 133) G dX10_readAlert_133 rfl rfl ?_
      refine ax_iconst (pc := 134) (v := nI 0) G dX10_readAlert_134 ic_0 ?_
      refine ax_sipush (pc := 135) (v := nI 999) G dX10_readAlert_135 is_999 ?_
      obtain ⟨k7, v7, e7, f7⟩ : ∃ (a : pK) (c : Int32), a = (pNum b n k6 (nI 0) (nI 999)).1 ∧ c = (pNum b n k6 (nI 0) (nI 999)).2 := ⟨_, _, rfl, rfl⟩
      have o7 : pOK n k7 := by rw [e7]; exact pNum_ok o6
      have oc7 : k7.2.2.2.2.1 < 8 := o7.2.2.1
      have ot7 : k7.2.1 < 8 := o7.2.2.2
      refine ax_cV1 (pc := 138) (kb := 0) (nb := 0) G (kt_number hA (h := h) (m := m) (μ := (md_sa (md_sa μ 3 f) 5 (upd (upd (upd (upd (upd (upd g (127 + (10 * A) + 0) v1) (127 + (10 * A) + 1) v2) (127 + (10 * A) + 2) v3) (127 + (10 * A) + 3) v4) (127 + (10 * A) + 4) v5) (127 + (10 * A) + 5) v6))) hm (n := n) hend hn (b := b) hb k6 o6 (nI 0) (nI 999) e7 f7) lVX10_116_8 dX10_readAlert_138 md_obj rfl (by decide) (Nat.le_of_ble_eq_true rfl) rfl ?_
      show ax_W Ω Γ _ _ (md_H h m (md_sa (md_sa (mK μ k7) 3 f) 5 (upd (upd (upd (upd (upd (upd g (127 + (10 * A) + 0) v1) (127 + (10 * A) + 1) v2) (127 + (10 * A) + 2) v3) (127 + (10 * A) + 3) v4) (127 + (10 * A) + 4) v5) (127 + (10 * A) + 5) v6))) _ _ _
      refine md_st (pc := 141) (i := 127 + (10 * A) + 6) (j := 5) G 627 dX10_readAlert_141 hm (by decide) (by decide) rfl rfl rfl (by omega) (by decide) ?_
      show ax_W Ω Γ _ _ (md_H h m (md_sa (md_sa (md_sa (mK μ k7) 3 f) 5 (upd (upd (upd (upd (upd (upd g (127 + (10 * A) + 0) v1) (127 + (10 * A) + 1) v2) (127 + (10 * A) + 2) v3) (127 + (10 * A) + 3) v4) (127 + (10 * A) + 4) v5) (127 + (10 * A) + 5) v6)) 5 (upd (upd (upd (upd (upd (upd (upd g (127 + (10 * A) + 0) v1) (127 + (10 * A) + 1) v2) (127 + (10 * A) + 2) v3) (127 + (10 * A) + 3) v4) (127 + (10 * A) + 4) v5) (127 + (10 * A) + 5) v6) (127 + (10 * A) + 6) v7))) _ _ _
      rw [md_saa]
      show ax_W Ω Γ _ _ (md_H h m (md_sa (md_sa (mK μ k7) 3 f) 5 (upd (upd (upd (upd (upd (upd (upd g (127 + (10 * A) + 0) v1) (127 + (10 * A) + 1) v2) (127 + (10 * A) + 2) v3) (127 + (10 * A) + 3) v4) (127 + (10 * A) + 4) v5) (127 + (10 * A) + 5) v6) (127 + (10 * A) + 6) v7))) _ _ _
      refine ax_aload_n (pc := 142) G dX10_readAlert_142 rfl rfl ?_
      refine md_get (pc := 143) (v := .ref (m + 5)) G flX10_26_8 dX10_readAlert_143 rfl ?_
      refine ax_iload_n (pc := 146) G dX10_readAlert_146 rfl rfl ?_
      refine ax_bipush (pc := 147) (v := nI 8) G dX10_readAlert_147 ib_8 ?_
      refine ax_iaddN (pc := 149) G dX10_readAlert_149 ?_
      refine ax_iconst (pc := 150) (v := (-1)) G dX10_readAlert_150 (by decide) ?_
      refine md_st (pc := 151) (i := 127 + (10 * A) + 8) (j := 5) G 627 dX10_readAlert_151 hm (by decide) (by decide) rfl rfl rfl (by omega) (by decide) ?_
      show ax_W Ω Γ _ _ (md_H h m (md_sa (md_sa (md_sa (mK μ k7) 3 f) 5 (upd (upd (upd (upd (upd (upd (upd g (127 + (10 * A) + 0) v1) (127 + (10 * A) + 1) v2) (127 + (10 * A) + 2) v3) (127 + (10 * A) + 3) v4) (127 + (10 * A) + 4) v5) (127 + (10 * A) + 5) v6) (127 + (10 * A) + 6) v7)) 5 (upd (upd (upd (upd (upd (upd (upd (upd g (127 + (10 * A) + 0) v1) (127 + (10 * A) + 1) v2) (127 + (10 * A) + 2) v3) (127 + (10 * A) + 3) v4) (127 + (10 * A) + 4) v5) (127 + (10 * A) + 5) v6) (127 + (10 * A) + 6) v7) (127 + (10 * A) + 8) (-1)))) _ _ _
      rw [md_saa]
      show ax_W Ω Γ _ _ (md_H h m (md_sa (md_sa (mK μ k7) 3 f) 5 (upd (upd (upd (upd (upd (upd (upd (upd g (127 + (10 * A) + 0) v1) (127 + (10 * A) + 1) v2) (127 + (10 * A) + 2) v3) (127 + (10 * A) + 3) v4) (127 + (10 * A) + 4) v5) (127 + (10 * A) + 5) v6) (127 + (10 * A) + 6) v7) (127 + (10 * A) + 8) (-1)))) _ _ _
      refine ax_aload_n (pc := 152) G dX10_readAlert_152 rfl rfl ?_
      refine md_get (pc := 153) (v := .ref (m + 5)) G flX10_26_8 dX10_readAlert_153 rfl ?_
      refine ax_bipush (pc := 156) (v := nI 14) G dX10_readAlert_156 ib_14 ?_
      refine ax_dup2_11 (pc := 158) G dX10_readAlert_158 rfl rfl ?_
      refine md_ld (pc := 159) (i := 14) (j := 5) G 627 dX10_readAlert_159 (by decide) (by decide) rfl rfl rfl (by omega) (by decide) ?_
      refine ax_iconst (pc := 160) (v := nI 1) G dX10_readAlert_160 ic_1 ?_
      refine ax_iadd (pc := 161) G dX10_readAlert_161 ?_
      refine md_st (pc := 162) (i := 14) (j := 5) G 627 dX10_readAlert_162 hm (by decide) (by decide) rfl rfl rfl (by omega) (by decide) ?_
      show ax_W Ω Γ _ _ (md_H h m (md_sa (md_sa (md_sa (mK μ k7) 3 f) 5 (upd (upd (upd (upd (upd (upd (upd (upd g (127 + (10 * A) + 0) v1) (127 + (10 * A) + 1) v2) (127 + (10 * A) + 2) v3) (127 + (10 * A) + 3) v4) (127 + (10 * A) + 4) v5) (127 + (10 * A) + 5) v6) (127 + (10 * A) + 6) v7) (127 + (10 * A) + 8) (-1))) 5 (pAdd (upd (upd (upd (upd (upd (upd (upd (upd g (127 + (10 * A) + 0) v1) (127 + (10 * A) + 1) v2) (127 + (10 * A) + 2) v3) (127 + (10 * A) + 3) v4) (127 + (10 * A) + 4) v5) (127 + (10 * A) + 5) v6) (127 + (10 * A) + 6) v7) (127 + (10 * A) + 8) (-1)) 14 (nI 1)))) _ _ _
      rw [md_saa]
      show ax_W Ω Γ _ _ (md_H h m (md_sa (md_sa (mK μ k7) 3 f) 5 (pAdd (upd (upd (upd (upd (upd (upd (upd (upd g (127 + (10 * A) + 0) v1) (127 + (10 * A) + 1) v2) (127 + (10 * A) + 2) v3) (127 + (10 * A) + 3) v4) (127 + (10 * A) + 4) v5) (127 + (10 * A) + 5) v6) (127 + (10 * A) + 6) v7) (127 + (10 * A) + 8) (-1)) 14 (nI 1)))) _ _ _
      exact ax_vretE (pc := 163) G E rfl dX10_readAlert_163 (by rw [rAlert, ← hkb, if_pos c26b]; rw [rPr_e e1 f1, rN_e e2 f2, rN_e e3 f3, rL_e e4 f4, rN_e e5 f5, rN_e e6 f6, rN_e e7 f7]; rfl)
    · replace c26 : ¬ (nI kb.2.2.2.2.1) ≤ 0 := c26
      have c26b : ¬ kb.2.2.2.2.1 = 0 := nz_nle c26
      exact ax_vretE (pc := 29) G E rfl dX10_readAlert_29 (by rw [rAlert, ← hkb, if_neg c26b]; rfl)
  show ax_W Ω Γ 0 0 (md_H h m (md_sa (md_sa (mK μ κ) 3 f) 5 g)) 0 [some (.ref m), none, none] []
  refine ax_aload_n (pc := 0) G dX10_readAlert_0 rfl rfl ?_
  refine md_get (pc := 1) (v := .ref (m + 5)) G flX10_26_8 dX10_readAlert_1 rfl ?_
  refine ax_bipush (pc := 4) (v := nI 14) G dX10_readAlert_4 ib_14 ?_
  refine md_ld (pc := 6) (i := 14) (j := 5) G 627 dX10_readAlert_6 (by decide) (by decide) rfl rfl rfl (by omega) (by decide) ?_
  refine ax_top (show Value.int (g 14) = .int (nI A) from congrArg Value.int (hC.1.2.2.2)) ?_
  refine ax_istore_n (pc := 7) G dX10_readAlert_7 rfl (Nat.le_of_ble_eq_true rfl) rfl ?_
  refine ax_iload_n (pc := 8) G dX10_readAlert_8 rfl rfl ?_
  refine ax_iconst (pc := 9) (v := nI 5) G dX10_readAlert_9 ic_5 ?_
  refine ax_icmp_neN (pc := 10) (tgt := 18) G dX10_readAlert_10 rfl (by omega) (by omega) (fun c10 => ?_) (fun c10 => ?_)
  · refine ax_aload_n (pc := 18) G dX10_readAlert_18 rfl rfl ?_
    obtain ⟨k51, e51⟩ : ∃ a : pK, a = pNx b n κ := ⟨_, rfl⟩
    have o51 : pOK n k51 := by rw [e51]; exact pNx_ok hκ
    have oc51 : k51.2.2.2.2.1 < 8 := o51.2.2.1
    have ot51 : k51.2.1 < 8 := o51.2.2.2
    refine ax_cV0 (pc := 19) (kb := 0) (nb := 0) G (kt_nextToken hA (h := h) (m := m) (μ := (md_sa (md_sa μ 3 f) 5 g)) hm (n := n) hend hn (b := b) hb κ hκ e51) lVX10_99_8 dX10_readAlert_19 md_obj rfl (by decide) (Nat.le_of_ble_eq_true rfl) rfl ?_
    show ax_W Ω Γ _ _ (md_H h m (md_sa (md_sa (mK μ k51) 3 f) 5 g)) _ _ _
    exact KB k51 (by rw [e51, hkb, rBeg, if_neg c10])
  · refine ax_aload_n (pc := 13) G dX10_readAlert_13 rfl rfl ?_
    refine ax_iconst (pc := 14) (v := nI 4) G dX10_readAlert_14 ic_4 ?_
    obtain ⟨k52, e52⟩ : ∃ a : pK, a = pFl κ 4 := ⟨_, rfl⟩
    have o52 : pOK n k52 := by rw [e52]; exact pFl_ok hκ (by decide)
    have oc52 : k52.2.2.2.2.1 < 8 := o52.2.2.1
    have ot52 : k52.2.1 < 8 := o52.2.2.2
    refine ax_cV0 (pc := 15) (kb := 0) (nb := 0) G (kt_faults hA (h := h) (m := m) (μ := (md_sa (md_sa μ 3 f) 5 g)) hm (n := n) hend hn (b := b) hb κ hκ 4 e52) lVX10_105_8 dX10_readAlert_15 md_obj rfl (by decide) (Nat.le_of_ble_eq_true rfl) rfl ?_
    show ax_W Ω Γ _ _ (md_H h m (md_sa (md_sa (mK μ k52) 3 f) 5 g)) _ _ _
    refine ax_aload_n (pc := 18) G dX10_readAlert_18 rfl rfl ?_
    obtain ⟨k53, e53⟩ : ∃ a : pK, a = pNx b n k52 := ⟨_, rfl⟩
    have o53 : pOK n k53 := by rw [e53]; exact pNx_ok o52
    have oc53 : k53.2.2.2.2.1 < 8 := o53.2.2.1
    have ot53 : k53.2.1 < 8 := o53.2.2.2
    refine ax_cV0 (pc := 19) (kb := 0) (nb := 0) G (kt_nextToken hA (h := h) (m := m) (μ := (md_sa (md_sa μ 3 f) 5 g)) hm (n := n) hend hn (b := b) hb k52 o52 e53) lVX10_99_8 dX10_readAlert_19 md_obj rfl (by decide) (Nat.le_of_ble_eq_true rfl) rfl ?_
    show ax_W Ω Γ _ _ (md_H h m (md_sa (md_sa (mK μ k53) 3 f) 5 g)) _ _ _
    exact KB k53 (by rw [e53, e52, hkb, rBeg, if_pos c10])

theorem mt_readProposal {Ω : ax_O} (hA : ax_Amb Ω) {h : ax_H} {m : Nat} {μ : md_S} (hm : Ω.2.1.heap.size ≤ m) {n : Nat} (hend : μ.1 3 = nI n) (hn : n ≤ 1000) {b : pR} (hb : μ.2 1 = b) (κ : pK) (hκ : pOK n κ) {f g : pR} {P V A O : Nat} (hC : rC f g P V A O)  : ax_Met Ω yX10_readProposal 5 0 0 [.ref m] (md_H h m (md_sa (md_sa (mK μ κ) 3 f) 5 g)) (.inl none) (md_H h m (mP μ (rProposal b n κ f g P))) := by
  refine ax_met q2739 q142 (by decide +kernel) (by decide) hA (Nat.le_of_ble_eq_true rfl) (fun Γ G E => ?_)
  have hc8 : κ.2.2.2.2.1 < 8 := hκ.2.2.1
  have ht8 : κ.2.1 < 8 := hκ.2.2.2
  have hst := hκ.2.1
  have hnx := hκ.1
  obtain ⟨kb, hkb⟩ : ∃ a, a = rBeg b n κ P 6 := ⟨_, rfl⟩
  have okb : pOK n kb := by rw [hkb]; exact rBeg_ok hκ
  have okc : kb.2.2.2.2.1 < 8 := okb.2.2.1
  have okt : kb.2.1 < 8 := okb.2.2.2
  have okn : kb.1 ≤ n := okb.1
  have oks : kb.2.2.1 ≤ kb.1 := okb.2.1
  have hlt : kb.2.2.2.2.1 = 0 → P ≠ 6 := by rw [hkb]; exact rBeg_lt
  have w8 : kb.2.2.2.2.1 = 0 → kb.2.1 = 2 → rLn kb ≤ 8 := by rw [hkb]; exact rBeg_w
  have hP6 : P ≤ 6 := hC.2.1
  have hV20 : V ≤ 20 := hC.2.2.1
  have hA5 : A ≤ 5 := hC.2.2.2.1
  have hO4 : O ≤ 4 := hC.2.2.2.2
  have hP : f 10 = nI P := hC.1.1
  have KB : ∀ kx : pK, kx = kb → ax_W Ω Γ 0 0 (md_H h m (md_sa (md_sa (mK μ kx) 3 f) 5 g)) 23 [some (.ref m), some (.int (nI P)), none] [] := by
    intro kx hx9
    rw [hx9]
    clear hx9 kx
    refine ax_aload_n (pc := 23) G dX10_readProposal_23 rfl rfl ?_
    refine md_get (pc := 24) (v := .int (nI kb.2.2.2.2.1)) G flX10_55_8 dX10_readProposal_24 rfl ?_
    refine ax_if_le (pc := 27) (tgt := 31) G dX10_readProposal_27 rfl (fun c27 => ?_) (fun c27 => ?_)
    · replace c27 : (nI kb.2.2.2.2.1) ≤ 0 := c27
      have c27b : kb.2.2.2.2.1 = 0 := nz_le c27 (by omega)
      have hlt9 := hlt c27b
      have hob : ∀ k, rNm b kb.2.2.1 (rLn kb) f P 0 = some k → k < 2 ^ 31 := fun k hk => by have := rNm_l hk; omega
      refine ax_aload_n (pc := 31) G dX10_readProposal_31 rfl rfl ?_
      refine md_get (pc := 32) (v := .int (nI kb.2.1)) G flX10_71_8 dX10_readProposal_32 rfl ?_
      refine ax_iconst (pc := 35) (v := nI 2) G dX10_readProposal_35 ic_2 ?_
      refine ax_icmp_eqN (pc := 36) (tgt := 47) G dX10_readProposal_36 rfl (by omega) (by omega) (fun c36 => ?_) (fun c36 => ?_)
      · refine ax_aload_n (pc := 47) G dX10_readProposal_47 rfl rfl ?_
        refine ax_cV1 (pc := 48) (kb := 0) (nb := 0) G (kt_named hA (h := h) (m := m) (μ := (md_sa (md_sa μ 3 f) 5 g)) hm (n := n) hend hn (b := b) hb kb okb (f := f) rfl (w8 c27b c36) P hP (by omega)) lVX10_145_8 dX10_readProposal_48 md_obj rfl (by decide) (Nat.le_of_ble_eq_true rfl) rfl ?_
        refine ax_iconst (pc := 51) (v := (-1)) G dX10_readProposal_51 (by decide) ?_
        refine ax_icmp_eq (pc := 52) (tgt := 60) G dX10_readProposal_52 rfl (fun c52 => ?_) (fun c52 => ?_)
        · replace c52 : (oI (rNm b kb.2.2.1 (rLn kb) f P 0)) = (-1) := c52
          refine ax_aload_n (pc := 60) G dX10_readProposal_60 rfl rfl ?_
          refine md_get (pc := 61) (v := .int (nI kb.2.2.2.2.1)) G flX10_55_8 dX10_readProposal_61 rfl ?_
          refine ax_if_le (pc := 64) (tgt := 68) G dX10_readProposal_64 rfl (fun _ => ?_) (fun c9 => absurd (by rw [c27b]; decide) c9)
          have w89 : kb.1 - kb.2.2.1 ≤ 8 := w8 c27b c36
          refine ax_aload_n (pc := 68) G dX10_readProposal_68 rfl rfl ?_
          refine md_get (pc := 69) (v := .ref (m + 3)) G flX10_20_8 dX10_readProposal_69 rfl ?_
          refine ax_bipush (pc := 72) (v := nI 11) G dX10_readProposal_72 ib_11 ?_
          refine ax_iload_n (pc := 74) G dX10_readProposal_74 rfl rfl ?_
          refine ax_iaddN (pc := 75) G dX10_readProposal_75 ?_
          refine ax_aload_n (pc := 76) G dX10_readProposal_76 rfl rfl ?_
          refine md_get (pc := 77) (v := .int (nI kb.1)) G flX10_64_8 dX10_readProposal_77 rfl ?_
          refine ax_aload_n (pc := 80) G dX10_readProposal_80 rfl rfl ?_
          refine md_get (pc := 81) (v := .int (nI kb.2.2.1)) G flX10_61_8 dX10_readProposal_81 rfl ?_
          refine ax_isubN (pc := 84) G dX10_readProposal_84 (by omega) ?_
          refine md_st (pc := 85) (i := 11 + P) (j := 3) G 235 dX10_readProposal_85 hm (by decide) (by decide) rfl rfl rfl (by omega) (by decide) ?_
          show ax_W Ω Γ _ _ (md_H h m (md_sa (md_sa (md_sa (mK μ kb) 3 f) 5 g) 3 (upd f (11 + P) (nI (kb.1 - kb.2.2.1))))) _ _ _
          rw [md_sac _ 3 5 _ _ (by decide)]
          rw [md_saa]
          show ax_W Ω Γ _ _ (md_H h m (md_sa (md_sa (mK μ kb) 5 g) 3 (upd f (11 + P) (nI (kb.1 - kb.2.2.1))))) _ _ _
          refine ax_iconst (pc := 86) (v := nI 0) G dX10_readProposal_86 ic_0 ?_
          refine ax_istore_n (pc := 87) G dX10_readProposal_87 rfl (Nat.le_of_ble_eq_true rfl) rfl ?_
          have LI : ∀ (q i : Nat), i + q = (kb.1 - kb.2.2.1) → ax_W Ω Γ 0 0 (md_H h m (md_sa (md_sa (mK μ kb) 5 g) 3 (pPut (upd f (11 + P) (nI (kb.1 - kb.2.2.1))) (fun i => b (kb.2.2.1 + i)) (17 + 8 * P) i))) 88 [some (.ref m), some (.int (nI P)), some (.int (nI i))] [] := by
            intro q
            induction q with
            | zero =>
              intro i hi
              have hi9 : i = (kb.1 - kb.2.2.1) := by omega
              rw [hi9]
              clear hi9 hi
              refine ax_iload_n (pc := 88) G dX10_readProposal_88 rfl rfl ?_
              refine ax_aload_n (pc := 89) G dX10_readProposal_89 rfl rfl ?_
              refine md_get (pc := 90) (v := .int (nI kb.1)) G flX10_64_8 dX10_readProposal_90 rfl ?_
              refine ax_aload_n (pc := 93) G dX10_readProposal_93 rfl rfl ?_
              refine md_get (pc := 94) (v := .int (nI kb.2.2.1)) G flX10_61_8 dX10_readProposal_94 rfl ?_
              refine ax_isubN (pc := 97) G dX10_readProposal_97 (by omega) ?_
              refine ax_icmp_geN (pc := 98) (tgt := 132) G dX10_readProposal_98 rfl (by omega) (by omega) (fun c98 => ?_) (fun c98 => ?_)
              · refine ax_aload_n (pc := 132) G dX10_readProposal_132 rfl rfl ?_
                obtain ⟨k1, e1⟩ : ∃ a : pK, a = pNx b n kb := ⟨_, rfl⟩
                have o1 : pOK n k1 := by rw [e1]; exact pNx_ok okb
                have oc1 : k1.2.2.2.2.1 < 8 := o1.2.2.1
                have ot1 : k1.2.1 < 8 := o1.2.2.2
                refine ax_cV0 (pc := 133) (kb := 0) (nb := 0) G (kt_nextToken hA (h := h) (m := m) (μ := (md_sa (md_sa μ 5 g) 3 (pPut (upd f (11 + P) (nI (kb.1 - kb.2.2.1))) (fun i => b (kb.2.2.1 + i)) (17 + 8 * P) (kb.1 - kb.2.2.1)))) hm (n := n) hend hn (b := b) hb kb okb e1) lVX10_99_8 dX10_readProposal_133 md_obj rfl (by decide) (Nat.le_of_ble_eq_true rfl) rfl ?_
                show ax_W Ω Γ _ _ (md_H h m (md_sa (md_sa (mK μ k1) 5 g) 3 (pPut (upd f (11 + P) (nI (kb.1 - kb.2.2.1))) (fun i => b (kb.2.2.1 + i)) (17 + 8 * P) (kb.1 - kb.2.2.1)))) _ _ _
                refine ax_aload_n (pc := 136) G dX10_readProposal_136 rfl rfl ?_
                refine md_get (pc := 137) (v := .ref (m + 5)) G flX10_26_8 dX10_readProposal_137 rfl ?_
                refine ax_bipush (pc := 140) (v := nI 17) G dX10_readProposal_140 ib_17 ?_
                refine ax_iload_n (pc := 142) G dX10_readProposal_142 rfl rfl ?_
                refine ax_iaddN (pc := 143) G dX10_readProposal_143 ?_
                refine ax_aload_n (pc := 144) G dX10_readProposal_144 rfl rfl ?_
                refine ax_iconst (pc := 145) (v := nI 0) G dX10_readProposal_145 ic_0 ?_
                refine ax_sipush (pc := 146) (v := nI 9999) G dX10_readProposal_146 is_9999 ?_
                obtain ⟨k2, v2, e2, f2⟩ : ∃ (a : pK) (c : Int32), a = (pNum b n k1 (nI 0) (nI 9999)).1 ∧ c = (pNum b n k1 (nI 0) (nI 9999)).2 := ⟨_, _, rfl, rfl⟩
                have o2 : pOK n k2 := by rw [e2]; exact pNum_ok o1
                have oc2 : k2.2.2.2.2.1 < 8 := o2.2.2.1
                have ot2 : k2.2.1 < 8 := o2.2.2.2
                refine ax_cV1 (pc := 149) (kb := 0) (nb := 0) G (kt_number hA (h := h) (m := m) (μ := (md_sa (md_sa μ 5 g) 3 (pPut (upd f (11 + P) (nI (kb.1 - kb.2.2.1))) (fun i => b (kb.2.2.1 + i)) (17 + 8 * P) (kb.1 - kb.2.2.1)))) hm (n := n) hend hn (b := b) hb k1 o1 (nI 0) (nI 9999) e2 f2) lVX10_116_8 dX10_readProposal_149 md_obj rfl (by decide) (Nat.le_of_ble_eq_true rfl) rfl ?_
                show ax_W Ω Γ _ _ (md_H h m (md_sa (md_sa (mK μ k2) 5 g) 3 (pPut (upd f (11 + P) (nI (kb.1 - kb.2.2.1))) (fun i => b (kb.2.2.1 + i)) (17 + 8 * P) (kb.1 - kb.2.2.1)))) _ _ _
                refine md_st (pc := 152) (i := 17 + P) (j := 5) G 627 dX10_readProposal_152 hm (by decide) (by decide) rfl rfl rfl (by omega) (by decide) ?_
                show ax_W Ω Γ _ _ (md_H h m (md_sa (md_sa (md_sa (mK μ k2) 5 g) 3 (pPut (upd f (11 + P) (nI (kb.1 - kb.2.2.1))) (fun i => b (kb.2.2.1 + i)) (17 + 8 * P) (kb.1 - kb.2.2.1))) 5 (upd g (17 + P) v2))) _ _ _
                rw [md_sac _ 5 3 _ _ (by decide)]
                rw [md_saa]
                show ax_W Ω Γ _ _ (md_H h m (md_sa (md_sa (mK μ k2) 3 (pPut (upd f (11 + P) (nI (kb.1 - kb.2.2.1))) (fun i => b (kb.2.2.1 + i)) (17 + 8 * P) (kb.1 - kb.2.2.1))) 5 (upd g (17 + P) v2))) _ _ _
                refine ax_aload_n (pc := 153) G dX10_readProposal_153 rfl rfl ?_
                refine md_get (pc := 154) (v := .ref (m + 3)) G flX10_20_8 dX10_readProposal_154 rfl ?_
                refine ax_bipush (pc := 157) (v := nI 10) G dX10_readProposal_157 ib_10 ?_
                refine ax_dup2_11 (pc := 159) G dX10_readProposal_159 rfl rfl ?_
                refine md_ld (pc := 160) (i := 10) (j := 3) G 235 dX10_readProposal_160 (by decide) (by decide) rfl rfl rfl (by omega) (by decide) ?_
                refine ax_iconst (pc := 161) (v := nI 1) G dX10_readProposal_161 ic_1 ?_
                refine ax_iadd (pc := 162) G dX10_readProposal_162 ?_
                refine md_st (pc := 163) (i := 10) (j := 3) G 235 dX10_readProposal_163 hm (by decide) (by decide) rfl rfl rfl (by omega) (by decide) ?_
                show ax_W Ω Γ _ _ (md_H h m (md_sa (md_sa (md_sa (mK μ k2) 3 (pPut (upd f (11 + P) (nI (kb.1 - kb.2.2.1))) (fun i => b (kb.2.2.1 + i)) (17 + 8 * P) (kb.1 - kb.2.2.1))) 5 (upd g (17 + P) v2)) 3 (pAdd (pPut (upd f (11 + P) (nI (kb.1 - kb.2.2.1))) (fun i => b (kb.2.2.1 + i)) (17 + 8 * P) (kb.1 - kb.2.2.1)) 10 (nI 1)))) _ _ _
                rw [md_sac _ 3 5 _ _ (by decide)]
                rw [md_saa]
                show ax_W Ω Γ _ _ (md_H h m (md_sa (md_sa (mK μ k2) 5 (upd g (17 + P) v2)) 3 (pAdd (pPut (upd f (11 + P) (nI (kb.1 - kb.2.2.1))) (fun i => b (kb.2.2.1 + i)) (17 + 8 * P) (kb.1 - kb.2.2.1)) 10 (nI 1)))) _ _ _
                exact ax_vretE (pc := 164) G E rfl dX10_readProposal_164 (by rw [rProposal, ← hkb, if_pos c27b, if_pos c36, if_pos ((oI_m hob).mp c52)]; rw [md_sac _ 5 3 _ _ (by decide)]; rw [← e1, rN_e e2 f2]; rfl)
              · omega
            | succ q ih2 =>
              intro i hi
              refine ax_iload_n (pc := 88) G dX10_readProposal_88 rfl rfl ?_
              refine ax_aload_n (pc := 89) G dX10_readProposal_89 rfl rfl ?_
              refine md_get (pc := 90) (v := .int (nI kb.1)) G flX10_64_8 dX10_readProposal_90 rfl ?_
              refine ax_aload_n (pc := 93) G dX10_readProposal_93 rfl rfl ?_
              refine md_get (pc := 94) (v := .int (nI kb.2.2.1)) G flX10_61_8 dX10_readProposal_94 rfl ?_
              refine ax_isubN (pc := 97) G dX10_readProposal_97 (by omega) ?_
              refine ax_icmp_geN (pc := 98) (tgt := 132) G dX10_readProposal_98 rfl (by omega) (by omega) (fun c98 => ?_) (fun c98 => ?_)
              · omega
              · refine ax_aload_n (pc := 101) G dX10_readProposal_101 rfl rfl ?_
                refine md_get (pc := 102) (v := .ref (m + 3)) G flX10_20_8 dX10_readProposal_102 rfl ?_
                refine ax_bipush (pc := 105) (v := nI 17) G dX10_readProposal_105 ib_17 ?_
                refine ax_bipush (pc := 107) (v := nI 8) G dX10_readProposal_107 ib_8 ?_
                refine ax_iload_n (pc := 109) G dX10_readProposal_109 rfl rfl ?_
                refine ax_imulN (pc := 110) G dX10_readProposal_110 ?_
                refine ax_iaddN (pc := 111) G dX10_readProposal_111 ?_
                refine ax_iload_n (pc := 112) G dX10_readProposal_112 rfl rfl ?_
                refine ax_iaddN (pc := 113) G dX10_readProposal_113 ?_
                refine ax_aload_n (pc := 114) G dX10_readProposal_114 rfl rfl ?_
                refine md_get (pc := 115) (v := .ref (m + 1)) G flX10_9_8 dX10_readProposal_115 rfl ?_
                refine ax_aload_n (pc := 118) G dX10_readProposal_118 rfl rfl ?_
                refine md_get (pc := 119) (v := .int (nI kb.2.2.1)) G flX10_61_8 dX10_readProposal_119 rfl ?_
                refine ax_iload_n (pc := 122) G dX10_readProposal_122 rfl rfl ?_
                refine ax_iaddN (pc := 123) G dX10_readProposal_123 ?_
                refine md_ld (pc := 124) (i := kb.2.2.1 + i) (j := 1) G 1000 dX10_readProposal_124 (by decide) (by decide) rfl rfl rfl (by omega) (by decide) ?_
                refine ax_top (show Value.int ((μ.2 1) (kb.2.2.1 + i)) = .int (b (kb.2.2.1 + i)) from congrArg Value.int (congrFun hb _)) ?_
                refine md_st (pc := 125) (i := 17 + (8 * P) + i) (j := 3) G 235 dX10_readProposal_125 hm (by decide) (by decide) rfl rfl rfl (by omega) (by decide) ?_
                show ax_W Ω Γ _ _ (md_H h m (md_sa (md_sa (md_sa (mK μ kb) 5 g) 3 (pPut (upd f (11 + P) (nI (kb.1 - kb.2.2.1))) (fun i => b (kb.2.2.1 + i)) (17 + 8 * P) i)) 3 (upd (pPut (upd f (11 + P) (nI (kb.1 - kb.2.2.1))) (fun i => b (kb.2.2.1 + i)) (17 + 8 * P) i) (17 + (8 * P) + i) (b (kb.2.2.1 + i))))) _ _ _
                rw [md_saa]
                show ax_W Ω Γ _ _ (md_H h m (md_sa (md_sa (mK μ kb) 5 g) 3 (upd (pPut (upd f (11 + P) (nI (kb.1 - kb.2.2.1))) (fun i => b (kb.2.2.1 + i)) (17 + 8 * P) i) (17 + (8 * P) + i) (b (kb.2.2.1 + i))))) _ _ _
                refine ax_iincN (pc := 126) (n := 1) G dX10_readProposal_126 rfl rfl ic_1 ?_
                refine ax_goto (pc := 129) (tgt := 88) G dX10_readProposal_129 rfl ?_
                have eX := pPut_s (upd f (11 + P) (nI (kb.1 - kb.2.2.1))) (fun i => b (kb.2.2.1 + i)) (17 + 8 * P) i
                have q9 := ih2 (i + 1) (by omega)
                rw [← eX] at q9
                exact q9
          have q8 := LI (kb.1 - kb.2.2.1) 0 (by omega)
          rw [pPut_0] at q8
          exact q8
        · replace c52 : ¬ (oI (rNm b kb.2.2.1 (rLn kb) f P 0)) = (-1) := c52
          refine ax_aload_n (pc := 55) G dX10_readProposal_55 rfl rfl ?_
          refine ax_iconst (pc := 56) (v := nI 3) G dX10_readProposal_56 ic_3 ?_
          obtain ⟨k3, e3⟩ : ∃ a : pK, a = pFl kb 3 := ⟨_, rfl⟩
          have o3 : pOK n k3 := by rw [e3]; exact pFl_ok okb (by decide)
          have oc3 : k3.2.2.2.2.1 < 8 := o3.2.2.1
          have ot3 : k3.2.1 < 8 := o3.2.2.2
          refine ax_cV0 (pc := 57) (kb := 0) (nb := 0) G (kt_faults hA (h := h) (m := m) (μ := (md_sa (md_sa μ 3 f) 5 g)) hm (n := n) hend hn (b := b) hb kb okb 3 e3) lVX10_105_8 dX10_readProposal_57 md_obj rfl (by decide) (Nat.le_of_ble_eq_true rfl) rfl ?_
          show ax_W Ω Γ _ _ (md_H h m (md_sa (md_sa (mK μ k3) 3 f) 5 g)) _ _ _
          refine ax_aload_n (pc := 60) G dX10_readProposal_60 rfl rfl ?_
          refine md_get (pc := 61) (v := .int (nI k3.2.2.2.2.1)) G flX10_55_8 dX10_readProposal_61 rfl ?_
          refine ax_if_le (pc := 64) (tgt := 68) G dX10_readProposal_64 rfl (fun c9 => absurd c9 (by rw [e3, pFl_c c27b]; decide)) (fun _ => ?_)
          exact ax_vretE (pc := 67) G E rfl dX10_readProposal_67 (by rw [rProposal, ← hkb, if_pos c27b, if_pos c36, if_neg (fun z => absurd ((oI_m hob).mpr z) c52), e3]; rfl)
      · refine ax_aload_n (pc := 39) G dX10_readProposal_39 rfl rfl ?_
        refine ax_iconst (pc := 40) (v := nI 1) G dX10_readProposal_40 ic_1 ?_
        obtain ⟨k4, e4⟩ : ∃ a : pK, a = pFl kb 1 := ⟨_, rfl⟩
        have o4 : pOK n k4 := by rw [e4]; exact pFl_ok okb (by decide)
        have oc4 : k4.2.2.2.2.1 < 8 := o4.2.2.1
        have ot4 : k4.2.1 < 8 := o4.2.2.2
        refine ax_cV0 (pc := 41) (kb := 0) (nb := 0) G (kt_faults hA (h := h) (m := m) (μ := (md_sa (md_sa μ 3 f) 5 g)) hm (n := n) hend hn (b := b) hb kb okb 1 e4) lVX10_105_8 dX10_readProposal_41 md_obj rfl (by decide) (Nat.le_of_ble_eq_true rfl) rfl ?_
        show ax_W Ω Γ _ _ (md_H h m (md_sa (md_sa (mK μ k4) 3 f) 5 g)) _ _ _
        refine ax_goto (pc := 44) (tgt := 60) G dX10_readProposal_44 rfl ?_
        refine ax_aload_n (pc := 60) G dX10_readProposal_60 rfl rfl ?_
        refine md_get (pc := 61) (v := .int (nI k4.2.2.2.2.1)) G flX10_55_8 dX10_readProposal_61 rfl ?_
        refine ax_if_le (pc := 64) (tgt := 68) G dX10_readProposal_64 rfl (fun c9 => absurd c9 (by rw [e4, pFl_c c27b]; decide)) (fun _ => ?_)
        exact ax_vretE (pc := 67) G E rfl dX10_readProposal_67 (by rw [rProposal, ← hkb, if_pos c27b, if_neg c36, e4]; rfl)
    · replace c27 : ¬ (nI kb.2.2.2.2.1) ≤ 0 := c27
      have c27b : ¬ kb.2.2.2.2.1 = 0 := nz_nle c27
      exact ax_vretE (pc := 30) G E rfl dX10_readProposal_30 (by rw [rProposal, ← hkb, if_neg c27b]; rfl)
  show ax_W Ω Γ 0 0 (md_H h m (md_sa (md_sa (mK μ κ) 3 f) 5 g)) 0 [some (.ref m), none, none] []
  refine ax_aload_n (pc := 0) G dX10_readProposal_0 rfl rfl ?_
  refine md_get (pc := 1) (v := .ref (m + 3)) G flX10_20_8 dX10_readProposal_1 rfl ?_
  refine ax_bipush (pc := 4) (v := nI 10) G dX10_readProposal_4 ib_10 ?_
  refine md_ld (pc := 6) (i := 10) (j := 3) G 235 dX10_readProposal_6 (by decide) (by decide) rfl rfl rfl (by omega) (by decide) ?_
  refine ax_top (show Value.int (f 10) = .int (nI P) from congrArg Value.int (hC.1.1)) ?_
  refine ax_istore_n (pc := 7) G dX10_readProposal_7 rfl (Nat.le_of_ble_eq_true rfl) rfl ?_
  refine ax_iload_n (pc := 8) G dX10_readProposal_8 rfl rfl ?_
  refine ax_bipush (pc := 9) (v := nI 6) G dX10_readProposal_9 ib_6 ?_
  refine ax_icmp_neN (pc := 11) (tgt := 19) G dX10_readProposal_11 rfl (by omega) (by omega) (fun c11 => ?_) (fun c11 => ?_)
  · refine ax_aload_n (pc := 19) G dX10_readProposal_19 rfl rfl ?_
    obtain ⟨k51, e51⟩ : ∃ a : pK, a = pNx b n κ := ⟨_, rfl⟩
    have o51 : pOK n k51 := by rw [e51]; exact pNx_ok hκ
    have oc51 : k51.2.2.2.2.1 < 8 := o51.2.2.1
    have ot51 : k51.2.1 < 8 := o51.2.2.2
    refine ax_cV0 (pc := 20) (kb := 0) (nb := 0) G (kt_nextToken hA (h := h) (m := m) (μ := (md_sa (md_sa μ 3 f) 5 g)) hm (n := n) hend hn (b := b) hb κ hκ e51) lVX10_99_8 dX10_readProposal_20 md_obj rfl (by decide) (Nat.le_of_ble_eq_true rfl) rfl ?_
    show ax_W Ω Γ _ _ (md_H h m (md_sa (md_sa (mK μ k51) 3 f) 5 g)) _ _ _
    exact KB k51 (by rw [e51, hkb, rBeg, if_neg c11])
  · refine ax_aload_n (pc := 14) G dX10_readProposal_14 rfl rfl ?_
    refine ax_iconst (pc := 15) (v := nI 4) G dX10_readProposal_15 ic_4 ?_
    obtain ⟨k52, e52⟩ : ∃ a : pK, a = pFl κ 4 := ⟨_, rfl⟩
    have o52 : pOK n k52 := by rw [e52]; exact pFl_ok hκ (by decide)
    have oc52 : k52.2.2.2.2.1 < 8 := o52.2.2.1
    have ot52 : k52.2.1 < 8 := o52.2.2.2
    refine ax_cV0 (pc := 16) (kb := 0) (nb := 0) G (kt_faults hA (h := h) (m := m) (μ := (md_sa (md_sa μ 3 f) 5 g)) hm (n := n) hend hn (b := b) hb κ hκ 4 e52) lVX10_105_8 dX10_readProposal_16 md_obj rfl (by decide) (Nat.le_of_ble_eq_true rfl) rfl ?_
    show ax_W Ω Γ _ _ (md_H h m (md_sa (md_sa (mK μ k52) 3 f) 5 g)) _ _ _
    refine ax_aload_n (pc := 19) G dX10_readProposal_19 rfl rfl ?_
    obtain ⟨k53, e53⟩ : ∃ a : pK, a = pNx b n k52 := ⟨_, rfl⟩
    have o53 : pOK n k53 := by rw [e53]; exact pNx_ok o52
    have oc53 : k53.2.2.2.2.1 < 8 := o53.2.2.1
    have ot53 : k53.2.1 < 8 := o53.2.2.2
    refine ax_cV0 (pc := 20) (kb := 0) (nb := 0) G (kt_nextToken hA (h := h) (m := m) (μ := (md_sa (md_sa μ 3 f) 5 g)) hm (n := n) hend hn (b := b) hb k52 o52 e53) lVX10_99_8 dX10_readProposal_20 md_obj rfl (by decide) (Nat.le_of_ble_eq_true rfl) rfl ?_
    show ax_W Ω Γ _ _ (md_H h m (md_sa (md_sa (mK μ k53) 3 f) 5 g)) _ _ _
    exact KB k53 (by rw [e53, e52, hkb, rBeg, if_pos c11])

theorem mt_readFirst {Ω : ax_O} (hA : ax_Amb Ω) {h : ax_H} {m : Nat} {μ : md_S} (hm : Ω.2.1.heap.size ≤ m) {n : Nat} (hend : μ.1 3 = nI n) (hn : n ≤ 1000) {b : pR} (hb : μ.2 1 = b) (κ : pK) (hκ : pOK n κ) {f g : pR} (hL : mLit Ω h m)  : ax_Met Ω yX10_readFirst 13 0 0 [.ref m] (md_H h m (md_sa (md_sa (mK μ κ) 3 f) 5 g)) (.inl none) (md_H h m (mP μ (rFirst b n κ f g))) := by
  refine ax_met q2685 q142 (by decide +kernel) (by decide) hA (Nat.le_of_ble_eq_true rfl) (fun Γ G E => ?_)
  have hc8 : κ.2.2.2.2.1 < 8 := hκ.2.2.1
  have ht8 : κ.2.1 < 8 := hκ.2.2.2
  have hst := hκ.2.1
  have hnx := hκ.1
  show ax_W Ω Γ 0 0 (md_H h m (md_sa (md_sa (mK μ κ) 3 f) 5 g)) 0 [some (.ref m)] []
  refine ax_aload_n (pc := 0) G dX10_readFirst_0 rfl rfl ?_
  refine ax_ldcS (pc := 1) G q2686 dX10_readFirst_1 ?_
  obtain ⟨k1, e1⟩ : ∃ a : pK, a = pKey b n κ (sL "scope") := ⟨_, rfl⟩
  have o1 : pOK n k1 := by rw [e1]; exact pKey_ok hκ
  have oc1 : k1.2.2.2.2.1 < 8 := o1.2.2.1
  have ot1 : k1.2.1 < 8 := o1.2.2.2
  refine ax_cV0 (pc := 3) (kb := 0) (nb := 0) G (kt_keyword hA (h := h) (m := m) (μ := (md_sa (md_sa μ 3 f) 5 g)) hm (n := n) hend hn (b := b) hb κ hκ (w := (Ω.2.2.2.1 "TelescopeQueueModel" 119)) (l := (sL "scope")) (hL (119, "scope") mLm_119) e1) lVX10_112_8 dX10_readFirst_3 md_obj rfl (by decide) (Nat.le_of_ble_eq_true rfl) rfl ?_
  show ax_W Ω Γ _ _ (md_H h m (md_sa (md_sa (mK μ k1) 3 f) 5 g)) _ _ _
  refine ax_aload_n (pc := 6) G dX10_readFirst_6 rfl rfl ?_
  refine md_get (pc := 7) (v := .ref (m + 3)) G flX10_20_8 dX10_readFirst_7 rfl ?_
  refine ax_iconst (pc := 10) (v := nI 0) G dX10_readFirst_10 ic_0 ?_
  refine ax_aload_n (pc := 11) G dX10_readFirst_11 rfl rfl ?_
  refine ax_ldcS (pc := 12) G q2705 dX10_readFirst_12 ?_
  refine ax_bipush (pc := 14) (v := nI 60) G dX10_readFirst_14 ib_60 ?_
  refine ax_sipush (pc := 16) (v := nI 2000) G dX10_readFirst_16 is_2000 ?_
  obtain ⟨k2, v2, e2, f2⟩ : ∃ (a : pK) (c : Int32), a = (pGauge b n k1 (sL "horizon") (nI 60) (nI 2000)).1 ∧ c = (pGauge b n k1 (sL "horizon") (nI 60) (nI 2000)).2 := ⟨_, _, rfl, rfl⟩
  have o2 : pOK n k2 := by rw [e2]; exact pGauge_ok o1
  have oc2 : k2.2.2.2.2.1 < 8 := o2.2.2.1
  have ot2 : k2.2.1 < 8 := o2.2.2.2
  refine ax_cV1 (pc := 19) (kb := 0) (nb := 0) G (kt_gauge hA (h := h) (m := m) (μ := (md_sa (md_sa μ 3 f) 5 g)) hm (n := n) hend hn (b := b) hb k1 o1 (w := (Ω.2.2.2.1 "TelescopeQueueModel" 121)) (l := (sL "horizon")) (hL (121, "horizon") mLm_121) (nI 60) (nI 2000) e2 f2) lVX10_123_8 dX10_readFirst_19 md_obj rfl (by decide) (Nat.le_of_ble_eq_true rfl) rfl ?_
  show ax_W Ω Γ _ _ (md_H h m (md_sa (md_sa (mK μ k2) 3 f) 5 g)) _ _ _
  refine md_st (pc := 22) (i := 0) (j := 3) G 235 dX10_readFirst_22 hm (by decide) (by decide) rfl rfl rfl (by omega) (by decide) ?_
  show ax_W Ω Γ _ _ (md_H h m (md_sa (md_sa (md_sa (mK μ k2) 3 f) 5 g) 3 (upd f 0 v2))) _ _ _
  rw [md_sac _ 3 5 _ _ (by decide)]
  rw [md_saa]
  show ax_W Ω Γ _ _ (md_H h m (md_sa (md_sa (mK μ k2) 5 g) 3 (upd f 0 v2))) _ _ _
  refine ax_aload_n (pc := 23) G dX10_readFirst_23 rfl rfl ?_
  refine md_get (pc := 24) (v := .ref (m + 3)) G flX10_20_8 dX10_readFirst_24 rfl ?_
  refine ax_iconst (pc := 27) (v := nI 1) G dX10_readFirst_27 ic_1 ?_
  refine ax_aload_n (pc := 28) G dX10_readFirst_28 rfl rfl ?_
  refine ax_ldcS (pc := 29) G q2718 dX10_readFirst_29 ?_
  refine ax_iconst (pc := 31) (v := nI 0) G dX10_readFirst_31 ic_0 ?_
  refine ax_bipush (pc := 32) (v := nI 60) G dX10_readFirst_32 ib_60 ?_
  obtain ⟨k3, v3, e3, f3⟩ : ∃ (a : pK) (c : Int32), a = (pGauge b n k2 (sL "settle") (nI 0) (nI 60)).1 ∧ c = (pGauge b n k2 (sL "settle") (nI 0) (nI 60)).2 := ⟨_, _, rfl, rfl⟩
  have o3 : pOK n k3 := by rw [e3]; exact pGauge_ok o2
  have oc3 : k3.2.2.2.2.1 < 8 := o3.2.2.1
  have ot3 : k3.2.1 < 8 := o3.2.2.2
  refine ax_cV1 (pc := 34) (kb := 0) (nb := 0) G (kt_gauge hA (h := h) (m := m) (μ := (md_sa (md_sa μ 5 g) 3 (upd f 0 v2))) hm (n := n) hend hn (b := b) hb k2 o2 (w := (Ω.2.2.2.1 "TelescopeQueueModel" 127)) (l := (sL "settle")) (hL (127, "settle") mLm_127) (nI 0) (nI 60) e3 f3) lVX10_123_8 dX10_readFirst_34 md_obj rfl (by decide) (Nat.le_of_ble_eq_true rfl) rfl ?_
  show ax_W Ω Γ _ _ (md_H h m (md_sa (md_sa (mK μ k3) 5 g) 3 (upd f 0 v2))) _ _ _
  refine md_st (pc := 37) (i := 1) (j := 3) G 235 dX10_readFirst_37 hm (by decide) (by decide) rfl rfl rfl (by omega) (by decide) ?_
  show ax_W Ω Γ _ _ (md_H h m (md_sa (md_sa (md_sa (mK μ k3) 5 g) 3 (upd f 0 v2)) 3 (upd (upd f 0 v2) 1 v3))) _ _ _
  rw [md_saa]
  show ax_W Ω Γ _ _ (md_H h m (md_sa (md_sa (mK μ k3) 5 g) 3 (upd (upd f 0 v2) 1 v3))) _ _ _
  refine ax_aload_n (pc := 38) G dX10_readFirst_38 rfl rfl ?_
  refine md_get (pc := 39) (v := .ref (m + 3)) G flX10_20_8 dX10_readFirst_39 rfl ?_
  refine ax_iconst (pc := 42) (v := nI 2) G dX10_readFirst_42 ic_2 ?_
  refine ax_aload_n (pc := 43) G dX10_readFirst_43 rfl rfl ?_
  refine ax_ldcS (pc := 44) G q2719 dX10_readFirst_44 ?_
  refine ax_iconst (pc := 46) (v := nI 1) G dX10_readFirst_46 ic_1 ?_
  refine ax_bipush (pc := 47) (v := nI 90) G dX10_readFirst_47 ib_90 ?_
  obtain ⟨k4, v4, e4, f4⟩ : ∃ (a : pK) (c : Int32), a = (pGauge b n k3 (sL "speed") (nI 1) (nI 90)).1 ∧ c = (pGauge b n k3 (sL "speed") (nI 1) (nI 90)).2 := ⟨_, _, rfl, rfl⟩
  have o4 : pOK n k4 := by rw [e4]; exact pGauge_ok o3
  have oc4 : k4.2.2.2.2.1 < 8 := o4.2.2.1
  have ot4 : k4.2.1 < 8 := o4.2.2.2
  refine ax_cV1 (pc := 49) (kb := 0) (nb := 0) G (kt_gauge hA (h := h) (m := m) (μ := (md_sa (md_sa μ 5 g) 3 (upd (upd f 0 v2) 1 v3))) hm (n := n) hend hn (b := b) hb k3 o3 (w := (Ω.2.2.2.1 "TelescopeQueueModel" 129)) (l := (sL "speed")) (hL (129, "speed") mLm_129) (nI 1) (nI 90) e4 f4) lVX10_123_8 dX10_readFirst_49 md_obj rfl (by decide) (Nat.le_of_ble_eq_true rfl) rfl ?_
  show ax_W Ω Γ _ _ (md_H h m (md_sa (md_sa (mK μ k4) 5 g) 3 (upd (upd f 0 v2) 1 v3))) _ _ _
  refine md_st (pc := 52) (i := 2) (j := 3) G 235 dX10_readFirst_52 hm (by decide) (by decide) rfl rfl rfl (by omega) (by decide) ?_
  show ax_W Ω Γ _ _ (md_H h m (md_sa (md_sa (md_sa (mK μ k4) 5 g) 3 (upd (upd f 0 v2) 1 v3)) 3 (upd (upd (upd f 0 v2) 1 v3) 2 v4))) _ _ _
  rw [md_saa]
  show ax_W Ω Γ _ _ (md_H h m (md_sa (md_sa (mK μ k4) 5 g) 3 (upd (upd (upd f 0 v2) 1 v3) 2 v4))) _ _ _
  refine ax_aload_n (pc := 53) G dX10_readFirst_53 rfl rfl ?_
  refine md_get (pc := 54) (v := .ref (m + 3)) G flX10_20_8 dX10_readFirst_54 rfl ?_
  refine ax_iconst (pc := 57) (v := nI 3) G dX10_readFirst_57 ic_3 ?_
  refine ax_aload_n (pc := 58) G dX10_readFirst_58 rfl rfl ?_
  refine ax_ldcS (pc := 59) G q2720 dX10_readFirst_59 ?_
  refine ax_iconst (pc := 61) (v := nI 1) G dX10_readFirst_61 ic_1 ?_
  refine ax_sipush (pc := 62) (v := nI 9999) G dX10_readFirst_62 is_9999 ?_
  obtain ⟨k5, v5, e5, f5⟩ : ∃ (a : pK) (c : Int32), a = (pGauge b n k4 (sL "cap") (nI 1) (nI 9999)).1 ∧ c = (pGauge b n k4 (sL "cap") (nI 1) (nI 9999)).2 := ⟨_, _, rfl, rfl⟩
  have o5 : pOK n k5 := by rw [e5]; exact pGauge_ok o4
  have oc5 : k5.2.2.2.2.1 < 8 := o5.2.2.1
  have ot5 : k5.2.1 < 8 := o5.2.2.2
  refine ax_cV1 (pc := 65) (kb := 0) (nb := 0) G (kt_gauge hA (h := h) (m := m) (μ := (md_sa (md_sa μ 5 g) 3 (upd (upd (upd f 0 v2) 1 v3) 2 v4))) hm (n := n) hend hn (b := b) hb k4 o4 (w := (Ω.2.2.2.1 "TelescopeQueueModel" 131)) (l := (sL "cap")) (hL (131, "cap") mLm_131) (nI 1) (nI 9999) e5 f5) lVX10_123_8 dX10_readFirst_65 md_obj rfl (by decide) (Nat.le_of_ble_eq_true rfl) rfl ?_
  show ax_W Ω Γ _ _ (md_H h m (md_sa (md_sa (mK μ k5) 5 g) 3 (upd (upd (upd f 0 v2) 1 v3) 2 v4))) _ _ _
  refine md_st (pc := 68) (i := 3) (j := 3) G 235 dX10_readFirst_68 hm (by decide) (by decide) rfl rfl rfl (by omega) (by decide) ?_
  show ax_W Ω Γ _ _ (md_H h m (md_sa (md_sa (md_sa (mK μ k5) 5 g) 3 (upd (upd (upd f 0 v2) 1 v3) 2 v4)) 3 (upd (upd (upd (upd f 0 v2) 1 v3) 2 v4) 3 v5))) _ _ _
  rw [md_saa]
  show ax_W Ω Γ _ _ (md_H h m (md_sa (md_sa (mK μ k5) 5 g) 3 (upd (upd (upd (upd f 0 v2) 1 v3) 2 v4) 3 v5))) _ _ _
  refine ax_aload_n (pc := 69) G dX10_readFirst_69 rfl rfl ?_
  refine md_get (pc := 70) (v := .ref (m + 3)) G flX10_20_8 dX10_readFirst_70 rfl ?_
  refine ax_iconst (pc := 73) (v := nI 4) G dX10_readFirst_73 ic_4 ?_
  refine ax_aload_n (pc := 74) G dX10_readFirst_74 rfl rfl ?_
  refine ax_ldcS (pc := 75) G q2721 dX10_readFirst_75 ?_
  refine ax_iconst (pc := 77) (v := nI 1) G dX10_readFirst_77 ic_1 ?_
  refine ax_bipush (pc := 78) (v := nI 99) G dX10_readFirst_78 ib_99 ?_
  obtain ⟨k6, v6, e6, f6⟩ : ∃ (a : pK) (c : Int32), a = (pGauge b n k5 (sL "dump") (nI 1) (nI 99)).1 ∧ c = (pGauge b n k5 (sL "dump") (nI 1) (nI 99)).2 := ⟨_, _, rfl, rfl⟩
  have o6 : pOK n k6 := by rw [e6]; exact pGauge_ok o5
  have oc6 : k6.2.2.2.2.1 < 8 := o6.2.2.1
  have ot6 : k6.2.1 < 8 := o6.2.2.2
  refine ax_cV1 (pc := 80) (kb := 0) (nb := 0) G (kt_gauge hA (h := h) (m := m) (μ := (md_sa (md_sa μ 5 g) 3 (upd (upd (upd (upd f 0 v2) 1 v3) 2 v4) 3 v5))) hm (n := n) hend hn (b := b) hb k5 o5 (w := (Ω.2.2.2.1 "TelescopeQueueModel" 133)) (l := (sL "dump")) (hL (133, "dump") mLm_133) (nI 1) (nI 99) e6 f6) lVX10_123_8 dX10_readFirst_80 md_obj rfl (by decide) (Nat.le_of_ble_eq_true rfl) rfl ?_
  show ax_W Ω Γ _ _ (md_H h m (md_sa (md_sa (mK μ k6) 5 g) 3 (upd (upd (upd (upd f 0 v2) 1 v3) 2 v4) 3 v5))) _ _ _
  refine md_st (pc := 83) (i := 4) (j := 3) G 235 dX10_readFirst_83 hm (by decide) (by decide) rfl rfl rfl (by omega) (by decide) ?_
  show ax_W Ω Γ _ _ (md_H h m (md_sa (md_sa (md_sa (mK μ k6) 5 g) 3 (upd (upd (upd (upd f 0 v2) 1 v3) 2 v4) 3 v5)) 3 (upd (upd (upd (upd (upd f 0 v2) 1 v3) 2 v4) 3 v5) 4 v6))) _ _ _
  rw [md_saa]
  show ax_W Ω Γ _ _ (md_H h m (md_sa (md_sa (mK μ k6) 5 g) 3 (upd (upd (upd (upd (upd f 0 v2) 1 v3) 2 v4) 3 v5) 4 v6))) _ _ _
  refine ax_aload_n (pc := 84) G dX10_readFirst_84 rfl rfl ?_
  refine md_get (pc := 85) (v := .ref (m + 5)) G flX10_26_8 dX10_readFirst_85 rfl ?_
  refine ax_bipush (pc := 88) (v := nI 15) G dX10_readFirst_88 ib_15 ?_
  refine ax_aload_n (pc := 90) G dX10_readFirst_90 rfl rfl ?_
  refine ax_ldcS (pc := 91) G q2722 dX10_readFirst_91 ?_
  refine ax_bipush (pc := 93) (v := nI 10) G dX10_readFirst_93 ib_10 ?_
  refine ax_sipush (pc := 95) (v := nI 2000) G dX10_readFirst_95 is_2000 ?_
  obtain ⟨k7, v7, e7, f7⟩ : ∃ (a : pK) (c : Int32), a = (pGauge b n k6 (sL "cadence") (nI 10) (nI 2000)).1 ∧ c = (pGauge b n k6 (sL "cadence") (nI 10) (nI 2000)).2 := ⟨_, _, rfl, rfl⟩
  have o7 : pOK n k7 := by rw [e7]; exact pGauge_ok o6
  have oc7 : k7.2.2.2.2.1 < 8 := o7.2.2.1
  have ot7 : k7.2.1 < 8 := o7.2.2.2
  refine ax_cV1 (pc := 98) (kb := 0) (nb := 0) G (kt_gauge hA (h := h) (m := m) (μ := (md_sa (md_sa μ 5 g) 3 (upd (upd (upd (upd (upd f 0 v2) 1 v3) 2 v4) 3 v5) 4 v6))) hm (n := n) hend hn (b := b) hb k6 o6 (w := (Ω.2.2.2.1 "TelescopeQueueModel" 135)) (l := (sL "cadence")) (hL (135, "cadence") mLm_135) (nI 10) (nI 2000) e7 f7) lVX10_123_8 dX10_readFirst_98 md_obj rfl (by decide) (Nat.le_of_ble_eq_true rfl) rfl ?_
  show ax_W Ω Γ _ _ (md_H h m (md_sa (md_sa (mK μ k7) 5 g) 3 (upd (upd (upd (upd (upd f 0 v2) 1 v3) 2 v4) 3 v5) 4 v6))) _ _ _
  refine md_st (pc := 101) (i := 15) (j := 5) G 627 dX10_readFirst_101 hm (by decide) (by decide) rfl rfl rfl (by omega) (by decide) ?_
  show ax_W Ω Γ _ _ (md_H h m (md_sa (md_sa (md_sa (mK μ k7) 5 g) 3 (upd (upd (upd (upd (upd f 0 v2) 1 v3) 2 v4) 3 v5) 4 v6)) 5 (upd g 15 v7))) _ _ _
  rw [md_sac _ 5 3 _ _ (by decide)]
  rw [md_saa]
  show ax_W Ω Γ _ _ (md_H h m (md_sa (md_sa (mK μ k7) 3 (upd (upd (upd (upd (upd f 0 v2) 1 v3) 2 v4) 3 v5) 4 v6)) 5 (upd g 15 v7))) _ _ _
  refine ax_aload_n (pc := 102) G dX10_readFirst_102 rfl rfl ?_
  refine md_get (pc := 103) (v := .ref (m + 3)) G flX10_20_8 dX10_readFirst_103 rfl ?_
  refine ax_bipush (pc := 106) (v := nI 6) G dX10_readFirst_106 ib_6 ?_
  refine ax_aload_n (pc := 108) G dX10_readFirst_108 rfl rfl ?_
  refine ax_ldcS (pc := 109) G q2723 dX10_readFirst_109 ?_
  refine ax_iconst (pc := 111) (v := nI 1) G dX10_readFirst_111 ic_1 ?_
  refine ax_bipush (pc := 112) (v := nI 99) G dX10_readFirst_112 ib_99 ?_
  obtain ⟨k8, v8, e8, f8⟩ : ∃ (a : pK) (c : Int32), a = (pGauge b n k7 (sL "cal") (nI 1) (nI 99)).1 ∧ c = (pGauge b n k7 (sL "cal") (nI 1) (nI 99)).2 := ⟨_, _, rfl, rfl⟩
  have o8 : pOK n k8 := by rw [e8]; exact pGauge_ok o7
  have oc8 : k8.2.2.2.2.1 < 8 := o8.2.2.1
  have ot8 : k8.2.1 < 8 := o8.2.2.2
  refine ax_cV1 (pc := 114) (kb := 0) (nb := 0) G (kt_gauge hA (h := h) (m := m) (μ := (md_sa (md_sa μ 3 (upd (upd (upd (upd (upd f 0 v2) 1 v3) 2 v4) 3 v5) 4 v6)) 5 (upd g 15 v7))) hm (n := n) hend hn (b := b) hb k7 o7 (w := (Ω.2.2.2.1 "TelescopeQueueModel" 137)) (l := (sL "cal")) (hL (137, "cal") mLm_137) (nI 1) (nI 99) e8 f8) lVX10_123_8 dX10_readFirst_114 md_obj rfl (by decide) (Nat.le_of_ble_eq_true rfl) rfl ?_
  show ax_W Ω Γ _ _ (md_H h m (md_sa (md_sa (mK μ k8) 3 (upd (upd (upd (upd (upd f 0 v2) 1 v3) 2 v4) 3 v5) 4 v6)) 5 (upd g 15 v7))) _ _ _
  refine md_st (pc := 117) (i := 6) (j := 3) G 235 dX10_readFirst_117 hm (by decide) (by decide) rfl rfl rfl (by omega) (by decide) ?_
  show ax_W Ω Γ _ _ (md_H h m (md_sa (md_sa (md_sa (mK μ k8) 3 (upd (upd (upd (upd (upd f 0 v2) 1 v3) 2 v4) 3 v5) 4 v6)) 5 (upd g 15 v7)) 3 (upd (upd (upd (upd (upd (upd f 0 v2) 1 v3) 2 v4) 3 v5) 4 v6) 6 v8))) _ _ _
  rw [md_sac _ 3 5 _ _ (by decide)]
  rw [md_saa]
  show ax_W Ω Γ _ _ (md_H h m (md_sa (md_sa (mK μ k8) 5 (upd g 15 v7)) 3 (upd (upd (upd (upd (upd (upd f 0 v2) 1 v3) 2 v4) 3 v5) 4 v6) 6 v8))) _ _ _
  refine ax_aload_n (pc := 118) G dX10_readFirst_118 rfl rfl ?_
  refine md_get (pc := 119) (v := .ref (m + 3)) G flX10_20_8 dX10_readFirst_119 rfl ?_
  refine ax_bipush (pc := 122) (v := nI 7) G dX10_readFirst_122 ib_7 ?_
  refine ax_aload_n (pc := 124) G dX10_readFirst_124 rfl rfl ?_
  refine ax_ldcS (pc := 125) G q2724 dX10_readFirst_125 ?_
  refine ax_iconst (pc := 127) (v := nI 0) G dX10_readFirst_127 ic_0 ?_
  refine ax_sipush (pc := 128) (v := nI 359) G dX10_readFirst_128 is_359 ?_
  obtain ⟨k9, v9, e9, f9⟩ : ∃ (a : pK) (c : Int32), a = (pGauge b n k8 (sL "sun") (nI 0) (nI 359)).1 ∧ c = (pGauge b n k8 (sL "sun") (nI 0) (nI 359)).2 := ⟨_, _, rfl, rfl⟩
  have o9 : pOK n k9 := by rw [e9]; exact pGauge_ok o8
  have oc9 : k9.2.2.2.2.1 < 8 := o9.2.2.1
  have ot9 : k9.2.1 < 8 := o9.2.2.2
  refine ax_cV1 (pc := 131) (kb := 0) (nb := 0) G (kt_gauge hA (h := h) (m := m) (μ := (md_sa (md_sa μ 5 (upd g 15 v7)) 3 (upd (upd (upd (upd (upd (upd f 0 v2) 1 v3) 2 v4) 3 v5) 4 v6) 6 v8))) hm (n := n) hend hn (b := b) hb k8 o8 (w := (Ω.2.2.2.1 "TelescopeQueueModel" 139)) (l := (sL "sun")) (hL (139, "sun") mLm_139) (nI 0) (nI 359) e9 f9) lVX10_123_8 dX10_readFirst_131 md_obj rfl (by decide) (Nat.le_of_ble_eq_true rfl) rfl ?_
  show ax_W Ω Γ _ _ (md_H h m (md_sa (md_sa (mK μ k9) 5 (upd g 15 v7)) 3 (upd (upd (upd (upd (upd (upd f 0 v2) 1 v3) 2 v4) 3 v5) 4 v6) 6 v8))) _ _ _
  refine md_st (pc := 134) (i := 7) (j := 3) G 235 dX10_readFirst_134 hm (by decide) (by decide) rfl rfl rfl (by omega) (by decide) ?_
  show ax_W Ω Γ _ _ (md_H h m (md_sa (md_sa (md_sa (mK μ k9) 5 (upd g 15 v7)) 3 (upd (upd (upd (upd (upd (upd f 0 v2) 1 v3) 2 v4) 3 v5) 4 v6) 6 v8)) 3 (upd (upd (upd (upd (upd (upd (upd f 0 v2) 1 v3) 2 v4) 3 v5) 4 v6) 6 v8) 7 v9))) _ _ _
  rw [md_saa]
  show ax_W Ω Γ _ _ (md_H h m (md_sa (md_sa (mK μ k9) 5 (upd g 15 v7)) 3 (upd (upd (upd (upd (upd (upd (upd f 0 v2) 1 v3) 2 v4) 3 v5) 4 v6) 6 v8) 7 v9))) _ _ _
  refine ax_aload_n (pc := 135) G dX10_readFirst_135 rfl rfl ?_
  refine md_get (pc := 136) (v := .ref (m + 3)) G flX10_20_8 dX10_readFirst_136 rfl ?_
  refine ax_bipush (pc := 139) (v := nI 8) G dX10_readFirst_139 ib_8 ?_
  refine ax_aload_n (pc := 141) G dX10_readFirst_141 rfl rfl ?_
  refine ax_ldcS (pc := 142) G q2725 dX10_readFirst_142 ?_
  refine ax_iconst (pc := 144) (v := nI 1) G dX10_readFirst_144 ic_1 ?_
  refine ax_sipush (pc := 145) (v := nI 999) G dX10_readFirst_145 is_999 ?_
  obtain ⟨k10, v10, e10, f10⟩ : ∃ (a : pK) (c : Int32), a = (pGauge b n k9 (sL "drift") (nI 1) (nI 999)).1 ∧ c = (pGauge b n k9 (sL "drift") (nI 1) (nI 999)).2 := ⟨_, _, rfl, rfl⟩
  have o10 : pOK n k10 := by rw [e10]; exact pGauge_ok o9
  have oc10 : k10.2.2.2.2.1 < 8 := o10.2.2.1
  have ot10 : k10.2.1 < 8 := o10.2.2.2
  refine ax_cV1 (pc := 148) (kb := 0) (nb := 0) G (kt_gauge hA (h := h) (m := m) (μ := (md_sa (md_sa μ 5 (upd g 15 v7)) 3 (upd (upd (upd (upd (upd (upd (upd f 0 v2) 1 v3) 2 v4) 3 v5) 4 v6) 6 v8) 7 v9))) hm (n := n) hend hn (b := b) hb k9 o9 (w := (Ω.2.2.2.1 "TelescopeQueueModel" 141)) (l := (sL "drift")) (hL (141, "drift") mLm_141) (nI 1) (nI 999) e10 f10) lVX10_123_8 dX10_readFirst_148 md_obj rfl (by decide) (Nat.le_of_ble_eq_true rfl) rfl ?_
  show ax_W Ω Γ _ _ (md_H h m (md_sa (md_sa (mK μ k10) 5 (upd g 15 v7)) 3 (upd (upd (upd (upd (upd (upd (upd f 0 v2) 1 v3) 2 v4) 3 v5) 4 v6) 6 v8) 7 v9))) _ _ _
  refine md_st (pc := 151) (i := 8) (j := 3) G 235 dX10_readFirst_151 hm (by decide) (by decide) rfl rfl rfl (by omega) (by decide) ?_
  show ax_W Ω Γ _ _ (md_H h m (md_sa (md_sa (md_sa (mK μ k10) 5 (upd g 15 v7)) 3 (upd (upd (upd (upd (upd (upd (upd f 0 v2) 1 v3) 2 v4) 3 v5) 4 v6) 6 v8) 7 v9)) 3 (upd (upd (upd (upd (upd (upd (upd (upd f 0 v2) 1 v3) 2 v4) 3 v5) 4 v6) 6 v8) 7 v9) 8 v10))) _ _ _
  rw [md_saa]
  show ax_W Ω Γ _ _ (md_H h m (md_sa (md_sa (mK μ k10) 5 (upd g 15 v7)) 3 (upd (upd (upd (upd (upd (upd (upd (upd f 0 v2) 1 v3) 2 v4) 3 v5) 4 v6) 6 v8) 7 v9) 8 v10))) _ _ _
  refine ax_aload_n (pc := 152) G dX10_readFirst_152 rfl rfl ?_
  refine md_get (pc := 153) (v := .ref (m + 3)) G flX10_20_8 dX10_readFirst_153 rfl ?_
  refine ax_bipush (pc := 156) (v := nI 9) G dX10_readFirst_156 ib_9 ?_
  refine ax_aload_n (pc := 158) G dX10_readFirst_158 rfl rfl ?_
  refine ax_ldcS (pc := 159) G q2726 dX10_readFirst_159 ?_
  refine ax_iconst (pc := 161) (v := nI 0) G dX10_readFirst_161 ic_0 ?_
  refine ax_sipush (pc := 162) (v := nI 170) G dX10_readFirst_162 is_170 ?_
  obtain ⟨k11, v11, e11, f11⟩ : ∃ (a : pK) (c : Int32), a = (pGauge b n k10 (sL "avoid") (nI 0) (nI 170)).1 ∧ c = (pGauge b n k10 (sL "avoid") (nI 0) (nI 170)).2 := ⟨_, _, rfl, rfl⟩
  have o11 : pOK n k11 := by rw [e11]; exact pGauge_ok o10
  have oc11 : k11.2.2.2.2.1 < 8 := o11.2.2.1
  have ot11 : k11.2.1 < 8 := o11.2.2.2
  refine ax_cV1 (pc := 165) (kb := 0) (nb := 0) G (kt_gauge hA (h := h) (m := m) (μ := (md_sa (md_sa μ 5 (upd g 15 v7)) 3 (upd (upd (upd (upd (upd (upd (upd (upd f 0 v2) 1 v3) 2 v4) 3 v5) 4 v6) 6 v8) 7 v9) 8 v10))) hm (n := n) hend hn (b := b) hb k10 o10 (w := (Ω.2.2.2.1 "TelescopeQueueModel" 143)) (l := (sL "avoid")) (hL (143, "avoid") mLm_143) (nI 0) (nI 170) e11 f11) lVX10_123_8 dX10_readFirst_165 md_obj rfl (by decide) (Nat.le_of_ble_eq_true rfl) rfl ?_
  show ax_W Ω Γ _ _ (md_H h m (md_sa (md_sa (mK μ k11) 5 (upd g 15 v7)) 3 (upd (upd (upd (upd (upd (upd (upd (upd f 0 v2) 1 v3) 2 v4) 3 v5) 4 v6) 6 v8) 7 v9) 8 v10))) _ _ _
  refine md_st (pc := 168) (i := 9) (j := 3) G 235 dX10_readFirst_168 hm (by decide) (by decide) rfl rfl rfl (by omega) (by decide) ?_
  show ax_W Ω Γ _ _ (md_H h m (md_sa (md_sa (md_sa (mK μ k11) 5 (upd g 15 v7)) 3 (upd (upd (upd (upd (upd (upd (upd (upd f 0 v2) 1 v3) 2 v4) 3 v5) 4 v6) 6 v8) 7 v9) 8 v10)) 3 (upd (upd (upd (upd (upd (upd (upd (upd (upd f 0 v2) 1 v3) 2 v4) 3 v5) 4 v6) 6 v8) 7 v9) 8 v10) 9 v11))) _ _ _
  rw [md_saa]
  show ax_W Ω Γ _ _ (md_H h m (md_sa (md_sa (mK μ k11) 5 (upd g 15 v7)) 3 (upd (upd (upd (upd (upd (upd (upd (upd (upd f 0 v2) 1 v3) 2 v4) 3 v5) 4 v6) 6 v8) 7 v9) 8 v10) 9 v11))) _ _ _
  exact ax_vretE (pc := 169) G E rfl dX10_readFirst_169 (by rw [rFirst]; rw [md_sac _ 5 3 _ _ (by decide)]; rw [← e1, rG_e e2 f2, rG_e e3 f3, rG_e e4 f4, rG_e e5 f5, rG_e e6 f6, rG_e e7 f7, rG_e e8 f8, rG_e e9 f9, rG_e e10 f10, rG_e e11 f11]; rfl)

def rLine (b : pR) (n : Nat) (κ : pK) (f g : pR) (P V A O : Nat) : rS :=
  if pWord b κ (sL "proposal") = true then rProposal b n κ f g P
  else if pWord b κ (sL "visit") = true then rVisit b n κ f g P V
  else if pWord b κ (sL "alert") = true then rAlert b n κ f g P A
  else if pWord b κ (sL "outage") = true then rOutage b n κ f g O
  else (pFl κ 1, f, g)
theorem mt_readLine {Ω : ax_O} (hA : ax_Amb Ω) {h : ax_H} {m : Nat} {μ : md_S} (hm : Ω.2.1.heap.size ≤ m) {n : Nat} (hend : μ.1 3 = nI n) (hn : n ≤ 1000) {b : pR} (hb : μ.2 1 = b) (κ : pK) (hκ : pOK n κ) {f g : pR} {P V A O : Nat} (hC : rC f g P V A O) (hL : mLit Ω h m)  : ax_Met Ω yX10_readLine 12 0 0 [.ref m] (md_H h m (md_sa (md_sa (mK μ κ) 3 f) 5 g)) (.inl none) (md_H h m (mP μ (rLine b n κ f g P V A O))) := by
  refine ax_met q2734 q142 (by decide +kernel) (by decide) hA (Nat.le_of_ble_eq_true rfl) (fun Γ G E => ?_)
  have hc8 : κ.2.2.2.2.1 < 8 := hκ.2.2.1
  have ht8 : κ.2.1 < 8 := hκ.2.2.2
  have hst := hκ.2.1
  have hnx := hκ.1
  show ax_W Ω Γ 0 0 (md_H h m (md_sa (md_sa (mK μ κ) 3 f) 5 g)) 0 [some (.ref m)] []
  refine ax_aload_n (pc := 0) G dX10_readLine_0 rfl rfl ?_
  refine ax_ldcS (pc := 1) G q2735 dX10_readLine_1 ?_
  refine ax_cV1 (pc := 3) (kb := 0) (nb := 0) G (kt_isWord hA (h := h) (m := m) (μ := (md_sa (md_sa μ 3 f) 5 g)) hm (n := n) hend hn (b := b) hb κ hκ (w := (Ω.2.2.2.1 "TelescopeQueueModel" 157)) (l := (sL "proposal")) (hL (157, "proposal") mLm_157)) lVX10_95_8 dX10_readLine_3 md_obj rfl (by decide) (Nat.le_of_ble_eq_true rfl) rfl ?_
  refine ax_if_eq (pc := 6) (tgt := 16) G dX10_readLine_6 rfl (fun c6 => ?_) (fun c6 => ?_)
  · replace c6 : (bI (pWord b κ (sL "proposal"))) = 0 := c6
    have c6b := bI_f c6
    refine ax_aload_n (pc := 16) G dX10_readLine_16 rfl rfl ?_
    refine ax_ldcS (pc := 17) G q2744 dX10_readLine_17 ?_
    refine ax_cV1 (pc := 19) (kb := 0) (nb := 0) G (kt_isWord hA (h := h) (m := m) (μ := (md_sa (md_sa μ 3 f) 5 g)) hm (n := n) hend hn (b := b) hb κ hκ (w := (Ω.2.2.2.1 "TelescopeQueueModel" 162)) (l := (sL "visit")) (hL (162, "visit") mLm_162)) lVX10_95_8 dX10_readLine_19 md_obj rfl (by decide) (Nat.le_of_ble_eq_true rfl) rfl ?_
    refine ax_if_eq (pc := 22) (tgt := 32) G dX10_readLine_22 rfl (fun c22 => ?_) (fun c22 => ?_)
    · replace c22 : (bI (pWord b κ (sL "visit"))) = 0 := c22
      have c22b := bI_f c22
      refine ax_aload_n (pc := 32) G dX10_readLine_32 rfl rfl ?_
      refine ax_ldcS (pc := 33) G q2757 dX10_readLine_33 ?_
      refine ax_cV1 (pc := 35) (kb := 0) (nb := 0) G (kt_isWord hA (h := h) (m := m) (μ := (md_sa (md_sa μ 3 f) 5 g)) hm (n := n) hend hn (b := b) hb κ hκ (w := (Ω.2.2.2.1 "TelescopeQueueModel" 167)) (l := (sL "alert")) (hL (167, "alert") mLm_167)) lVX10_95_8 dX10_readLine_35 md_obj rfl (by decide) (Nat.le_of_ble_eq_true rfl) rfl ?_
      refine ax_if_eq (pc := 38) (tgt := 48) G dX10_readLine_38 rfl (fun c38 => ?_) (fun c38 => ?_)
      · replace c38 : (bI (pWord b κ (sL "alert"))) = 0 := c38
        have c38b := bI_f c38
        refine ax_aload_n (pc := 48) G dX10_readLine_48 rfl rfl ?_
        refine ax_ldcS (pc := 49) G q2762 dX10_readLine_49 ?_
        refine ax_cV1 (pc := 51) (kb := 0) (nb := 0) G (kt_isWord hA (h := h) (m := m) (μ := (md_sa (md_sa μ 3 f) 5 g)) hm (n := n) hend hn (b := b) hb κ hκ (w := (Ω.2.2.2.1 "TelescopeQueueModel" 172)) (l := (sL "outage")) (hL (172, "outage") mLm_172)) lVX10_95_8 dX10_readLine_51 md_obj rfl (by decide) (Nat.le_of_ble_eq_true rfl) rfl ?_
        refine ax_if_eq (pc := 54) (tgt := 64) G dX10_readLine_54 rfl (fun c54 => ?_) (fun c54 => ?_)
        · replace c54 : (bI (pWord b κ (sL "outage"))) = 0 := c54
          have c54b := bI_f c54
          refine ax_aload_n (pc := 64) G dX10_readLine_64 rfl rfl ?_
          refine ax_iconst (pc := 65) (v := nI 1) G dX10_readLine_65 ic_1 ?_
          obtain ⟨k1, e1⟩ : ∃ a : pK, a = pFl κ 1 := ⟨_, rfl⟩
          have o1 : pOK n k1 := by rw [e1]; exact pFl_ok hκ (by decide)
          have oc1 : k1.2.2.2.2.1 < 8 := o1.2.2.1
          have ot1 : k1.2.1 < 8 := o1.2.2.2
          refine ax_cV0 (pc := 66) (kb := 0) (nb := 0) G (kt_faults hA (h := h) (m := m) (μ := (md_sa (md_sa μ 3 f) 5 g)) hm (n := n) hend hn (b := b) hb κ hκ 1 e1) lVX10_105_8 dX10_readLine_66 md_obj rfl (by decide) (Nat.le_of_ble_eq_true rfl) rfl ?_
          show ax_W Ω Γ _ _ (md_H h m (md_sa (md_sa (mK μ k1) 3 f) 5 g)) _ _ _
          exact ax_vretE (pc := 69) G E rfl dX10_readLine_69 (by rw [rLine, if_neg (by rw [c6b]; decide), if_neg (by rw [c22b]; decide), if_neg (by rw [c38b]; decide), if_neg (by rw [c54b]; decide), e1]; rfl)
        · replace c54 : ¬ (bI (pWord b κ (sL "outage"))) = 0 := c54
          have c54b := bI_t c54
          refine ax_aload_n (pc := 57) G dX10_readLine_57 rfl rfl ?_
          refine ax_cV0 (pc := 58) (kb := 0) (nb := 0) G (mt_readOutage hA (h := h) (m := m) (μ := μ) hm (n := n) hend hn (b := b) hb κ hκ hC) lVX10_174_8 dX10_readLine_58 md_obj rfl (by decide) (Nat.le_of_ble_eq_true rfl) rfl ?_
          show ax_W Ω Γ _ _ (md_H h m (mP μ (rOutage b n κ f g O))) _ _ _
          refine ax_goto (pc := 61) (tgt := 69) G dX10_readLine_61 rfl ?_
          exact ax_vretE (pc := 69) G E rfl dX10_readLine_69 (by rw [rLine, if_neg (by rw [c6b]; decide), if_neg (by rw [c22b]; decide), if_neg (by rw [c38b]; decide), if_pos c54b])
      · replace c38 : ¬ (bI (pWord b κ (sL "alert"))) = 0 := c38
        have c38b := bI_t c38
        refine ax_aload_n (pc := 41) G dX10_readLine_41 rfl rfl ?_
        refine ax_cV0 (pc := 42) (kb := 0) (nb := 0) G (mt_readAlert hA (h := h) (m := m) (μ := μ) hm (n := n) hend hn (b := b) hb κ hκ hC) lVX10_169_8 dX10_readLine_42 md_obj rfl (by decide) (Nat.le_of_ble_eq_true rfl) rfl ?_
        show ax_W Ω Γ _ _ (md_H h m (mP μ (rAlert b n κ f g P A))) _ _ _
        refine ax_goto (pc := 45) (tgt := 69) G dX10_readLine_45 rfl ?_
        exact ax_vretE (pc := 69) G E rfl dX10_readLine_69 (by rw [rLine, if_neg (by rw [c6b]; decide), if_neg (by rw [c22b]; decide), if_pos c38b])
    · replace c22 : ¬ (bI (pWord b κ (sL "visit"))) = 0 := c22
      have c22b := bI_t c22
      refine ax_aload_n (pc := 25) G dX10_readLine_25 rfl rfl ?_
      refine ax_cV0 (pc := 26) (kb := 0) (nb := 0) G (mt_readVisit hA (h := h) (m := m) (μ := μ) hm (n := n) hend hn (b := b) hb κ hκ hC) lVX10_164_8 dX10_readLine_26 md_obj rfl (by decide) (Nat.le_of_ble_eq_true rfl) rfl ?_
      show ax_W Ω Γ _ _ (md_H h m (mP μ (rVisit b n κ f g P V))) _ _ _
      refine ax_goto (pc := 29) (tgt := 69) G dX10_readLine_29 rfl ?_
      exact ax_vretE (pc := 69) G E rfl dX10_readLine_69 (by rw [rLine, if_neg (by rw [c6b]; decide), if_pos c22b])
  · replace c6 : ¬ (bI (pWord b κ (sL "proposal"))) = 0 := c6
    have c6b := bI_t c6
    refine ax_aload_n (pc := 9) G dX10_readLine_9 rfl rfl ?_
    refine ax_cV0 (pc := 10) (kb := 0) (nb := 0) G (mt_readProposal hA (h := h) (m := m) (μ := μ) hm (n := n) hend hn (b := b) hb κ hκ hC) lVX10_159_8 dX10_readLine_10 md_obj rfl (by decide) (Nat.le_of_ble_eq_true rfl) rfl ?_
    show ax_W Ω Γ _ _ (md_H h m (mP μ (rProposal b n κ f g P))) _ _ _
    refine ax_goto (pc := 13) (tgt := 69) G dX10_readLine_13 rfl ?_
    exact ax_vretE (pc := 69) G E rfl dX10_readLine_69 (by rw [rLine, if_pos c6b])

