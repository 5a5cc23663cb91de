/-! THE COMPONENT: the next token -/
theorem cIn_k {A B : Int64} {a b : Int32} (v : Int32) (ea : A = a.toInt64) (eb : B = b.toInt64) : cIn v.toInt64 A B = pIn v a b := by subst ea eb; exact cIn_i v a b
/-- bytes -/
def xBy (b : Nat → Int32) (β : Nat → Nat) : Prop := ∀ j, b j = nI (β j) ∧ β j < 256
/-- the letters of the token's string: how many, which -/
def xLen (κ : pK) : Nat := if κ.2.1 = 1 then 0 else if κ.2.1 = 2 then κ.1 - κ.2.2.1 else 1
def xLet (β : Nat → Nat) (κ : pK) : Nat → Nat := fun i => if κ.2.1 = 2 then β (κ.2.2.1 + i) else if κ.2.1 = 3 then 35 else if κ.2.1 = 4 then pN κ.2.2.2.1 else if κ.2.1 = 1 then 0 else 63
/-- the component's token as the model's -/
def xTk (h : ax_H) (tk : Nat) (nm : Int32) (β : Nat → Nat) (κ : pK) : Prop := sStr h tk (xLen κ) (xLet β κ) ∧ (κ.2.1 = 3 → nm = κ.2.2.2.1)
/-- a literal: its text, and its hash is asked already -/
def sPre (h : ax_H) (w : Nat) : Prop := ∃ (e : Nat) (hs hz : Int32), h.1 w = some (.inr (19, [.ref e, .int (nI 0), .int hs, .int hz])) ∧ (¬ hs = 0 ∨ ¬ hz = 0)
def sLit (h : ax_H) (w n : Nat) (t : Nat → Nat) : Prop := sStr h w n t ∧ sPre h w
theorem sPre.frO {h h' : ax_H} {w P ci : Nat} {fs : List Value} (z : sPre h w) (wf : ax_wf h) (hP : h.1 P = some (.inr (ci, fs))) (hc : ci ≠ 19) (g : ∀ q, q < h.2 → q ≠ P → h'.1 q = h.1 q) : sPre h' w := by
  obtain ⟨e, hs, hz, a, c⟩ := z
  refine ⟨e, hs, hz, ?_, c⟩
  rw [g w (wf.lt a) (fun x => by rw [x, hP] at a; cases a; exact hc rfl)]; exact a
/-- a word's hash isn't asked yet; another token's is -/
def xHs (z : Nat) (h : ax_H) (tk : Nat) (κ : pK) : Prop := (κ.2.1 = 2 → z ≤ tk ∧ ∃ e, z ≤ e ∧ h.1 tk = some (.inr (19, [.ref e, .int (nI 0), .int (nI 0), .int (nI 0)]))) ∧ (κ.2.1 ≠ 2 → sPre h tk)
theorem xAt_m {b : Nat → Int32} {β : Nat → Nat} (hβ : xBy b β) {n k : Nat} : (pAtB b n k = -1) ↔ ¬ k < n := by
  unfold pAtB
  by_cases e : k < n
  · rw [if_pos e, (hβ k).1]; exact ⟨fun z => absurd z (nI_nm (by have := (hβ k).2; omega)), fun z => absurd e z⟩
  · rw [if_neg e]; exact ⟨fun _ => e, fun _ => rfl⟩
theorem xAt_i {b : Nat → Int32} {β : Nat → Nat} (hβ : xBy b β) {n k : Nat} (h : k < n) : pAtB b n k = nI (β k) := by unfold pAtB; rw [if_pos h]; exact (hβ k).1
theorem xAt_in {b : Nat → Int32} {n k lo hi : Nat} (hl : lo < 2 ^ 31) (h : pIn (pAtB b n k) (nI lo) (nI hi) = true) : k < n := by
  by_cases e : k < n
  · exact e
  · unfold pAtB at h
    rw [if_neg e] at h
    unfold pIn at h
    rw [decide_eq_false (nI_nl1 hl)] at h; cases h
theorem xIn_v {b : Nat → Int32} {β : Nat → Nat} (hβ : xBy b β) {n k lo hi : Nat} (hl : lo < 2 ^ 31) (hh : hi < 2 ^ 31) (h : pIn (pAtB b n k) (nI lo) (nI hi) = true) : lo ≤ β k ∧ β k ≤ hi := by
  have hk := xAt_in hl h
  rw [xAt_i hβ hk] at h
  unfold pIn at h
  rw [Bool.and_eq_true, decide_eq_true_iff, decide_eq_true_iff, nI_leI hl (by have := (hβ k).2; omega), nI_leI (by have := (hβ k).2; omega) hh] at h
  exact h
theorem sStr.cg {h : ax_H} {w n n' : Nat} {t t' : Nat → Nat} (z : sStr h w n t) (en : n = n') (g : ∀ i, i < n → t i = t' i) : sStr h w n' t' := by
  subst en
  obtain ⟨e, hs, hz, b, b1, b2, b3, b4⟩ := z
  exact ⟨e, hs, hz, b, b1, b2, b3, fun i hi => by rw [← g i hi]; exact b4 i hi⟩
/-- what a number is worth so far: v behind the digits s .. x - 1 -/
def xNum (b : pR) (n s x : Nat) (v : Int32) : Prop := x - s ≤ 4 → ∃ u, v = nI u ∧ u < 10 ^ (x - s) ∧ pVal b n s (n - x) x (nI u) = pVal b n s (n - s) s (nI 0)
theorem xNum_0 {b : pR} {n s : Nat} : xNum b n s s (nI 0) := fun _ => ⟨0, rfl, by rw [Nat.sub_self]; decide, rfl⟩
theorem xNum_s {b : pR} {β : Nat → Nat} (hβ : xBy b β) {n s x : Nat} {v : Int32} (hs : s ≤ x) (h : xNum b n s x v) (hd : pIn (pAtB b n x) (nI 48) (nI 57) = true) : xNum b n s (x + 1) (iMin 99999 (nI 10 * v + nI (β x) - nI 48)) := by
  intro h4
  have hx := xAt_in (by decide) hd
  obtain ⟨d1, d2⟩ := xIn_v hβ (by decide) (by decide) hd
  obtain ⟨u, rfl, hu, hp⟩ := h (by omega)
  have hu3 : u < 1000 := by
    have : 10 ^ (x - s) ≤ 10 ^ 3 := Nat.pow_le_pow_right (by decide) (by omega)
    omega
  have e1 : nI 10 * nI u + nI (β x) - nI 48 = nI (10 * u + β x - 48) := by rw [pk_mul, nI_add, pk_sub (by omega)]
  refine ⟨10 * u + β x - 48, ?_, ?_, ?_⟩
  · rw [e1]
    unfold iMin
    have h9 : nI (10 * u + β x - 48) < (99999 : Int32) := nI_lt (b := 99999) (by omega) (by decide)
    rw [if_pos h9]
  · rw [show x + 1 - s = (x - s) + 1 by omega, Nat.pow_succ]; omega
  · rw [← hp, show n - x = (n - (x + 1)) + 1 by omega, pVal, if_pos hd, if_pos (by omega), xAt_i hβ hx, e1]
theorem xNum_e {b : pR} {n s x : Nat} {v : Int32} (h9 : pIn (pAtB b n x) (nI 48) (nI 57) = false) (h : xNum b n s x v) (h4 : x - s ≤ 4) : v = pVal b n s (n - s) s (nI 0) := by
  obtain ⟨u, rfl, -, hp⟩ := h h4
  rw [← hp]
  cases n - x with
  | zero => rfl
  | succ k => rw [pVal, if_neg (by rw [h9]; decide)]
theorem xCat {c i x : Nat} {β : Nat → Nat} {s : Nat} (hi : i < c + 1) (hx : x = s + c) : sb_cat (fun i => β (s + i)) c (fun _ => β x) i = β (s + i) := by
  unfold sb_cat
  by_cases e : i < c
  · rw [if_pos e]
  · rw [if_neg e, hx, show i = c by omega]
theorem xChar {k : Nat} (h : k < 256) : ((nI k).toUInt32 % 65536).toInt32 = nI k := (show ∀ c, c < 256 → ((nI c).toUInt32 % 65536).toInt32 = nI c by decide +kernel) k h
set_option maxHeartbeats 3000000 in
theorem ct_xadvance {Ω : ax_O} (hA : ax_Amb Ω) {h : ax_H} (wf : ax_wf h) (hz : Ω.2.1.heap.size ≤ h.2) {P tx n nx st tk sc sa : Nat} {nm : Int32} {tb b : Nat → Int32} (hP : h.1 P = some (.inr (9, [.ref tx, .int (nI n), .int (nI nx), .int (nI st), .int nm, .ref tk, .ref sc, .ref sa]))) {z : Nat} (hz9 : z ≤ h.2) (hbP : Ω.2.1.heap.size ≤ P) (hT : h.1 tx = some (.inl (.byte, 1000, .inl tb))) (hb : ∀ j, j < n → tb j &&& nI 255 = b j) (hn : n ≤ 1000) {β : Nat → Nat} (hβ : xBy b β) (hnx : nx ≤ n) (hl9 : sLit h (Ω.2.2.2.1 "TelescopeQueue$Parser" 9) 0 (fun _ => 0)) (hl66 : sLit h (Ω.2.2.2.1 "TelescopeQueue$Parser" 66) 1 (fun _ => 63)) (hl86 : sLit h (Ω.2.2.2.1 "TelescopeQueue$Parser" 86) 1 (fun _ => 35)) (hl88 : sLit h (Ω.2.2.2.1 "TelescopeQueue$Parser" 88) 1 (fun _ => 59)) (hl90 : sLit h (Ω.2.2.2.1 "TelescopeQueue$Parser" 90) 1 (fun _ => 45)) (κ' : pK) (vl p : Int32) (hκ : κ' = pTok b n nx vl p)  : ax_MetP Ω yX11_advance 8 4 94 [.ref P] h (ax_Nm (fun v h' => v = none ∧ ∃ (nm' : Int32) (tk' : Nat), h'.1 P = some (.inr (9, [.ref tx, .int (nI n), .int (nI κ'.1), .int (nI κ'.2.2.1), .int nm', .ref tk', .ref sc, .ref sa])) ∧ xTk h' tk' nm' β κ' ∧ xHs z h' tk' κ' ∧ (∀ q, q < h.2 → q ≠ P → h'.1 q = h.1 q) ∧ h.2 ≤ h'.2 ∧ h'.2 ≤ h.2 + 4 ∧ ax_wf h')) := by
  refine ax_metP q992 q145 (by decide +kernel) (by decide) hA (Nat.le_of_ble_eq_true rfl) (fun Γ G E => ?_)
  have hlP := wf.lt hP
  have hPt : P ≠ tx := fun z => by rw [z, hT] at hP; cases hP
  have hlt := wf.lt hT
  have KF : ∀ (kb nb : Nat) (ls : List (Option Value)) (hh : ax_H) (K : pK) (nm' : Int32) (tk' : Nat), K = κ' → hh.1 P = some (.inr (9, [.ref tx, .int (nI n), .int (nI K.1), .int (nI K.2.2.1), .int nm', .ref tk', .ref sc, .ref sa])) → xTk hh tk' nm' β K → xHs z hh tk' K → (∀ q, q < h.2 → q ≠ P → hh.1 q = h.1 q) → h.2 ≤ hh.2 → hh.2 ≤ h.2 + 4 → ax_wf hh → ax_W Ω Γ kb nb hh 317 ls [] := by
    intro kb nb ls hh K nm' tk' hK hP' hX hH hf h1 h2 wf'
    subst hK
    exact ax_vretP (pc := 317) G E rfl dX11_advance_317 ⟨none, rfl, rfl, nm', tk', hP', hX, hH, hf, h1, h2, wf'⟩
  show ax_W Ω Γ 4 94 h 0 [some (.ref P), none, none] []
  obtain ⟨s1, es1⟩ : ∃ x, x = pSkip b n (n - nx) nx := ⟨_, rfl⟩
  have b1 : nx ≤ s1 ∧ s1 ≤ n := by have := pSkip_b b n (n - nx) nx; omega
  have K5 : ∀ (hh5 : ax_H), hh5.1 P = some (.inr (9, [.ref tx, .int (nI n), .int (nI s1), .int (nI st), .int nm, .ref tk, .ref sc, .ref sa])) → (∀ q, q ≠ P → hh5.1 q = h.1 q) → hh5.2 = h.2 → ax_wf hh5 → ax_W Ω Γ 4 94 hh5 26 [some (.ref P), none, none] [] := by
    intro hh5 gk5 fr5 zr5 wr5
    refine ax_aload_n (pc := 26) G dX11_advance_26 rfl rfl ?_
    refine ax_aload_n (pc := 27) G dX11_advance_27 rfl rfl ?_
    refine ax_getf (pc := 28) (v := .int (nI s1)) G flX11_41_9 dX11_advance_28 (gk5) rfl ?_
    refine ax_putf (pc := 31) G flX11_48_9 dX11_advance_31 (gk5) (by omega) (Nat.le_of_ble_eq_true rfl) rfl rfl ?_
    refine ax_hvS wr5 (by omega) (fun h247 g247 f247 z247 w247 => ?_)
    replace g247 : h247.1 P = some (.inr (9, [.ref tx, .int (nI n), .int (nI s1), .int (nI s1), .int nm, .ref tk, .ref sc, .ref sa])) := g247
    refine ax_aload_n (pc := 34) G dX11_advance_34 rfl rfl ?_
    refine ax_aload_n (pc := 35) G dX11_advance_35 rfl rfl ?_
    refine ax_getf (pc := 36) (v := .int (nI s1)) G flX11_41_9 dX11_advance_36 (g247) rfl ?_
    refine ax_cV1 (pc := 39) (kb := 4) (nb := 94) G (ct_xat hA (g247) ((f247 _ (by omega)).trans ((fr5 _ (by omega)).trans (hT))) hb hn s1 (by omega)) lVX11_44_9 dX11_advance_39 (g247) rfl (by decide) (Nat.le_of_ble_eq_true rfl) rfl ?_
    refine ax_istore_n (pc := 42) G dX11_advance_42 rfl (Nat.le_of_ble_eq_true rfl) rfl ?_
    refine ax_iload_n (pc := 43) G dX11_advance_43 rfl rfl ?_
    refine ax_iconst (pc := 44) (v := (-1)) G dX11_advance_44 (by decide) ?_
    refine ax_icmp_ne (pc := 45) (tgt := 57) G dX11_advance_45 rfl (fun c45 => ?_) (fun c45 => ?_)
    · have hs1l : s1 < n := by
        by_cases z : s1 < n
        · exact z
        · exact absurd ((xAt_m hβ).mpr z) c45
      have hs1n : ¬ s1 = n := by omega
      refine ax_iload_n (pc := 57) G dX11_advance_57 rfl rfl ?_
      refine ax_i2l (pc := 58) G dX11_advance_58 rfl ?_
      refine ax_ldc2 (pc := 59) G q997 dX11_advance_59 ?_
      refine ax_ldc2 (pc := 62) G q998 dX11_advance_62 ?_
      refine ax_cSN1 (pc := 65) (kb := 4) (nb := 94) G (ct_in hA ((pAtB b n s1).toInt64) 97 122) lSX11_55 dX11_advance_65 rfl (by decide) (Nat.le_of_ble_eq_true rfl) rfl ?_
      rw [cIn_k (A := 97) (B := 122) (a := (nI 97)) (b := (nI 122)) (pAtB b n s1) (by decide) (by decide)]
      refine ax_if_eq (pc := 68) (tgt := 171) G dX11_advance_68 rfl (fun c68 => ?_) (fun c68 => ?_)
      · have c68b := bI_f c68
        refine ax_iload_n (pc := 171) G dX11_advance_171 rfl rfl ?_
        refine ax_i2l (pc := 172) G dX11_advance_172 rfl ?_
        refine ax_ldc2 (pc := 173) G q1026 dX11_advance_173 ?_
        refine ax_ldc2 (pc := 176) G q1027 dX11_advance_176 ?_
        refine ax_cSN1 (pc := 179) (kb := 4) (nb := 94) G (ct_in hA ((pAtB b n s1).toInt64) 48 57) lSX11_55 dX11_advance_179 rfl (by decide) (Nat.le_of_ble_eq_true rfl) rfl ?_
        rw [cIn_k (A := 48) (B := 57) (a := (nI 48)) (b := (nI 57)) (pAtB b n s1) (by decide) (by decide)]
        refine ax_if_eq (pc := 182) (tgt := 279) G dX11_advance_182 rfl (fun c182 => ?_) (fun c182 => ?_)
        · have c182b := bI_f c182
          refine ax_aload_n (pc := 279) G dX11_advance_279 rfl rfl ?_
          refine ax_dup (pc := 280) G dX11_advance_280 rfl ?_
          refine ax_getf (pc := 281) (v := .int (nI s1)) G flX11_41_9 dX11_advance_281 (g247) rfl ?_
          refine ax_iconst (pc := 284) (v := nI 1) G dX11_advance_284 ic_1 ?_
          refine ax_iaddN (pc := 285) G dX11_advance_285 ?_
          refine ax_putf (pc := 286) G flX11_41_9 dX11_advance_286 (g247) (by omega) (Nat.le_of_ble_eq_true rfl) rfl rfl ?_
          refine ax_hvS w247 (by omega) (fun h248 g248 f248 z248 w248 => ?_)
          replace g248 : h248.1 P = some (.inr (9, [.ref tx, .int (nI n), .int (nI (s1 + 1)), .int (nI s1), .int nm, .ref tk, .ref sc, .ref sa])) := g248
          refine ax_aload_n (pc := 289) G dX11_advance_289 rfl rfl ?_
          refine ax_iload_n (pc := 290) G dX11_advance_290 rfl rfl ?_
          refine ax_bipush (pc := 291) (v := nI 59) G dX11_advance_291 ib_59 ?_
          refine ax_icmp_ne (pc := 293) (tgt := 301) G dX11_advance_293 rfl (fun c293 => ?_) (fun c293 => ?_)
          · refine ax_iload_n (pc := 301) G dX11_advance_301 rfl rfl ?_
            refine ax_bipush (pc := 302) (v := nI 45) G dX11_advance_302 ib_45 ?_
            refine ax_icmp_ne (pc := 304) (tgt := 312) G dX11_advance_304 rfl (fun c304 => ?_) (fun c304 => ?_)
            · refine ax_ldcS (pc := 312) G q1024 dX11_advance_312 ?_
              refine ax_putf (pc := 314) G flX11_11_9 dX11_advance_314 (g248) (by omega) (Nat.le_of_ble_eq_true rfl) rfl rfl ?_
              refine ax_hvS w248 (by omega) (fun h249 g249 f249 z249 w249 => ?_)
              replace g249 : h249.1 P = some (.inr (9, [.ref tx, .int (nI n), .int (nI (s1 + 1)), .int (nI s1), .int nm, .ref (Ω.2.2.2.1 "TelescopeQueue$Parser" 66), .ref sc, .ref sa])) := g249
              exact KF _ _ _ h249 (s1 + 1, 0, s1, pAtB b n s1, 0, p) nm (Ω.2.2.2.1 "TelescopeQueue$Parser" 66) (by rw [hκ, pTok, ← es1, pTokA, if_neg hs1n, if_neg (by rw [c68b]; decide), if_neg (by rw [c182b]; decide), if_neg (show ¬ pSign (pAtB b n s1) = true by unfold pSign; rw [decide_eq_false c293, decide_eq_false c304]; decide)]) (g249) ⟨(hl66.1.frO wf hP (by decide) (fun q a1 a2 => (f249 _ (by omega)).trans ((f248 _ (by omega)).trans ((f247 _ (by omega)).trans ((fr5 _ (by omega))))))).cg rfl (fun _ _ => rfl), fun z => by cases z⟩ ⟨fun z => (by cases z), fun _ => hl66.2.frO wf hP (by decide) (fun q a1 a2 => (f249 _ (by omega)).trans ((f248 _ (by omega)).trans ((f247 _ (by omega)).trans ((fr5 _ (by omega))))))⟩ (fun q a1 a2 => (f249 _ (by omega)).trans ((f248 _ (by omega)).trans ((f247 _ (by omega)).trans ((fr5 _ (by omega)))))) (by omega) (by omega) w249
            · refine ax_ldcS (pc := 307) G q1032 dX11_advance_307 ?_
              refine ax_goto (pc := 309) (tgt := 314) G dX11_advance_309 rfl ?_
              refine ax_putf (pc := 314) G flX11_11_9 dX11_advance_314 (g248) (by omega) (Nat.le_of_ble_eq_true rfl) rfl rfl ?_
              refine ax_hvS w248 (by omega) (fun h250 g250 f250 z250 w250 => ?_)
              replace g250 : h250.1 P = some (.inr (9, [.ref tx, .int (nI n), .int (nI (s1 + 1)), .int (nI s1), .int nm, .ref (Ω.2.2.2.1 "TelescopeQueue$Parser" 90), .ref sc, .ref sa])) := g250
              exact KF _ _ _ h250 (s1 + 1, 4, s1, pAtB b n s1, 0, p) nm (Ω.2.2.2.1 "TelescopeQueue$Parser" 90) (by rw [hκ, pTok, ← es1, pTokA, if_neg hs1n, if_neg (by rw [c68b]; decide), if_neg (by rw [c182b]; decide), if_pos (show pSign (pAtB b n s1) = true by rw [c304]; rfl)]) (g250) ⟨(hl90.1.frO wf hP (by decide) (fun q a1 a2 => (f250 _ (by omega)).trans ((f248 _ (by omega)).trans ((f247 _ (by omega)).trans ((fr5 _ (by omega))))))).cg rfl (fun i hi => by show 45 = pN (pAtB b n s1); rw [c304]; exact (pN_nI (by decide)).symm), fun z => by cases z⟩ ⟨fun z => (by cases z), fun _ => hl90.2.frO wf hP (by decide) (fun q a1 a2 => (f250 _ (by omega)).trans ((f248 _ (by omega)).trans ((f247 _ (by omega)).trans ((fr5 _ (by omega))))))⟩ (fun q a1 a2 => (f250 _ (by omega)).trans ((f248 _ (by omega)).trans ((f247 _ (by omega)).trans ((fr5 _ (by omega)))))) (by omega) (by omega) w250
          · refine ax_ldcS (pc := 296) G q1031 dX11_advance_296 ?_
            refine ax_goto (pc := 298) (tgt := 314) G dX11_advance_298 rfl ?_
            refine ax_putf (pc := 314) G flX11_11_9 dX11_advance_314 (g248) (by omega) (Nat.le_of_ble_eq_true rfl) rfl rfl ?_
            refine ax_hvS w248 (by omega) (fun h251 g251 f251 z251 w251 => ?_)
            replace g251 : h251.1 P = some (.inr (9, [.ref tx, .int (nI n), .int (nI (s1 + 1)), .int (nI s1), .int nm, .ref (Ω.2.2.2.1 "TelescopeQueue$Parser" 88), .ref sc, .ref sa])) := g251
            exact KF _ _ _ h251 (s1 + 1, 4, s1, pAtB b n s1, 0, p) nm (Ω.2.2.2.1 "TelescopeQueue$Parser" 88) (by rw [hκ, pTok, ← es1, pTokA, if_neg hs1n, if_neg (by rw [c68b]; decide), if_neg (by rw [c182b]; decide), if_pos (show pSign (pAtB b n s1) = true by rw [c293]; rfl)]) (g251) ⟨(hl88.1.frO wf hP (by decide) (fun q a1 a2 => (f251 _ (by omega)).trans ((f248 _ (by omega)).trans ((f247 _ (by omega)).trans ((fr5 _ (by omega))))))).cg rfl (fun i hi => by show 59 = pN (pAtB b n s1); rw [c293]; exact (pN_nI (by decide)).symm), fun z => by cases z⟩ ⟨fun z => (by cases z), fun _ => hl88.2.frO wf hP (by decide) (fun q a1 a2 => (f251 _ (by omega)).trans ((f248 _ (by omega)).trans ((f247 _ (by omega)).trans ((fr5 _ (by omega))))))⟩ (fun q a1 a2 => (f251 _ (by omega)).trans ((f248 _ (by omega)).trans ((f247 _ (by omega)).trans ((fr5 _ (by omega)))))) (by omega) (by omega) w251
        · have c182b := bI_t c182
          refine ax_aload_n (pc := 185) G dX11_advance_185 rfl rfl ?_
          refine ax_iconst (pc := 186) (v := nI 0) G dX11_advance_186 ic_0 ?_
          refine ax_putf (pc := 187) G flX11_76_9 dX11_advance_187 (g247) (by omega) (Nat.le_of_ble_eq_true rfl) rfl rfl ?_
          refine ax_hvS w247 (by omega) (fun h252 g252 f252 z252 w252 => ?_)
          replace g252 : h252.1 P = some (.inr (9, [.ref tx, .int (nI n), .int (nI s1), .int (nI s1), .int (nI 0), .ref tk, .ref sc, .ref sa])) := g252
          obtain ⟨xe, hx⟩ : ∃ x, x = pRun b n (nI 48) (nI 57) (n - s1) s1 := ⟨_, rfl⟩
          have LN : ∀ (k x : Nat) (v : Int32) (hh : ax_H), x + k = n → s1 ≤ x → xe = pRun b n (nI 48) (nI 57) k x → xNum b n s1 x v → hh.1 P = some (.inr (9, [.ref tx, .int (nI n), .int (nI x), .int (nI s1), .int v, .ref tk, .ref sc, .ref sa])) → (∀ q, q ≠ P → hh.1 q = h252.1 q) → hh.2 = h252.2 → ax_wf hh → ax_W Ω Γ 4 94 hh 190 [some (.ref P), some (.int (pAtB b n s1)), none] [] := by
            intro k
            induction k with
            | zero =>
              intro x v hh hk hsx hr hv gP frw z9 wfw
              have hr9 : xe = x := hr
              have hb9 : pIn (pAtB b n x) (nI 48) (nI 57) = false := by rw [show x = n by omega]; exact pAtB_n 48 57 (by decide)
              refine ax_aload_n (pc := 190) G dX11_advance_190 rfl rfl ?_
              refine ax_aload_n (pc := 191) G dX11_advance_191 rfl rfl ?_
              refine ax_getf (pc := 192) (v := .int (nI x)) G flX11_41_9 dX11_advance_192 (gP) rfl ?_
              refine ax_cV1 (pc := 195) (kb := 4) (nb := 94) G (ct_xat hA (gP) ((frw _ (by omega)).trans ((f252 _ (by omega)).trans ((f247 _ (by omega)).trans ((fr5 _ (by omega)).trans (hT))))) hb hn x (by omega)) lVX11_44_9 dX11_advance_195 (gP) rfl (by decide) (Nat.le_of_ble_eq_true rfl) rfl ?_
              refine ax_i2l (pc := 198) G dX11_advance_198 rfl ?_
              refine ax_ldc2 (pc := 199) G q1026 dX11_advance_199 ?_
              refine ax_ldc2 (pc := 202) G q1027 dX11_advance_202 ?_
              refine ax_cSN1 (pc := 205) (kb := 4) (nb := 94) G (ct_in hA ((pAtB b n x).toInt64) 48 57) lSX11_55 dX11_advance_205 rfl (by decide) (Nat.le_of_ble_eq_true rfl) rfl ?_
              rw [cIn_k (A := 48) (B := 57) (a := (nI 48)) (b := (nI 57)) (pAtB b n x) (by decide) (by decide)]
              refine ax_if_eq (pc := 208) (tgt := 252) G dX11_advance_208 rfl (fun _ => ?_) (fun c9 => absurd (by rw [hb9]; rfl) c9)
              refine ax_aload_n (pc := 252) G dX11_advance_252 rfl rfl ?_
              refine ax_aload_n (pc := 253) G dX11_advance_253 rfl rfl ?_
              refine ax_getf (pc := 254) (v := .int (nI x)) G flX11_41_9 dX11_advance_254 (gP) rfl ?_
              refine ax_aload_n (pc := 257) G dX11_advance_257 rfl rfl ?_
              refine ax_getf (pc := 258) (v := .int (nI s1)) G flX11_48_9 dX11_advance_258 (gP) rfl ?_
              refine ax_isubN (pc := 261) G dX11_advance_261 (by omega) ?_
              refine ax_iconst (pc := 262) (v := nI 4) G dX11_advance_262 ic_4 ?_
              refine ax_icmp_leN (pc := 263) (tgt := 271) G dX11_advance_263 rfl (by omega) (by omega) (fun c263 => ?_) (fun c263 => ?_)
              · refine ax_ldcS (pc := 271) G q1030 dX11_advance_271 ?_
                refine ax_putf (pc := 273) G flX11_11_9 dX11_advance_273 (gP) (by omega) (Nat.le_of_ble_eq_true rfl) rfl rfl ?_
                refine ax_hvS wfw (by omega) (fun h253 g253 f253 z253 w253 => ?_)
                replace g253 : h253.1 P = some (.inr (9, [.ref tx, .int (nI n), .int (nI x), .int (nI s1), .int v, .ref (Ω.2.2.2.1 "TelescopeQueue$Parser" 86), .ref sc, .ref sa])) := g253
                refine ax_goto (pc := 276) (tgt := 317) G dX11_advance_276 rfl ?_
                exact KF _ _ _ h253 (x, 3, s1, pVal b n s1 (n - s1) s1 (nI 0), 0, p) v (Ω.2.2.2.1 "TelescopeQueue$Parser" 86) (by rw [hκ, pTok, ← es1, pTokA, if_neg hs1n, if_neg (by rw [c68b]; decide), if_pos c182b, ← hx, hr9, if_pos (by omega)]) (g253) ⟨(hl86.1.frO wf hP (by decide) (fun q a1 a2 => (f253 _ (by omega)).trans ((frw _ (by omega)).trans ((f252 _ (by omega)).trans ((f247 _ (by omega)).trans ((fr5 _ (by omega)))))))).cg rfl (fun _ _ => rfl), fun _ => xNum_e hb9 hv (by omega)⟩ ⟨fun z => (by cases z), fun _ => hl86.2.frO wf hP (by decide) (fun q a1 a2 => (f253 _ (by omega)).trans ((frw _ (by omega)).trans ((f252 _ (by omega)).trans ((f247 _ (by omega)).trans ((fr5 _ (by omega)))))))⟩ (fun q a1 a2 => (f253 _ (by omega)).trans ((frw _ (by omega)).trans ((f252 _ (by omega)).trans ((f247 _ (by omega)).trans ((fr5 _ (by omega))))))) (by omega) (by omega) w253
              · refine ax_ldcS (pc := 266) G q1024 dX11_advance_266 ?_
                refine ax_goto (pc := 268) (tgt := 273) G dX11_advance_268 rfl ?_
                refine ax_putf (pc := 273) G flX11_11_9 dX11_advance_273 (gP) (by omega) (Nat.le_of_ble_eq_true rfl) rfl rfl ?_
                refine ax_hvS wfw (by omega) (fun h254 g254 f254 z254 w254 => ?_)
                replace g254 : h254.1 P = some (.inr (9, [.ref tx, .int (nI n), .int (nI x), .int (nI s1), .int v, .ref (Ω.2.2.2.1 "TelescopeQueue$Parser" 66), .ref sc, .ref sa])) := g254
                refine ax_goto (pc := 276) (tgt := 317) G dX11_advance_276 rfl ?_
                exact KF _ _ _ h254 (x, 0, s1, pVal b n s1 (n - s1) s1 (nI 0), 0, p) v (Ω.2.2.2.1 "TelescopeQueue$Parser" 66) (by rw [hκ, pTok, ← es1, pTokA, if_neg hs1n, if_neg (by rw [c68b]; decide), if_pos c182b, ← hx, hr9, if_neg (by omega)]) (g254) ⟨(hl66.1.frO wf hP (by decide) (fun q a1 a2 => (f254 _ (by omega)).trans ((frw _ (by omega)).trans ((f252 _ (by omega)).trans ((f247 _ (by omega)).trans ((fr5 _ (by omega)))))))).cg rfl (fun _ _ => rfl), fun z => by cases z⟩ ⟨fun z => (by cases z), fun _ => hl66.2.frO wf hP (by decide) (fun q a1 a2 => (f254 _ (by omega)).trans ((frw _ (by omega)).trans ((f252 _ (by omega)).trans ((f247 _ (by omega)).trans ((fr5 _ (by omega)))))))⟩ (fun q a1 a2 => (f254 _ (by omega)).trans ((frw _ (by omega)).trans ((f252 _ (by omega)).trans ((f247 _ (by omega)).trans ((fr5 _ (by omega))))))) (by omega) (by omega) w254
            | succ k ih =>
              intro x v hh hk hsx hr hv gP frw z9 wfw
              refine ax_aload_n (pc := 190) G dX11_advance_190 rfl rfl ?_
              refine ax_aload_n (pc := 191) G dX11_advance_191 rfl rfl ?_
              refine ax_getf (pc := 192) (v := .int (nI x)) G flX11_41_9 dX11_advance_192 (gP) rfl ?_
              refine ax_cV1 (pc := 195) (kb := 4) (nb := 94) G (ct_xat hA (gP) ((frw _ (by omega)).trans ((f252 _ (by omega)).trans ((f247 _ (by omega)).trans ((fr5 _ (by omega)).trans (hT))))) hb hn x (by omega)) lVX11_44_9 dX11_advance_195 (gP) rfl (by decide) (Nat.le_of_ble_eq_true rfl) rfl ?_
              refine ax_i2l (pc := 198) G dX11_advance_198 rfl ?_
              refine ax_ldc2 (pc := 199) G q1026 dX11_advance_199 ?_
              refine ax_ldc2 (pc := 202) G q1027 dX11_advance_202 ?_
              refine ax_cSN1 (pc := 205) (kb := 4) (nb := 94) G (ct_in hA ((pAtB b n x).toInt64) 48 57) lSX11_55 dX11_advance_205 rfl (by decide) (Nat.le_of_ble_eq_true rfl) rfl ?_
              rw [cIn_k (A := 48) (B := 57) (a := (nI 48)) (b := (nI 57)) (pAtB b n x) (by decide) (by decide)]
              refine ax_if_eq (pc := 208) (tgt := 252) G dX11_advance_208 rfl (fun c208 => ?_) (fun c208 => ?_)
              · have c208b := bI_f c208
                refine ax_aload_n (pc := 252) G dX11_advance_252 rfl rfl ?_
                refine ax_aload_n (pc := 253) G dX11_advance_253 rfl rfl ?_
                refine ax_getf (pc := 254) (v := .int (nI x)) G flX11_41_9 dX11_advance_254 (gP) rfl ?_
                refine ax_aload_n (pc := 257) G dX11_advance_257 rfl rfl ?_
                refine ax_getf (pc := 258) (v := .int (nI s1)) G flX11_48_9 dX11_advance_258 (gP) rfl ?_
                refine ax_isubN (pc := 261) G dX11_advance_261 (by omega) ?_
                refine ax_iconst (pc := 262) (v := nI 4) G dX11_advance_262 ic_4 ?_
                refine ax_icmp_leN (pc := 263) (tgt := 271) G dX11_advance_263 rfl (by omega) (by omega) (fun c263 => ?_) (fun c263 => ?_)
                · refine ax_ldcS (pc := 271) G q1030 dX11_advance_271 ?_
                  refine ax_putf (pc := 273) G flX11_11_9 dX11_advance_273 (gP) (by omega) (Nat.le_of_ble_eq_true rfl) rfl rfl ?_
                  refine ax_hvS wfw (by omega) (fun h255 g255 f255 z255 w255 => ?_)
                  replace g255 : h255.1 P = some (.inr (9, [.ref tx, .int (nI n), .int (nI x), .int (nI s1), .int v, .ref (Ω.2.2.2.1 "TelescopeQueue$Parser" 86), .ref sc, .ref sa])) := g255
                  refine ax_goto (pc := 276) (tgt := 317) G dX11_advance_276 rfl ?_
                  have hr9 : xe = x := by rw [hr, pRun, if_neg (by rw [c208b]; decide)]
                  have hb9 : pIn (pAtB b n x) (nI 48) (nI 57) = false := c208b
                  exact KF _ _ _ h255 (x, 3, s1, pVal b n s1 (n - s1) s1 (nI 0), 0, p) v (Ω.2.2.2.1 "TelescopeQueue$Parser" 86) (by rw [hκ, pTok, ← es1, pTokA, if_neg hs1n, if_neg (by rw [c68b]; decide), if_pos c182b, ← hx, hr9, if_pos (by omega)]) (g255) ⟨(hl86.1.frO wf hP (by decide) (fun q a1 a2 => (f255 _ (by omega)).trans ((frw _ (by omega)).trans ((f252 _ (by omega)).trans ((f247 _ (by omega)).trans ((fr5 _ (by omega)))))))).cg rfl (fun _ _ => rfl), fun _ => xNum_e hb9 hv (by omega)⟩ ⟨fun z => (by cases z), fun _ => hl86.2.frO wf hP (by decide) (fun q a1 a2 => (f255 _ (by omega)).trans ((frw _ (by omega)).trans ((f252 _ (by omega)).trans ((f247 _ (by omega)).trans ((fr5 _ (by omega)))))))⟩ (fun q a1 a2 => (f255 _ (by omega)).trans ((frw _ (by omega)).trans ((f252 _ (by omega)).trans ((f247 _ (by omega)).trans ((fr5 _ (by omega))))))) (by omega) (by omega) w255
                · refine ax_ldcS (pc := 266) G q1024 dX11_advance_266 ?_
                  refine ax_goto (pc := 268) (tgt := 273) G dX11_advance_268 rfl ?_
                  refine ax_putf (pc := 273) G flX11_11_9 dX11_advance_273 (gP) (by omega) (Nat.le_of_ble_eq_true rfl) rfl rfl ?_
                  refine ax_hvS wfw (by omega) (fun h256 g256 f256 z256 w256 => ?_)
                  replace g256 : h256.1 P = some (.inr (9, [.ref tx, .int (nI n), .int (nI x), .int (nI s1), .int v, .ref (Ω.2.2.2.1 "TelescopeQueue$Parser" 66), .ref sc, .ref sa])) := g256
                  refine ax_goto (pc := 276) (tgt := 317) G dX11_advance_276 rfl ?_
                  have hr9 : xe = x := by rw [hr, pRun, if_neg (by rw [c208b]; decide)]
                  have hb9 : pIn (pAtB b n x) (nI 48) (nI 57) = false := c208b
                  exact KF _ _ _ h256 (x, 0, s1, pVal b n s1 (n - s1) s1 (nI 0), 0, p) v (Ω.2.2.2.1 "TelescopeQueue$Parser" 66) (by rw [hκ, pTok, ← es1, pTokA, if_neg hs1n, if_neg (by rw [c68b]; decide), if_pos c182b, ← hx, hr9, if_neg (by omega)]) (g256) ⟨(hl66.1.frO wf hP (by decide) (fun q a1 a2 => (f256 _ (by omega)).trans ((frw _ (by omega)).trans ((f252 _ (by omega)).trans ((f247 _ (by omega)).trans ((fr5 _ (by omega)))))))).cg rfl (fun _ _ => rfl), fun z => by cases z⟩ ⟨fun z => (by cases z), fun _ => hl66.2.frO wf hP (by decide) (fun q a1 a2 => (f256 _ (by omega)).trans ((frw _ (by omega)).trans ((f252 _ (by omega)).trans ((f247 _ (by omega)).trans ((fr5 _ (by omega)))))))⟩ (fun q a1 a2 => (f256 _ (by omega)).trans ((frw _ (by omega)).trans ((f252 _ (by omega)).trans ((f247 _ (by omega)).trans ((fr5 _ (by omega))))))) (by omega) (by omega) w256
              · have c208b := bI_t c208
                refine ax_aload_n (pc := 211) G dX11_advance_211 rfl rfl ?_
                refine ax_ldc (pc := 212) G q1028 dX11_advance_212 ?_
                refine ax_bipush (pc := 214) (v := nI 10) G dX11_advance_214 ib_10 ?_
                refine ax_aload_n (pc := 216) G dX11_advance_216 rfl rfl ?_
                refine ax_getf (pc := 217) (v := .int v) G flX11_76_9 dX11_advance_217 (gP) rfl ?_
                refine ax_imul (pc := 220) G dX11_advance_220 ?_
                refine ax_aload_n (pc := 221) G dX11_advance_221 rfl rfl ?_
                refine ax_aload_n (pc := 222) G dX11_advance_222 rfl rfl ?_
                refine ax_getf (pc := 223) (v := .int (nI x)) G flX11_41_9 dX11_advance_223 (gP) rfl ?_
                refine ax_cV1 (pc := 226) (kb := 4) (nb := 94) G (ct_xat hA (gP) ((frw _ (by omega)).trans ((f252 _ (by omega)).trans ((f247 _ (by omega)).trans ((fr5 _ (by omega)).trans (hT))))) hb hn x (by omega)) lVX11_44_9 dX11_advance_226 (gP) rfl (by decide) (Nat.le_of_ble_eq_true rfl) rfl ?_
                have hxl := xAt_in (by decide) c208b
                refine ax_top (show Value.int (pAtB b n x) = .int (nI (β x)) from congrArg Value.int (xAt_i hβ hxl)) ?_
                refine ax_iadd (pc := 229) G dX11_advance_229 ?_
                refine ax_bipush (pc := 230) (v := nI 48) G dX11_advance_230 ib_48 ?_
                refine ax_isub (pc := 232) G dX11_advance_232 ?_
                refine ax_min (pc := 233) G q1029 q340 q132 q341 (by decide) (Nat.le_of_ble_eq_true rfl) dX11_advance_233 ?_
                refine ax_putf (pc := 236) G flX11_76_9 dX11_advance_236 (gP) (by omega) (Nat.le_of_ble_eq_true rfl) rfl rfl ?_
                refine ax_hvS wfw (by omega) (fun h257 g257 f257 z257 w257 => ?_)
                replace g257 : h257.1 P = some (.inr (9, [.ref tx, .int (nI n), .int (nI x), .int (nI s1), .int (iMin 99999 ((((nI 10) * v) + (nI (β x))) - (nI 48))), .ref tk, .ref sc, .ref sa])) := g257
                refine ax_aload_n (pc := 239) G dX11_advance_239 rfl rfl ?_
                refine ax_dup (pc := 240) G dX11_advance_240 rfl ?_
                refine ax_getf (pc := 241) (v := .int (nI x)) G flX11_41_9 dX11_advance_241 (g257) rfl ?_
                refine ax_iconst (pc := 244) (v := nI 1) G dX11_advance_244 ic_1 ?_
                refine ax_iaddN (pc := 245) G dX11_advance_245 ?_
                refine ax_putf (pc := 246) G flX11_41_9 dX11_advance_246 (g257) (by omega) (Nat.le_of_ble_eq_true rfl) rfl rfl ?_
                refine ax_hvS w257 (by omega) (fun h258 g258 f258 z258 w258 => ?_)
                replace g258 : h258.1 P = some (.inr (9, [.ref tx, .int (nI n), .int (nI (x + 1)), .int (nI s1), .int (iMin 99999 ((((nI 10) * v) + (nI (β x))) - (nI 48))), .ref tk, .ref sc, .ref sa])) := g258
                refine ax_goto (pc := 249) (tgt := 190) G dX11_advance_249 rfl ?_
                have hrs : xe = pRun b n (nI 48) (nI 57) k (x + 1) := by rw [hr, pRun, if_pos c208b]
                exact ih (x + 1) _ h258 (by omega) (by omega) hrs (xNum_s hβ hsx hv c208b) (g258) (fun q a1 => (f258 _ (by omega)).trans ((f257 _ (by omega)).trans ((frw _ (by omega))))) (by omega) w258
          exact LN (n - s1) s1 _ h252 (by omega) (Nat.le_refl _) hx xNum_0 (g252) (fun _ _ => rfl) rfl w252
      · have c68b := bI_t c68
        refine ax_new (pc := 71) (ci := 18) (kb := 3) (nb := 90) G [.null, .int (nI 0), .int (nI 0), .int (nI 0)] dX11_advance_71 rfl cok_J8 rfl q1000 q267 q128 (fun j hj => by match j, hj with | 0, _ => rfl | 1, _ => rfl | 2, _ => rfl | 3, _ => rfl) ?_
        refine ax_hvA w247 (fun h259 g259 f259 z259 w259 => ?_)
        refine ax_dup (pc := 74) G dX11_advance_74 rfl ?_
        refine ax_nI (pc := 75) (kb := 2) (nb := 74) G (ct_binitZ hA w259 (by omega) (g259) (by omega)) lIX11_61 dX11_advance_75 rfl (by decide) (Nat.le_of_ble_eq_true rfl) rfl (fun v260 h260 q9 => ?_)
        obtain ⟨rfl, s260, f260, z260, w260⟩ := q9
        show ax_W Ω Γ _ _ (h260) _ _ (_)
        refine ax_astore_n (pc := 78) G dX11_advance_78 rfl (Nat.le_of_ble_eq_true rfl) rfl ?_
        obtain ⟨eB, heB⟩ : ∃ e, e = h259.2 := ⟨_, rfl⟩
        have hSZ0 : sZ h260 h247.2 eB 0 (fun i => β (s1 + i)) := by rw [heB]; exact (s260).cg (fun i hi => absurd hi (Nat.not_lt_zero i))
        have hPB : P ≠ h247.2 := by omega
        have hPeB : P ≠ eB := by omega
        have htB : tx ≠ h247.2 := by omega
        have hteB : tx ≠ eB := by omega
        have hbB9 : Ω.2.1.heap.size ≤ h247.2 := by omega
        have hbe9 : Ω.2.1.heap.size ≤ eB := by omega
        obtain ⟨xe, hx⟩ : ∃ x, x = pRun b n (nI 97) (nI 122) (n - s1) s1 := ⟨_, rfl⟩
        have LW : ∀ (k x c : Nat) (hh : ax_H), x + k = n → s1 ≤ x → xe = pRun b n (nI 97) (nI 122) k x → hh.1 P = some (.inr (9, [.ref tx, .int (nI n), .int (nI x), .int (nI s1), .int nm, .ref tk, .ref sc, .ref sa])) → sZ hh h247.2 eB c (fun i => β (s1 + i)) → ((c = x - s1 ∧ x - s1 ≤ 9) ∨ (c = 9 ∧ 9 ≤ x - s1)) → (∀ q, q ≠ P → q ≠ h247.2 → q ≠ eB → hh.1 q = h260.1 q) → hh.2 = h260.2 → ax_wf hh → ax_W Ω Γ 2 74 hh 79 [some (.ref P), some (.int (pAtB b n s1)), some (.ref h247.2)] [] := by
          intro k
          induction k with
          | zero =>
            intro x c hh hk hsx hr gP hS hc frw z9 wfw
            have hr9 : xe = x := hr
            have hb0 : pIn (pAtB b n x) (nI 97) (nI 122) = false := by rw [show x = n by omega]; exact pAtB_n 97 122 (by decide)
            refine ax_aload_n (pc := 79) G dX11_advance_79 rfl rfl ?_
            refine ax_aload_n (pc := 80) G dX11_advance_80 rfl rfl ?_
            refine ax_getf (pc := 81) (v := .int (nI x)) G flX11_41_9 dX11_advance_81 (gP) rfl ?_
            refine ax_cV1 (pc := 84) (kb := 2) (nb := 74) G (ct_xat hA (gP) ((frw _ (by omega) (by omega) (by omega)).trans ((f260 _ (by omega) (by omega)).trans ((f259 _ (by omega)).trans ((f247 _ (by omega)).trans ((fr5 _ (by omega)).trans (hT)))))) hb hn x (by omega)) lVX11_44_9 dX11_advance_84 (gP) rfl (by decide) (Nat.le_of_ble_eq_true rfl) rfl ?_
            refine ax_i2l (pc := 87) G dX11_advance_87 rfl ?_
            refine ax_ldc2 (pc := 88) G q997 dX11_advance_88 ?_
            refine ax_ldc2 (pc := 91) G q998 dX11_advance_91 ?_
            refine ax_cSN1 (pc := 94) (kb := 2) (nb := 74) G (ct_in hA ((pAtB b n x).toInt64) 97 122) lSX11_55 dX11_advance_94 rfl (by decide) (Nat.le_of_ble_eq_true rfl) rfl ?_
            rw [cIn_k (A := 97) (B := 122) (a := (nI 97)) (b := (nI 122)) (pAtB b n x) (by decide) (by decide)]
            refine ax_if_eq (pc := 97) (tgt := 141) G dX11_advance_97 rfl (fun _ => ?_) (fun c9 => absurd (by rw [hb0]; rfl) c9)
            refine ax_aload_n (pc := 141) G dX11_advance_141 rfl rfl ?_
            refine ax_aload_n (pc := 142) G dX11_advance_142 rfl rfl ?_
            refine ax_getf (pc := 143) (v := .int (nI x)) G flX11_41_9 dX11_advance_143 (gP) rfl ?_
            refine ax_aload_n (pc := 146) G dX11_advance_146 rfl rfl ?_
            refine ax_getf (pc := 147) (v := .int (nI s1)) G flX11_48_9 dX11_advance_147 (gP) rfl ?_
            refine ax_isubN (pc := 150) G dX11_advance_150 (by omega) ?_
            refine ax_bipush (pc := 151) (v := nI 8) G dX11_advance_151 ib_8 ?_
            refine ax_icmp_leN (pc := 153) (tgt := 161) G dX11_advance_153 rfl (by omega) (by omega) (fun c153 => ?_) (fun c153 => ?_)
            · refine ax_aload_n (pc := 161) G dX11_advance_161 rfl rfl ?_
              refine ax_nV (pc := 162) (kb := 0) (nb := 0) G (ct_btoStr hA wfw (by omega) (hS.B) (by omega)) lVX11_68_18 dX11_advance_162 (hS.o.choose_spec) rfl (by decide) (Nat.le_of_ble_eq_true rfl) rfl (fun v261 h261 q9 => ?_)
              obtain ⟨rfl, g261, p261, f261, z261, w261⟩ := q9
              show ax_W Ω Γ _ _ (h261) _ _ (.ref hh.2 :: _)
              refine ax_putf (pc := 165) G flX11_11_9 dX11_advance_165 ((f261 _ (by omega) ).trans (gP)) (by omega) (Nat.le_of_ble_eq_true rfl) rfl rfl ?_
              refine ax_hvS w261 (by omega) (fun h262 g262 f262 z262 w262 => ?_)
              replace g262 : h262.1 P = some (.inr (9, [.ref tx, .int (nI n), .int (nI x), .int (nI s1), .int nm, .ref hh.2, .ref sc, .ref sa])) := g262
              refine ax_goto (pc := 168) (tgt := 317) G dX11_advance_168 rfl ?_
              exact KF _ _ _ h262 (x, 2, s1, vl, 0, p) nm hh.2 (by rw [hκ, pTok, ← es1, pTokA, if_neg hs1n, if_pos c68b, ← hx, hr9, if_pos (by omega)]) (g262) ⟨(sStr.frO (h := h261) (P := P) ⟨hh.2 + 1, nI 0, nI 0, p261.choose, g261, p261.choose_spec.1, p261.choose_spec.2.1, p261.choose_spec.2.2⟩ w261 ((f261 _ (by omega) ).trans (gP)) (by decide) (fun q a1 a2 => (f262 _ (by omega)))).cg (by show c = x - s1; omega) (fun _ _ => rfl), fun z => by cases z⟩ ⟨fun _ => ⟨by omega, hh.2 + 1, by omega, ((f262 _ (by omega))).trans g261⟩, fun z => absurd rfl z⟩ (fun q a1 a2 => (f262 _ (by omega)).trans ((f261 _ (by omega) ).trans ((frw _ (by omega) (by omega) (by omega)).trans ((f260 _ (by omega) (by omega)).trans ((f259 _ (by omega)).trans ((f247 _ (by omega)).trans ((fr5 _ (by omega))))))))) (by omega) (by omega) w262
            · refine ax_ldcS (pc := 156) G q1024 dX11_advance_156 ?_
              refine ax_goto (pc := 158) (tgt := 165) G dX11_advance_158 rfl ?_
              refine ax_putf (pc := 165) G flX11_11_9 dX11_advance_165 (gP) (by omega) (Nat.le_of_ble_eq_true rfl) rfl rfl ?_
              refine ax_hvS wfw (by omega) (fun h263 g263 f263 z263 w263 => ?_)
              replace g263 : h263.1 P = some (.inr (9, [.ref tx, .int (nI n), .int (nI x), .int (nI s1), .int nm, .ref (Ω.2.2.2.1 "TelescopeQueue$Parser" 66), .ref sc, .ref sa])) := g263
              refine ax_goto (pc := 168) (tgt := 317) G dX11_advance_168 rfl ?_
              exact KF _ _ _ h263 (x, 0, s1, vl, 0, p) nm (Ω.2.2.2.1 "TelescopeQueue$Parser" 66) (by rw [hκ, pTok, ← es1, pTokA, if_neg hs1n, if_pos c68b, ← hx, hr9, if_neg (by omega)]) (g263) ⟨(hl66.1.frO wf hP (by decide) (fun q a1 a2 => (f263 _ (by omega)).trans ((frw _ (by omega) (by omega) (by omega)).trans ((f260 _ (by omega) (by omega)).trans ((f259 _ (by omega)).trans ((f247 _ (by omega)).trans ((fr5 _ (by omega))))))))).cg rfl (fun _ _ => rfl), fun z => by cases z⟩ ⟨fun z => (by cases z), fun _ => hl66.2.frO wf hP (by decide) (fun q a1 a2 => (f263 _ (by omega)).trans ((frw _ (by omega) (by omega) (by omega)).trans ((f260 _ (by omega) (by omega)).trans ((f259 _ (by omega)).trans ((f247 _ (by omega)).trans ((fr5 _ (by omega))))))))⟩ (fun q a1 a2 => (f263 _ (by omega)).trans ((frw _ (by omega) (by omega) (by omega)).trans ((f260 _ (by omega) (by omega)).trans ((f259 _ (by omega)).trans ((f247 _ (by omega)).trans ((fr5 _ (by omega)))))))) (by omega) (by omega) w263
          | succ k ih =>
            intro x c hh hk hsx hr gP hS hc frw z9 wfw
            refine ax_aload_n (pc := 79) G dX11_advance_79 rfl rfl ?_
            refine ax_aload_n (pc := 80) G dX11_advance_80 rfl rfl ?_
            refine ax_getf (pc := 81) (v := .int (nI x)) G flX11_41_9 dX11_advance_81 (gP) rfl ?_
            refine ax_cV1 (pc := 84) (kb := 2) (nb := 74) G (ct_xat hA (gP) ((frw _ (by omega) (by omega) (by omega)).trans ((f260 _ (by omega) (by omega)).trans ((f259 _ (by omega)).trans ((f247 _ (by omega)).trans ((fr5 _ (by omega)).trans (hT)))))) hb hn x (by omega)) lVX11_44_9 dX11_advance_84 (gP) rfl (by decide) (Nat.le_of_ble_eq_true rfl) rfl ?_
            refine ax_i2l (pc := 87) G dX11_advance_87 rfl ?_
            refine ax_ldc2 (pc := 88) G q997 dX11_advance_88 ?_
            refine ax_ldc2 (pc := 91) G q998 dX11_advance_91 ?_
            refine ax_cSN1 (pc := 94) (kb := 2) (nb := 74) G (ct_in hA ((pAtB b n x).toInt64) 97 122) lSX11_55 dX11_advance_94 rfl (by decide) (Nat.le_of_ble_eq_true rfl) rfl ?_
            rw [cIn_k (A := 97) (B := 122) (a := (nI 97)) (b := (nI 122)) (pAtB b n x) (by decide) (by decide)]
            refine ax_if_eq (pc := 97) (tgt := 141) G dX11_advance_97 rfl (fun c97 => ?_) (fun c97 => ?_)
            · have c97b := bI_f c97
              refine ax_aload_n (pc := 141) G dX11_advance_141 rfl rfl ?_
              refine ax_aload_n (pc := 142) G dX11_advance_142 rfl rfl ?_
              refine ax_getf (pc := 143) (v := .int (nI x)) G flX11_41_9 dX11_advance_143 (gP) rfl ?_
              refine ax_aload_n (pc := 146) G dX11_advance_146 rfl rfl ?_
              refine ax_getf (pc := 147) (v := .int (nI s1)) G flX11_48_9 dX11_advance_147 (gP) rfl ?_
              refine ax_isubN (pc := 150) G dX11_advance_150 (by omega) ?_
              refine ax_bipush (pc := 151) (v := nI 8) G dX11_advance_151 ib_8 ?_
              refine ax_icmp_leN (pc := 153) (tgt := 161) G dX11_advance_153 rfl (by omega) (by omega) (fun c153 => ?_) (fun c153 => ?_)
              · refine ax_aload_n (pc := 161) G dX11_advance_161 rfl rfl ?_
                refine ax_nV (pc := 162) (kb := 0) (nb := 0) G (ct_btoStr hA wfw (by omega) (hS.B) (by omega)) lVX11_68_18 dX11_advance_162 (hS.o.choose_spec) rfl (by decide) (Nat.le_of_ble_eq_true rfl) rfl (fun v264 h264 q9 => ?_)
                obtain ⟨rfl, g264, p264, f264, z264, w264⟩ := q9
                show ax_W Ω Γ _ _ (h264) _ _ (.ref hh.2 :: _)
                refine ax_putf (pc := 165) G flX11_11_9 dX11_advance_165 ((f264 _ (by omega) ).trans (gP)) (by omega) (Nat.le_of_ble_eq_true rfl) rfl rfl ?_
                refine ax_hvS w264 (by omega) (fun h265 g265 f265 z265 w265 => ?_)
                replace g265 : h265.1 P = some (.inr (9, [.ref tx, .int (nI n), .int (nI x), .int (nI s1), .int nm, .ref hh.2, .ref sc, .ref sa])) := g265
                refine ax_goto (pc := 168) (tgt := 317) G dX11_advance_168 rfl ?_
                have hr9 : xe = x := by rw [hr, pRun, if_neg (by rw [c97b]; decide)]
                exact KF _ _ _ h265 (x, 2, s1, vl, 0, p) nm hh.2 (by rw [hκ, pTok, ← es1, pTokA, if_neg hs1n, if_pos c68b, ← hx, hr9, if_pos (by omega)]) (g265) ⟨(sStr.frO (h := h264) (P := P) ⟨hh.2 + 1, nI 0, nI 0, p264.choose, g264, p264.choose_spec.1, p264.choose_spec.2.1, p264.choose_spec.2.2⟩ w264 ((f264 _ (by omega) ).trans (gP)) (by decide) (fun q a1 a2 => (f265 _ (by omega)))).cg (by show c = x - s1; omega) (fun _ _ => rfl), fun z => by cases z⟩ ⟨fun _ => ⟨by omega, hh.2 + 1, by omega, ((f265 _ (by omega))).trans g264⟩, fun z => absurd rfl z⟩ (fun q a1 a2 => (f265 _ (by omega)).trans ((f264 _ (by omega) ).trans ((frw _ (by omega) (by omega) (by omega)).trans ((f260 _ (by omega) (by omega)).trans ((f259 _ (by omega)).trans ((f247 _ (by omega)).trans ((fr5 _ (by omega))))))))) (by omega) (by omega) w265
              · refine ax_ldcS (pc := 156) G q1024 dX11_advance_156 ?_
                refine ax_goto (pc := 158) (tgt := 165) G dX11_advance_158 rfl ?_
                refine ax_putf (pc := 165) G flX11_11_9 dX11_advance_165 (gP) (by omega) (Nat.le_of_ble_eq_true rfl) rfl rfl ?_
                refine ax_hvS wfw (by omega) (fun h266 g266 f266 z266 w266 => ?_)
                replace g266 : h266.1 P = some (.inr (9, [.ref tx, .int (nI n), .int (nI x), .int (nI s1), .int nm, .ref (Ω.2.2.2.1 "TelescopeQueue$Parser" 66), .ref sc, .ref sa])) := g266
                refine ax_goto (pc := 168) (tgt := 317) G dX11_advance_168 rfl ?_
                have hr9 : xe = x := by rw [hr, pRun, if_neg (by rw [c97b]; decide)]
                exact KF _ _ _ h266 (x, 0, s1, vl, 0, p) nm (Ω.2.2.2.1 "TelescopeQueue$Parser" 66) (by rw [hκ, pTok, ← es1, pTokA, if_neg hs1n, if_pos c68b, ← hx, hr9, if_neg (by omega)]) (g266) ⟨(hl66.1.frO wf hP (by decide) (fun q a1 a2 => (f266 _ (by omega)).trans ((frw _ (by omega) (by omega) (by omega)).trans ((f260 _ (by omega) (by omega)).trans ((f259 _ (by omega)).trans ((f247 _ (by omega)).trans ((fr5 _ (by omega))))))))).cg rfl (fun _ _ => rfl), fun z => by cases z⟩ ⟨fun z => (by cases z), fun _ => hl66.2.frO wf hP (by decide) (fun q a1 a2 => (f266 _ (by omega)).trans ((frw _ (by omega) (by omega) (by omega)).trans ((f260 _ (by omega) (by omega)).trans ((f259 _ (by omega)).trans ((f247 _ (by omega)).trans ((fr5 _ (by omega))))))))⟩ (fun q a1 a2 => (f266 _ (by omega)).trans ((frw _ (by omega) (by omega) (by omega)).trans ((f260 _ (by omega) (by omega)).trans ((f259 _ (by omega)).trans ((f247 _ (by omega)).trans ((fr5 _ (by omega)))))))) (by omega) (by omega) w266
            · have c97b := bI_t c97
              refine ax_aload_n (pc := 100) G dX11_advance_100 rfl rfl ?_
              refine ax_getf (pc := 101) (v := .int (nI x)) G flX11_41_9 dX11_advance_101 (gP) rfl ?_
              refine ax_aload_n (pc := 104) G dX11_advance_104 rfl rfl ?_
              refine ax_getf (pc := 105) (v := .int (nI s1)) G flX11_48_9 dX11_advance_105 (gP) rfl ?_
              refine ax_isubN (pc := 108) G dX11_advance_108 (by omega) ?_
              refine ax_bipush (pc := 109) (v := nI 8) G dX11_advance_109 ib_8 ?_
              refine ax_icmp_gtN (pc := 111) (tgt := 128) G dX11_advance_111 rfl (by omega) (by omega) (fun c111 => ?_) (fun c111 => ?_)
              · refine ax_aload_n (pc := 128) G dX11_advance_128 rfl rfl ?_
                refine ax_dup (pc := 129) G dX11_advance_129 rfl ?_
                refine ax_getf (pc := 130) (v := .int (nI x)) G flX11_41_9 dX11_advance_130 (gP) rfl ?_
                refine ax_iconst (pc := 133) (v := nI 1) G dX11_advance_133 ic_1 ?_
                refine ax_iaddN (pc := 134) G dX11_advance_134 ?_
                refine ax_putf (pc := 135) G flX11_41_9 dX11_advance_135 (gP) (by omega) (Nat.le_of_ble_eq_true rfl) rfl rfl ?_
                refine ax_hvS wfw (by omega) (fun h267 g267 f267 z267 w267 => ?_)
                replace g267 : h267.1 P = some (.inr (9, [.ref tx, .int (nI n), .int (nI (x + 1)), .int (nI s1), .int nm, .ref tk, .ref sc, .ref sa])) := g267
                refine ax_goto (pc := 138) (tgt := 79) G dX11_advance_138 rfl ?_
                have hrs : xe = pRun b n (nI 97) (nI 122) k (x + 1) := by rw [hr, pRun, if_pos c97b]
                exact ih (x + 1) (c) h267 (by omega) (by omega) hrs (g267) (sZ.fr (hS) ((f267 _ (by omega))) ((f267 _ (by omega)))) (by omega) (fun q a1 a2 a3 => (f267 _ (by omega)).trans ((frw _ (by omega) (by omega) (by omega)))) (by omega) w267
              · refine ax_aload_n (pc := 114) G dX11_advance_114 rfl rfl ?_
                refine ax_aload_n (pc := 115) G dX11_advance_115 rfl rfl ?_
                refine ax_aload_n (pc := 116) G dX11_advance_116 rfl rfl ?_
                refine ax_getf (pc := 117) (v := .int (nI x)) G flX11_41_9 dX11_advance_117 (gP) rfl ?_
                refine ax_cV1 (pc := 120) (kb := 2) (nb := 74) G (ct_xat hA (gP) ((frw _ (by omega) (by omega) (by omega)).trans ((f260 _ (by omega) (by omega)).trans ((f259 _ (by omega)).trans ((f247 _ (by omega)).trans ((fr5 _ (by omega)).trans (hT)))))) hb hn x (by omega)) lVX11_44_9 dX11_advance_120 (gP) rfl (by decide) (Nat.le_of_ble_eq_true rfl) rfl ?_
                have hxl := xAt_in (by decide) c97b
                refine ax_top (show Value.int (pAtB b n x) = .int (nI (β x)) from congrArg Value.int (xAt_i hβ hxl)) ?_
                refine ax_i2c (pc := 123) G dX11_advance_123 rfl ?_
                refine ax_top (show Value.int (((nI (β x)).toUInt32 % 65536).toInt32) = .int (nI (β x)) from congrArg Value.int (xChar (hβ x).2)) ?_
                refine ax_nV (pc := 124) (kb := 2) (nb := 74) G (ct_bapp8Z hA wfw (by omega) hS hbB9 hbe9 (β x) (hβ x).2 (by omega)) lVX11_62_18 dX11_advance_124 (hS.o.choose_spec) rfl (by decide) (Nat.le_of_ble_eq_true rfl) rfl (fun v268 h268 q9 => ?_)
                obtain ⟨rfl, s268, f268, z268, w268⟩ := q9
                show ax_W Ω Γ _ _ (h268) _ _ (.ref h247.2 :: _)
                refine ax_pop (pc := 127) G dX11_advance_127 rfl ?_
                refine ax_aload_n (pc := 128) G dX11_advance_128 rfl rfl ?_
                refine ax_dup (pc := 129) G dX11_advance_129 rfl ?_
                refine ax_getf (pc := 130) (v := .int (nI x)) G flX11_41_9 dX11_advance_130 ((f268 _ (by omega) (by omega)).trans (gP)) rfl ?_
                refine ax_iconst (pc := 133) (v := nI 1) G dX11_advance_133 ic_1 ?_
                refine ax_iaddN (pc := 134) G dX11_advance_134 ?_
                refine ax_putf (pc := 135) G flX11_41_9 dX11_advance_135 ((f268 _ (by omega) (by omega)).trans (gP)) (by omega) (Nat.le_of_ble_eq_true rfl) rfl rfl ?_
                refine ax_hvS w268 (by omega) (fun h269 g269 f269 z269 w269 => ?_)
                replace g269 : h269.1 P = some (.inr (9, [.ref tx, .int (nI n), .int (nI (x + 1)), .int (nI s1), .int nm, .ref tk, .ref sc, .ref sa])) := g269
                refine ax_goto (pc := 138) (tgt := 79) G dX11_advance_138 rfl ?_
                have hrs : xe = pRun b n (nI 97) (nI 122) k (x + 1) := by rw [hr, pRun, if_pos c97b]
                exact ih (x + 1) (c + 1) h269 (by omega) (by omega) hrs (g269) (sZ.fr (s268.cg (fun i hi => xCat hi (by omega))) ((f269 _ (by omega))) ((f269 _ (by omega)))) (by omega) (fun q a1 a2 a3 => (f269 _ (by omega)).trans ((f268 _ (by omega) (by omega)).trans ((frw _ (by omega) (by omega) (by omega))))) (by omega) w269
        exact LW (n - s1) s1 0 h260 (by omega) (Nat.le_refl _) hx ((f260 _ (by omega) (by omega)).trans ((f259 _ (by omega)).trans (g247))) hSZ0 (Or.inl ⟨by omega, by omega⟩) (fun _ _ _ _ => rfl) rfl w260
    · have hs1 : s1 = n := by have := (xAt_m hβ).mp c45; omega
      refine ax_aload_n (pc := 48) G dX11_advance_48 rfl rfl ?_
      refine ax_ldcS (pc := 49) G q886 dX11_advance_49 ?_
      refine ax_putf (pc := 51) G flX11_11_9 dX11_advance_51 (g247) (by omega) (Nat.le_of_ble_eq_true rfl) rfl rfl ?_
      refine ax_hvS w247 (by omega) (fun h270 g270 f270 z270 w270 => ?_)
      replace g270 : h270.1 P = some (.inr (9, [.ref tx, .int (nI n), .int (nI s1), .int (nI s1), .int nm, .ref (Ω.2.2.2.1 "TelescopeQueue$Parser" 9), .ref sc, .ref sa])) := g270
      refine ax_goto (pc := 54) (tgt := 317) G dX11_advance_54 rfl ?_
      exact KF _ _ _ h270 (s1, 1, s1, vl, 0, p) nm (Ω.2.2.2.1 "TelescopeQueue$Parser" 9) (by rw [hκ, pTok, ← es1, pTokA, if_pos hs1]) (g270) ⟨(hl9.1.frO wf hP (by decide) (fun q a1 a2 => (f270 _ (by omega)).trans ((f247 _ (by omega)).trans ((fr5 _ (by omega)))))).cg rfl (fun i hi => absurd hi (Nat.not_lt_zero i)), fun z => by cases z⟩ ⟨fun z => (by cases z), fun _ => hl9.2.frO wf hP (by decide) (fun q a1 a2 => (f270 _ (by omega)).trans ((f247 _ (by omega)).trans ((fr5 _ (by omega)))))⟩ (fun q a1 a2 => (f270 _ (by omega)).trans ((f247 _ (by omega)).trans ((fr5 _ (by omega))))) (by omega) (by omega) w270
  have L5 : ∀ (k i : Nat) (hh5 : ax_H), i + k = n → s1 = pSkip b n k i → hh5.1 P = some (.inr (9, [.ref tx, .int (nI n), .int (nI i), .int (nI st), .int nm, .ref tk, .ref sc, .ref sa])) → (∀ q, q ≠ P → hh5.1 q = h.1 q) → hh5.2 = h.2 → ax_wf hh5 → ax_W Ω Γ 4 94 hh5 0 [some (.ref P), none, none] [] := by
    intro k
    induction k with
    | zero =>
      intro i hh5 hi hs gk5 fr5 zr5 wr5
      refine ax_aload_n (pc := 0) G dX11_advance_0 rfl rfl ?_
      refine ax_aload_n (pc := 1) G dX11_advance_1 rfl rfl ?_
      refine ax_getf (pc := 2) (v := .int (nI i)) G flX11_41_9 dX11_advance_2 (gk5) rfl ?_
      refine ax_cV1 (pc := 5) (kb := 4) (nb := 94) G (ct_xat hA (gk5) ((fr5 _ (by omega)).trans (hT)) hb hn i (by omega)) lVX11_44_9 dX11_advance_5 (gk5) rfl (by decide) (Nat.le_of_ble_eq_true rfl) rfl ?_
      refine ax_bipush (pc := 8) (v := nI 32) G dX11_advance_8 ib_32 ?_
      refine ax_icmp_ne (pc := 10) (tgt := 26) G dX11_advance_10 rfl (fun _ => ?_) (fun c9 => absurd c9 (fun z => pAtB_s (by rw [show n = i from by omega] at *; exact z)))
      have hs9 : s1 = i := hs
      exact K5 hh5 (by rw [hs9]; exact gk5) (fun q a0 => (fr5 _ (by omega))) (by omega) wr5
    | succ k ih =>
      intro i hh5 hi hs gk5 fr5 zr5 wr5
      refine ax_aload_n (pc := 0) G dX11_advance_0 rfl rfl ?_
      refine ax_aload_n (pc := 1) G dX11_advance_1 rfl rfl ?_
      refine ax_getf (pc := 2) (v := .int (nI i)) G flX11_41_9 dX11_advance_2 (gk5) rfl ?_
      refine ax_cV1 (pc := 5) (kb := 4) (nb := 94) G (ct_xat hA (gk5) ((fr5 _ (by omega)).trans (hT)) hb hn i (by omega)) lVX11_44_9 dX11_advance_5 (gk5) rfl (by decide) (Nat.le_of_ble_eq_true rfl) rfl ?_
      refine ax_bipush (pc := 8) (v := nI 32) G dX11_advance_8 ib_32 ?_
      refine ax_icmp_ne (pc := 10) (tgt := 26) G dX11_advance_10 rfl (fun c10 => ?_) (fun c10 => ?_)
      · have hs9 : s1 = i := by rw [hs, pSkip, if_neg c10]
        exact K5 hh5 (by rw [hs9]; exact gk5) (fun q a0 => (fr5 _ (by omega))) (by omega) wr5
      · refine ax_aload_n (pc := 13) G dX11_advance_13 rfl rfl ?_
        refine ax_dup (pc := 14) G dX11_advance_14 rfl ?_
        refine ax_getf (pc := 15) (v := .int (nI i)) G flX11_41_9 dX11_advance_15 (gk5) rfl ?_
        refine ax_iconst (pc := 18) (v := nI 1) G dX11_advance_18 ic_1 ?_
        refine ax_iaddN (pc := 19) G dX11_advance_19 ?_
        refine ax_putf (pc := 20) G flX11_41_9 dX11_advance_20 (gk5) (by omega) (Nat.le_of_ble_eq_true rfl) rfl rfl ?_
        refine ax_hvS wr5 (by omega) (fun h271 g271 f271 z271 w271 => ?_)
        replace g271 : h271.1 P = some (.inr (9, [.ref tx, .int (nI n), .int (nI (i + 1)), .int (nI st), .int nm, .ref tk, .ref sc, .ref sa])) := g271
        refine ax_goto (pc := 23) (tgt := 0) G dX11_advance_23 rfl ?_
        have hs9 : s1 = pSkip b n k (i + 1) := by rw [hs, pSkip, if_pos c10]
        exact ih (i + 1) h271 (by omega) hs9 (g271) (fun q a0 => (f271 _ (by omega)).trans ((fr5 _ (by omega)))) (by omega) w271
  exact L5 (n - nx) nx h (by omega) es1 (hP) (fun q a0 => rfl) rfl wf

