/-! THE COMPONENT: a line -/
set_option maxHeartbeats 8000000 in
theorem ct_xline {Ω : ax_O} (hA : ax_Amb Ω) {h : ax_H} (wf : ax_wf h) (hz : Ω.2.1.heap.size ≤ h.2) {P tx n sc sa : Nat} {tb b : Nat → Int32} {β : Nat → Nat} (hbP : Ω.2.1.heap.size ≤ P) (hEn : xEn Ω h tx n tb b β) {κ : pK} (hP : xPs h P tx n sc sa β κ) (hK : xK n β κ) {z : Nat} (hΩz : Ω.2.1.heap.size ≤ z) (hzP : z ≤ P) (hPh : xPh z h P tx n sc sa κ) {Lp Lv Lo La : Nat} {rs rs9 : List Value} {x0 x1 : Value} (hsc : h.1 sc = some (.inr (10, .ref Lp :: .ref Lv :: .ref Lo :: rs))) (hsa : h.1 sa = some (.inr (1, x0 :: x1 :: .ref La :: rs9))) (hd : xLd z Lp Lv Lo La) {f g : pR} {N V A O : Nat} (hT : xTh h z Lp Lv Lo La f g N V A O) (hC : rC f g N V A O) {ψ : rS} (hψ : ψ = rLine b n κ f g N V A O) : ax_MetP Ω yX11_line 16 70 1700 [.ref P] h (xOutT h z P tx n sc sa β ψ.1 (fun h' => xEn Ω h' tx n tb b β ∧ ∃ N' V' A' O', rC ψ.2.1 ψ.2.2 N' V' A' O' ∧ N' + V' + A' + O' = N + V + A + O + 1 ∧ xLo f g ψ.2.1 ψ.2.2 ∧ xTh h' z Lp Lv Lo La ψ.2.1 ψ.2.2 N' V' A' O')) := by
  refine ax_metP q1103 q145 (by decide +kernel) (by decide) hA (Nat.le_of_ble_eq_true rfl) (fun Γ G E => ?_)
  show ax_W Ω Γ 70 1700 h 0 [some (.ref P), none, none, none] []
  obtain ⟨nm, tk, hPo, hTk⟩ := id hP
  have hlP := wf.lt hPo
  have hβ := hEn.2.2.2.1
  have hlx := xLen_l hK.2.2
  obtain ⟨ep, ev, eo, ea, xp, xv, xo, xa, nm0, ln0, lt0, T0⟩ := hT
  have hcc := id hC
  obtain ⟨hc0, hcN, hcV, hcA, hcO⟩ := hcc
  have hdd := id hd
  obtain ⟨⟨dd1, dd2, dd3, dd4, dd5, dd6⟩, dz1, dz2, dz3, dz4⟩ := hdd
  obtain ⟨⟨uu1, uu2, uu3, uu4, uu5, uu6⟩, uz1, uz2, uz3, uz4⟩ := id T0.d
  have hscP : sc ≠ P := fun y => by rw [y, hPo] at hsc; cases hsc
  have hsaP : sa ≠ P := fun y => by rw [y, hPo] at hsa; cases hsa
  have hlsc := wf.lt hsc
  have hlsa := wf.lt hsa
  have KL : ∀ (hh : ax_H) (x9 : Int32), hh.1 P = some (.inr (9, [.ref tx, .int (nI n), .int (nI κ.1), .int (nI κ.2.2.1), .int nm, .ref tk, .ref sc, .ref sa])) → xEn Ω hh tx n tb b β → xTk hh tk nm β κ → hh.1 sc = some (.inr (10, .ref Lp :: .ref Lv :: .ref Lo :: rs)) → hh.1 sa = some (.inr (1, x0 :: x1 :: .ref La :: rs9)) → xTq hh z Lp Lv Lo La f g N V A O ep ev eo ea xp xv xo xa nm0 ln0 lt0 → xFm z h hh → hh.2 = h.2 → (κ.2.1 = 2 → x9 = sHash (xLet β κ) (xLen κ)) → ax_W Ω Γ 70 1700 hh 11 [some (.ref P), some (.ref tk), some (.int (-1)), none] [.int x9] := by
    intro hh x9 gP nh tT gSc gSa T M0 zh hx9
    have wh := M0.2.2.2
    obtain ⟨mc9, cap9, F9, hLo9, hEo9, hd0, hd1, hd2, hF9, hCl9⟩ := id T.o
    have hPLo : P ≠ Lo := fun z => by rw [z, hLo9] at gP; cases gP
    have hPeo : P ≠ eo := fun z => by rw [z, hEo9] at gP; cases gP
    have hlLo := wh.lt hLo9
    have hleo := wh.lt hEo9
    have hLoe : Lo ≠ eo := fun z => by rw [z, hEo9] at hLo9; cases hLo9
    have hscLo : sc ≠ Lo := fun z => by rw [z, hLo9] at gSc; cases gSc
    have hsceo : sc ≠ eo := fun z => by rw [z, hEo9] at gSc; cases gSc
    by_cases w0 : pWord b κ (sL "proposal") = true
    · have ex : x9 = -992843022 := (hx9 (pWord_2 w0)).trans (pWh_proposal hβ hK.2.2 hK.1 w0)
      subst ex
      refine ax_lookup (pc := 11) (off := 41) (tgt := 52) G dX11_line_11 (by decide) (by decide) rfl ?_
      refine ax_aload_n (pc := 52) G dX11_line_52 rfl rfl ?_
      refine ax_ldcS (pc := 53) G q1165 dX11_line_53 ?_
      refine ax_cV1 (pc := 55) (kb := 70) (nb := 1700) G (ct_seqS hA (tT.1) (nh.l xLm_189) (by omega) (by first | omega | decide)) lVX11_97_19 dX11_line_55 (tT.1.o.choose_spec) rfl (by decide) (Nat.le_of_ble_eq_true rfl) rfl ?_
      refine ax_top (show Value.int (bI (decide (xLen κ = [112, 114, 111, 112, 111, 115, 97, 108].length) && lEq (xLet β κ) (fun i => [112, 114, 111, 112, 111, 115, 97, 108].getD i 0) (xLen κ))) = .int (nI 1) from congrArg (fun z => Value.int (bI z)) ((xEq_word hβ hK.2.2 hK.1 (l := sL "proposal") rfl (by decide) (by decide)).trans w0)) ?_
      refine ax_if_eq (pc := 58) (tgt := 105) G dX11_line_58 rfl (fun c9 => absurd c9 (by decide)) (fun _ => ?_)
      refine ax_iconst (pc := 61) (v := nI 0) G dX11_line_61 ic_0 ?_
      refine ax_istore_n (pc := 62) G dX11_line_62 rfl (Nat.le_of_ble_eq_true rfl) rfl ?_
      refine ax_goto (pc := 63) (tgt := 105) G dX11_line_63 rfl ?_
      refine ax_iload_n (pc := 105) G dX11_line_105 rfl rfl ?_
      refine ax_tabIn (pc := 106) (tgt := 136) G dX11_line_106 (by decide) (by decide) (by decide) rfl rfl ?_
      refine ax_aload_n (pc := 136) G dX11_line_136 rfl rfl ?_
      refine ax_aload_n (pc := 137) G dX11_line_137 rfl rfl ?_
      refine ax_getf (pc := 138) (v := .ref sc) G flX11_20_9 dX11_line_138 (gP) rfl ?_
      refine ax_getf (pc := 141) (v := .ref Lp) G flX11_171_10 dX11_line_141 (gSc) rfl ?_
      refine ax_bipush (pc := 144) (v := nI 6) G dX11_line_144 ib_6 ?_
      obtain ⟨k319, e319⟩ : ∃ a : pK, a = rBeg b n κ N 6 := ⟨_, rfl⟩
      refine ax_pV (pc := 146) (kb := 65) (nb := 1598) G (ct_xbegin hA wh (by omega) hbP nh ⟨nm, tk, gP, tT⟩ hK (T.p) (by omega) 6 (by decide) e319) lVX11_197_9 dX11_line_146 (gP) rfl (by decide) (Nat.le_of_ble_eq_true rfl) rfl (fun v9 h319 q9 => ?_) (fun x9 h9x q9 => ?_)
      rotate_left
      obtain ⟨c319x, fl319, s319⟩ := q9.x
      have hk9 : ψ.1 = k319 := by rw [hψ, rLine, if_pos w0, rProposal, if_neg (by rw [← e319]; exact c319x)]; exact e319.symm
      exact ax_outP G E (fun x hx => by cases hx) ⟨M0.trans (((xSt.rfl' wh).trans s319).m wh gP hzP), Or.inr ⟨by rw [hk9]; exact c319x, _, rfl, by rw [hk9]; exact fl319⟩⟩
      obtain ⟨rfl, p319, c319, s319⟩ := q9.n
      obtain ⟨nm319, tk319, o319, t319⟩ := id p319
      obtain ⟨f319, z319, w319⟩ := id s319
      have n319 := nh.kp (xKp.one wh (gP) (by decide) f319)
      have x319 := xLen_l c319.2.2
      show ax_W Ω Γ _ _ (h319) _ _ (_)
      refine ax_aload_n (pc := 149) G dX11_line_149 rfl rfl ?_
      have T319 := T.P wh gP f319
      have hψ320 : ψ = rProposalB b n k319 f g N := by rw [hψ, rLine, if_pos w0, rProposal_e (by rw [← e319]; exact c319.1), ← e319]
      refine ax_pV (pc := 150) (kb := 45) (nb := 898) G (ct_xproposal hA w319 (by omega) hbP n319 p319 c319 ⟨_, (f319 _ (by omega) hscP).trans gSc⟩ T319.p T319.n (by omega) (by omega) (by omega) (by have := rBeg_0 hK.1 (e319 ▸ c319.1); omega) hψ320) lVX11_200_9 dX11_line_150 (o319) rfl (by decide) (Nat.le_of_ble_eq_true rfl) rfl (fun v9 h320 q9 => ?_) (fun x9 h9x q9 => ?_)
      rotate_left
      obtain ⟨c320x, fl320, G320⟩ := q9.x
      obtain ⟨l9, hL9⟩ := T319.p.o
      obtain ⟨a9, hE9⟩ := T319.p.e
      exact ax_outP G E (fun x hx => by cases hx) ⟨(M0.trans (s319.m wh gP hzP)).trans (xFm.of w319 o319 hL9 hE9 hzP hd.2.1 T319.d.2.1 G320), Or.inr ⟨c320x, _, rfl, fl320⟩⟩
      obtain ⟨rfl, p320, c320, R320, G320⟩ := q9.n
      obtain ⟨f320, z320, w320⟩ := id G320
      show ax_W Ω Γ _ _ (h320) _ _ (_)
      refine ax_goto (pc := 153) (tgt := 254) G dX11_line_153 rfl ?_
      obtain ⟨e7, xn, nm7, ln7, lt7, r1, r2, r3⟩ := R320
      obtain ⟨l9, hL9⟩ := T319.p.o
      obtain ⟨a9, hE9⟩ := T319.p.e
      have hne := rBeg_0 hK.1 (e319 ▸ c319.1)
      have hl8 : k319.2.1 = 2 → rLn k319 ≤ 8 := fun y => (c319.2.2.2.1 y).2.1
      have hrf := rProposalB_f hl8 hψ320
      have hrn := rProposalB_n c319.1 hl8 hψ320 c320.1
      have T9 := T319.proposal w319 hd o319 f320 (by omega) (by omega) hrf r1 r2 r3
      exact ax_vretP (pc := 254) G E rfl dX11_line_254 ⟨(M0.trans (s319.m wh gP hzP)).trans (xFm.of w319 o319 hL9 hE9 hzP hd.2.1 T319.d.2.1 G320), Or.inl ⟨rfl, p320, c320, n319.kp (xKp.of w319 o319 hL9 hE9 f320), N + 1 , V , A , O, hC.proposal (by omega) hrf hrn, by omega, ⟨rProposalB_l hψ320, hrf.2 15 (by omega)⟩, T9⟩⟩
    ·
      by_cases w1 : pWord b κ (sL "visit") = true
      · have ex : x9 = 112217419 := (hx9 (pWord_2 w1)).trans (pWh_visit hβ hK.2.2 hK.1 w1)
        subst ex
        refine ax_lookup (pc := 11) (off := 55) (tgt := 66) G dX11_line_11 (by decide) (by decide) rfl ?_
        refine ax_aload_n (pc := 66) G dX11_line_66 rfl rfl ?_
        refine ax_ldcS (pc := 67) G q1166 dX11_line_67 ?_
        refine ax_cV1 (pc := 69) (kb := 70) (nb := 1700) G (ct_seqS hA (tT.1) (nh.l xLm_191) (by omega) (by first | omega | decide)) lVX11_97_19 dX11_line_69 (tT.1.o.choose_spec) rfl (by decide) (Nat.le_of_ble_eq_true rfl) rfl ?_
        refine ax_top (show Value.int (bI (decide (xLen κ = [118, 105, 115, 105, 116].length) && lEq (xLet β κ) (fun i => [118, 105, 115, 105, 116].getD i 0) (xLen κ))) = .int (nI 1) from congrArg (fun z => Value.int (bI z)) ((xEq_word hβ hK.2.2 hK.1 (l := sL "visit") rfl (by decide) (by decide)).trans w1)) ?_
        refine ax_if_eq (pc := 72) (tgt := 105) G dX11_line_72 rfl (fun c9 => absurd c9 (by decide)) (fun _ => ?_)
        refine ax_iconst (pc := 75) (v := nI 1) G dX11_line_75 ic_1 ?_
        refine ax_istore_n (pc := 76) G dX11_line_76 rfl (Nat.le_of_ble_eq_true rfl) rfl ?_
        refine ax_goto (pc := 77) (tgt := 105) G dX11_line_77 rfl ?_
        refine ax_iload_n (pc := 105) G dX11_line_105 rfl rfl ?_
        refine ax_tabIn (pc := 106) (tgt := 156) G dX11_line_106 (by decide) (by decide) (by decide) rfl rfl ?_
        refine ax_aload_n (pc := 156) G dX11_line_156 rfl rfl ?_
        refine ax_aload_n (pc := 157) G dX11_line_157 rfl rfl ?_
        refine ax_getf (pc := 158) (v := .ref sc) G flX11_20_9 dX11_line_158 (gP) rfl ?_
        refine ax_getf (pc := 161) (v := .ref Lv) G flX11_202_10 dX11_line_161 (gSc) rfl ?_
        refine ax_bipush (pc := 164) (v := nI 20) G dX11_line_164 ib_20 ?_
        obtain ⟨k321, e321⟩ : ∃ a : pK, a = rBeg b n κ V 20 := ⟨_, rfl⟩
        refine ax_pV (pc := 166) (kb := 65) (nb := 1598) G (ct_xbegin hA wh (by omega) hbP nh ⟨nm, tk, gP, tT⟩ hK (T.v) (by omega) 20 (by decide) e321) lVX11_197_9 dX11_line_166 (gP) rfl (by decide) (Nat.le_of_ble_eq_true rfl) rfl (fun v9 h321 q9 => ?_) (fun x9 h9x q9 => ?_)
        rotate_left
        obtain ⟨c321x, fl321, s321⟩ := q9.x
        have hk9 : ψ.1 = k321 := by rw [hψ, rLine, if_neg w0, if_pos w1, rVisit, if_neg (by rw [← e321]; exact c321x)]; exact e321.symm
        exact ax_outP G E (fun x hx => by cases hx) ⟨M0.trans (((xSt.rfl' wh).trans s321).m wh gP hzP), Or.inr ⟨by rw [hk9]; exact c321x, _, rfl, by rw [hk9]; exact fl321⟩⟩
        obtain ⟨rfl, p321, c321, s321⟩ := q9.n
        obtain ⟨nm321, tk321, o321, t321⟩ := id p321
        obtain ⟨f321, z321, w321⟩ := id s321
        have n321 := nh.kp (xKp.one wh (gP) (by decide) f321)
        have x321 := xLen_l c321.2.2
        show ax_W Ω Γ _ _ (h321) _ _ (_)
        refine ax_aload_n (pc := 169) G dX11_line_169 rfl rfl ?_
        have T321 := T.P wh gP f321
        have hψ322 : ψ = rVisitB b n k321 f g N V := by rw [hψ, rLine, if_neg w0, if_pos w1, rVisit_e (by rw [← e321]; exact c321.1), ← e321]
        refine ax_pV (pc := 170) (kb := 5) (nb := 98) G (ct_xvisit hA w321 (by omega) hbP n321 p321 c321 ((f321 _ (by omega) hscP).trans gSc) T321.p T321.n (by omega) T321.v (by omega) (by omega) (by omega) (Ne.symm hd.1.1) (Ne.symm T321.d.1.1) hψ322) lVX11_205_9 dX11_line_170 (o321) rfl (by decide) (Nat.le_of_ble_eq_true rfl) rfl (fun v9 h322 q9 => ?_) (fun x9 h9x q9 => ?_)
        rotate_left
        obtain ⟨c322x, fl322, G322⟩ := q9.x
        obtain ⟨l9, hL9⟩ := T321.v.o
        obtain ⟨a9, hE9⟩ := T321.v.e
        exact ax_outP G E (fun x hx => by cases hx) ⟨(M0.trans (s321.m wh gP hzP)).trans (xFm.of w321 o321 hL9 hE9 hzP hd.2.2.1 T321.d.2.2.1 G322), Or.inr ⟨c322x, _, rfl, fl322⟩⟩
        obtain ⟨rfl, p322, c322, R322, G322⟩ := q9.n
        obtain ⟨f322, z322, w322⟩ := id G322
        show ax_W Ω Γ _ _ (h322) _ _ (_)
        refine ax_goto (pc := 173) (tgt := 254) G dX11_line_173 rfl ?_
        obtain ⟨e7, xn, r1, r2, r2b, r3⟩ := R322
        obtain ⟨l9, hL9⟩ := T321.v.o
        obtain ⟨a9, hE9⟩ := T321.v.e
        have hne := rBeg_0 hK.1 (e321 ▸ c321.1)
        have hl8 : k321.2.1 = 2 → rLn k321 ≤ 8 := fun y => (c321.2.2.2.1 y).2.1
        have hrf := rVisitB_f hψ322
        have hrn := rVisitB_n hψ322
        have T9 := T321.visit w321 hd o321 f322 (by omega) (by omega) (by omega) (by omega) hrf r1 r2 r3
        exact ax_vretP (pc := 254) G E rfl dX11_line_254 ⟨(M0.trans (s321.m wh gP hzP)).trans (xFm.of w321 o321 hL9 hE9 hzP hd.2.2.1 T321.d.2.2.1 G322), Or.inl ⟨rfl, p322, c322, n321.kp (xKp.of w321 o321 hL9 hE9 f322), N , V + 1 , A , O, hC.visit (by omega) hrf hrn, by omega, ⟨fun j hj => hrf.1 j (by omega) (by omega), hrf.2 15 (by omega) (by omega)⟩, T9⟩⟩
      ·
        by_cases w2 : pWord b κ (sL "alert") = true
        · have ex : x9 = 92899676 := (hx9 (pWord_2 w2)).trans (pWh_alert hβ hK.2.2 hK.1 w2)
          subst ex
          refine ax_lookup (pc := 11) (off := 69) (tgt := 80) G dX11_line_11 (by decide) (by decide) rfl ?_
          refine ax_aload_n (pc := 80) G dX11_line_80 rfl rfl ?_
          refine ax_ldcS (pc := 81) G q1167 dX11_line_81 ?_
          refine ax_cV1 (pc := 83) (kb := 70) (nb := 1700) G (ct_seqS hA (tT.1) (nh.l xLm_193) (by omega) (by first | omega | decide)) lVX11_97_19 dX11_line_83 (tT.1.o.choose_spec) rfl (by decide) (Nat.le_of_ble_eq_true rfl) rfl ?_
          refine ax_top (show Value.int (bI (decide (xLen κ = [97, 108, 101, 114, 116].length) && lEq (xLet β κ) (fun i => [97, 108, 101, 114, 116].getD i 0) (xLen κ))) = .int (nI 1) from congrArg (fun z => Value.int (bI z)) ((xEq_word hβ hK.2.2 hK.1 (l := sL "alert") rfl (by decide) (by decide)).trans w2)) ?_
          refine ax_if_eq (pc := 86) (tgt := 105) G dX11_line_86 rfl (fun c9 => absurd c9 (by decide)) (fun _ => ?_)
          refine ax_iconst (pc := 89) (v := nI 2) G dX11_line_89 ic_2 ?_
          refine ax_istore_n (pc := 90) G dX11_line_90 rfl (Nat.le_of_ble_eq_true rfl) rfl ?_
          refine ax_goto (pc := 91) (tgt := 105) G dX11_line_91 rfl ?_
          refine ax_iload_n (pc := 105) G dX11_line_105 rfl rfl ?_
          refine ax_tabIn (pc := 106) (tgt := 176) G dX11_line_106 (by decide) (by decide) (by decide) rfl rfl ?_
          refine ax_aload_n (pc := 176) G dX11_line_176 rfl rfl ?_
          refine ax_aload_n (pc := 177) G dX11_line_177 rfl rfl ?_
          refine ax_getf (pc := 178) (v := .ref sa) G flX11_29_9 dX11_line_178 (gP) rfl ?_
          refine ax_getf (pc := 181) (v := .ref La) G flX11_207_1 dX11_line_181 (gSa) rfl ?_
          refine ax_iconst (pc := 184) (v := nI 5) G dX11_line_184 ic_5 ?_
          obtain ⟨k323, e323⟩ : ∃ a : pK, a = rBeg b n κ A 5 := ⟨_, rfl⟩
          refine ax_pV (pc := 185) (kb := 65) (nb := 1598) G (ct_xbegin hA wh (by omega) hbP nh ⟨nm, tk, gP, tT⟩ hK (T.a) (by omega) 5 (by decide) e323) lVX11_197_9 dX11_line_185 (gP) rfl (by decide) (Nat.le_of_ble_eq_true rfl) rfl (fun v9 h323 q9 => ?_) (fun x9 h9x q9 => ?_)
          rotate_left
          obtain ⟨c323x, fl323, s323⟩ := q9.x
          have hk9 : ψ.1 = k323 := by rw [hψ, rLine, if_neg w0, if_neg w1, if_pos w2, rAlert, if_neg (by rw [← e323]; exact c323x)]; exact e323.symm
          exact ax_outP G E (fun x hx => by cases hx) ⟨M0.trans (((xSt.rfl' wh).trans s323).m wh gP hzP), Or.inr ⟨by rw [hk9]; exact c323x, _, rfl, by rw [hk9]; exact fl323⟩⟩
          obtain ⟨rfl, p323, c323, s323⟩ := q9.n
          obtain ⟨nm323, tk323, o323, t323⟩ := id p323
          obtain ⟨f323, z323, w323⟩ := id s323
          have n323 := nh.kp (xKp.one wh (gP) (by decide) f323)
          have x323 := xLen_l c323.2.2
          show ax_W Ω Γ _ _ (h323) _ _ (_)
          refine ax_aload_n (pc := 188) G dX11_line_188 rfl rfl ?_
          have T323 := T.P wh gP f323
          have hψ324 : ψ = rAlertB b n k323 f g N A := by rw [hψ, rLine, if_neg w0, if_neg w1, if_pos w2, rAlert_e (by rw [← e323]; exact c323.1), ← e323]
          refine ax_pV (pc := 189) (kb := 5) (nb := 98) G (ct_xalert hA w323 (by omega) hbP n323 p323 c323 ⟨_, (f323 _ (by omega) hscP).trans gSc⟩ ((f323 _ (by omega) hsaP).trans gSa) T323.p T323.n (by omega) T323.a (by omega) (by omega) (by omega) (Ne.symm hd.1.2.2.1) (Ne.symm T323.d.1.2.2.1) hψ324) lVX11_210_9 dX11_line_189 (o323) rfl (by decide) (Nat.le_of_ble_eq_true rfl) rfl (fun v9 h324 q9 => ?_) (fun x9 h9x q9 => ?_)
          rotate_left
          obtain ⟨c324x, fl324, G324⟩ := q9.x
          obtain ⟨l9, hL9⟩ := T323.a.o
          obtain ⟨a9, hE9⟩ := T323.a.e
          exact ax_outP G E (fun x hx => by cases hx) ⟨(M0.trans (s323.m wh gP hzP)).trans (xFm.of w323 o323 hL9 hE9 hzP hd.2.2.2.2 T323.d.2.2.2.2 G324), Or.inr ⟨c324x, _, rfl, fl324⟩⟩
          obtain ⟨rfl, p324, c324, R324, G324⟩ := q9.n
          obtain ⟨f324, z324, w324⟩ := id G324
          show ax_W Ω Γ _ _ (h324) _ _ (_)
          refine ax_goto (pc := 192) (tgt := 254) G dX11_line_192 rfl ?_
          obtain ⟨e7, xn, r1, r2, r2b, r3⟩ := R324
          obtain ⟨l9, hL9⟩ := T323.a.o
          obtain ⟨a9, hE9⟩ := T323.a.e
          have hne := rBeg_0 hK.1 (e323 ▸ c323.1)
          have hl8 : k323.2.1 = 2 → rLn k323 ≤ 8 := fun y => (c323.2.2.2.1 y).2.1
          have hrf := rAlertB_f hψ324
          have hrn := rAlertB_n hψ324
          have T9 := T323.alert w323 hd o323 f324 (by omega) (by omega) (by omega) (by omega) hrf r1 r2 r3
          exact ax_vretP (pc := 254) G E rfl dX11_line_254 ⟨(M0.trans (s323.m wh gP hzP)).trans (xFm.of w323 o323 hL9 hE9 hzP hd.2.2.2.2 T323.d.2.2.2.2 G324), Or.inl ⟨rfl, p324, c324, n323.kp (xKp.of w323 o323 hL9 hE9 f324), N , V , A + 1 , O, hC.alert (by omega) hrf hrn, by omega, ⟨fun j hj => by rw [hrf.1], hrf.2 15 (by omega) (by omega)⟩, T9⟩⟩
        ·
          by_cases w3 : pWord b κ (sL "outage") = true
          · have ex : x9 = -1005527311 := (hx9 (pWord_2 w3)).trans (pWh_outage hβ hK.2.2 hK.1 w3)
            subst ex
            refine ax_lookup (pc := 11) (off := 83) (tgt := 94) G dX11_line_11 (by decide) (by decide) rfl ?_
            refine ax_aload_n (pc := 94) G dX11_line_94 rfl rfl ?_
            refine ax_ldcS (pc := 95) G q1168 dX11_line_95 ?_
            refine ax_cV1 (pc := 97) (kb := 70) (nb := 1700) G (ct_seqS hA (tT.1) (nh.l xLm_195) (by omega) (by first | omega | decide)) lVX11_97_19 dX11_line_97 (tT.1.o.choose_spec) rfl (by decide) (Nat.le_of_ble_eq_true rfl) rfl ?_
            refine ax_top (show Value.int (bI (decide (xLen κ = [111, 117, 116, 97, 103, 101].length) && lEq (xLet β κ) (fun i => [111, 117, 116, 97, 103, 101].getD i 0) (xLen κ))) = .int (nI 1) from congrArg (fun z => Value.int (bI z)) ((xEq_word hβ hK.2.2 hK.1 (l := sL "outage") rfl (by decide) (by decide)).trans w3)) ?_
            refine ax_if_eq (pc := 100) (tgt := 105) G dX11_line_100 rfl (fun c9 => absurd c9 (by decide)) (fun _ => ?_)
            refine ax_iconst (pc := 103) (v := nI 3) G dX11_line_103 ic_3 ?_
            refine ax_istore_n (pc := 104) G dX11_line_104 rfl (Nat.le_of_ble_eq_true rfl) rfl ?_
            refine ax_iload_n (pc := 105) G dX11_line_105 rfl rfl ?_
            refine ax_tabIn (pc := 106) (tgt := 195) G dX11_line_106 (by decide) (by decide) (by decide) rfl rfl ?_
            refine ax_aload_n (pc := 195) G dX11_line_195 rfl rfl ?_
            refine ax_aload_n (pc := 196) G dX11_line_196 rfl rfl ?_
            refine ax_getf (pc := 197) (v := .ref sc) G flX11_20_9 dX11_line_197 (gP) rfl ?_
            refine ax_getf (pc := 200) (v := .ref Lo) G flX11_212_10 dX11_line_200 (gSc) rfl ?_
            refine ax_iconst (pc := 203) (v := nI 4) G dX11_line_203 ic_4 ?_
            obtain ⟨k325, e325⟩ : ∃ a : pK, a = rBeg b n κ O 4 := ⟨_, rfl⟩
            refine ax_pV (pc := 204) (kb := 65) (nb := 1598) G (ct_xbegin hA wh (by omega) hbP nh ⟨nm, tk, gP, tT⟩ hK (T.o) (by omega) 4 (by decide) e325) lVX11_197_9 dX11_line_204 (gP) rfl (by decide) (Nat.le_of_ble_eq_true rfl) rfl (fun v9 h325 q9 => ?_) (fun x9 h9x q9 => ?_)
            rotate_left
            obtain ⟨c325x, fl325, s325⟩ := q9.x
            have hk9 : ψ.1 = k325 := by rw [hψ, rLine, if_neg w0, if_neg w1, if_neg w2, if_pos w3, rOutage, if_neg (by rw [← e325]; exact c325x)]; exact e325.symm
            exact ax_outP G E (fun x hx => by cases hx) ⟨M0.trans (((xSt.rfl' wh).trans s325).m wh gP hzP), Or.inr ⟨by rw [hk9]; exact c325x, _, rfl, by rw [hk9]; exact fl325⟩⟩
            obtain ⟨rfl, p325, c325, s325⟩ := q9.n
            obtain ⟨nm325, tk325, o325, t325⟩ := id p325
            obtain ⟨f325, z325, w325⟩ := id s325
            have n325 := nh.kp (xKp.one wh (gP) (by decide) f325)
            have x325 := xLen_l c325.2.2
            show ax_W Ω Γ _ _ (h325) _ _ (_)
            refine ax_aload_n (pc := 207) G dX11_line_207 rfl rfl ?_
            refine ax_iconst (pc := 208) (v := nI 0) G dX11_line_208 ic_0 ?_
            refine ax_sipush (pc := 209) (v := nI 2000) G dX11_line_209 is_2000 ?_
            obtain ⟨k326, v326, e326, y326⟩ : ∃ (a : pK) (c : Int32), a = (pNum b n k325 (nI 0) (nI 2000)).1 ∧ c = (pNum b n k325 (nI 0) (nI 2000)).2 := ⟨_, _, rfl, rfl⟩
            refine ax_pV (pc := 212) (kb := 60) (nb := 1496) G (ct_xnum2 hA w325 (by omega) hbP n325 p325 c325 (nI 0) (nI 2000) e326 y326) lVX11_118_9 dX11_line_212 (o325) rfl (by decide) (Nat.le_of_ble_eq_true rfl) rfl (fun v9 h326 q9 => ?_) (fun x9 h9x q9 => ?_)
            rotate_left
            obtain ⟨c326x, fl326, s326⟩ := q9.x
            have hk9 : ψ.1 = k326 := by rw [hψ, rLine, if_neg w0, if_neg w1, if_neg w2, if_pos w3, rOutage_e (by rw [← e325]; exact c325.1), ← e325, rOutageB, rN_e e326 y326, rN_c c326x]
            exact ax_outP G E (fun x hx => by cases hx) ⟨M0.trans ((((xSt.rfl' wh).trans s325).trans s326).m wh gP hzP), Or.inr ⟨by rw [hk9]; exact c326x, _, rfl, by rw [hk9]; exact fl326⟩⟩
            obtain ⟨rfl, p326, c326, s326⟩ := q9.n
            obtain ⟨nm326, tk326, o326, t326⟩ := id p326
            obtain ⟨f326, z326, w326⟩ := id s326
            have n326 := n325.kp (xKp.one w325 (o325) (by decide) f326)
            have x326 := xLen_l c326.2.2
            show ax_W Ω Γ _ _ (h326) _ _ (.int v326 :: _)
            refine ax_istore_n (pc := 215) G dX11_line_215 rfl (Nat.le_of_ble_eq_true rfl) rfl ?_
            refine ax_aload_n (pc := 216) G dX11_line_216 rfl rfl ?_
            refine ax_getf (pc := 217) (v := .ref sc) G flX11_20_9 dX11_line_217 (o326) rfl ?_
            refine ax_getf (pc := 220) (v := .ref Lo) G flX11_212_10 dX11_line_220 ((f326 _ (by first | assumption | omega) (by first | assumption | exact Ne.symm (by assumption) | omega)).trans ((f325 _ (by first | assumption | omega) (by first | assumption | exact Ne.symm (by assumption) | omega)).trans (gSc))) rfl ?_
            refine ax_new (pc := 223) (ci := 15) (kb := 59) (nb := 1494) G [.int (nI 0), .int (nI 0)] dX11_line_223 rfl cok_X18 rfl q1370 q1371 q153 (fun j hj => by match j, hj with | 0, _ => rfl | 1, _ => rfl) ?_
            refine ax_hvA w326 (fun h327 g327 f327 z327 w327 => ?_)
            have n327 := n326.kp (fun q e he _ => (f327 q (by have := w326.lt he; omega)).trans he)
            have p327 : xPs h327 P tx n sc sa β k326 := ⟨nm326, tk326, (f327 _ (by first | assumption | exact Ne.symm (by assumption) | omega)).trans (o326), (t326.1.kp (fun q e he _ => (f327 q (by have := w326.lt he; omega)).trans he)), t326.2⟩
            have t327 : xTk h327 tk326 nm326 β k326 := ⟨(t326.1.kp (fun q e he _ => (f327 q (by have := w326.lt he; omega)).trans he)), t326.2⟩
            refine ax_dup (pc := 226) G dX11_line_226 rfl ?_
            refine ax_iload_n (pc := 227) G dX11_line_227 rfl rfl ?_
            refine ax_aload_n (pc := 228) G dX11_line_228 rfl rfl ?_
            refine ax_iload_n (pc := 229) G dX11_line_229 rfl rfl ?_
            refine ax_sipush (pc := 230) (v := nI 2000) G dX11_line_230 is_2000 ?_
            obtain ⟨k328, v328, e328, y328⟩ : ∃ (a : pK) (c : Int32), a = (pNum b n k326 v326 (nI 2000)).1 ∧ c = (pNum b n k326 v326 (nI 2000)).2 := ⟨_, _, rfl, rfl⟩
            refine ax_pV (pc := 233) (kb := 54) (nb := 1392) G (ct_xnum2 hA w327 (by omega) hbP n327 p327 c326 v326 (nI 2000) e328 y328) lVX11_118_9 dX11_line_233 ((f327 _ (by first | assumption | exact Ne.symm (by assumption) | omega)).trans (o326)) rfl (by decide) (Nat.le_of_ble_eq_true rfl) rfl (fun v9 h328 q9 => ?_) (fun x9 h9x q9 => ?_)
            rotate_left
            obtain ⟨c328x, fl328, s328⟩ := q9.x
            have hk9 : ψ.1 = k328 := by rw [hψ, rLine, if_neg w0, if_neg w1, if_neg w2, if_pos w3, rOutage_e (by rw [← e325]; exact c325.1), ← e325, rOutageB, rN_e e326 y326, rN_e e328 y328]
            exact ax_outP G E (fun x hx => by cases hx) ⟨M0.trans ((((((xSt.rfl' wh).trans s325).trans s326).trans ⟨fun q a1 _ => f327 q (by omega), by omega, w327⟩).trans s328).m wh gP hzP), Or.inr ⟨by rw [hk9]; exact c328x, _, rfl, by rw [hk9]; exact fl328⟩⟩
            obtain ⟨rfl, p328, c328, s328⟩ := q9.n
            obtain ⟨nm328, tk328, o328, t328⟩ := id p328
            obtain ⟨f328, z328, w328⟩ := id s328
            have n328 := n327.kp (xKp.one w327 ((f327 _ (by first | assumption | exact Ne.symm (by assumption) | omega)).trans (o326)) (by decide) f328)
            have x328 := xLen_l c328.2.2
            show ax_W Ω Γ _ _ (h328) _ _ (.int v328 :: _)
            refine ax_nI (pc := 236) (kb := 54) (nb := 1392) G (ct_oinit hA w328 (by omega) ((f328 _ (by first | assumption | omega) (by first | assumption | exact Ne.symm (by assumption) | omega)).trans (g327)) (by omega)) lIX11_217 dX11_line_236 rfl (by decide) (Nat.le_of_ble_eq_true rfl) rfl (fun v329 h329 q9 => ?_)
            obtain ⟨rfl, g329, f329, z329, w329⟩ := q9
            have t329 : xTk h329 tk328 nm328 β k328 := ⟨t328.1.fr (fun q e he h1 h2 => (f329 q (fun y => by rw [y, (f328 _ (by first | assumption | omega) (by first | assumption | exact Ne.symm (by assumption) | omega)).trans (g327)] at he; exact absurd (h1 _ _ (Option.some.inj he).symm) (by decide))).trans he), t328.2⟩
            show ax_W Ω Γ _ _ (h329) _ _ (_)
            refine ax_nJ (pc := 239) (kb := 53) (nb := 1192) G (ct_ladd hA w329 (by omega) ((f329 _ (by first | assumption | exact Ne.symm (by assumption) | omega)).trans ((f328 _ (by first | assumption | omega) (by first | assumption | exact Ne.symm (by assumption) | omega)).trans ((f327 _ (by first | assumption | exact Ne.symm (by assumption) | omega)).trans ((f326 _ (by first | assumption | omega) (by first | assumption | exact Ne.symm (by assumption) | omega)).trans ((f325 _ (by first | assumption | omega) (by first | assumption | exact Ne.symm (by assumption) | omega)).trans (hEo9)))))) (by omega) hd1 ((f329 _ (by first | assumption | exact Ne.symm (by assumption) | omega)).trans ((f328 _ (by first | assumption | omega) (by first | assumption | exact Ne.symm (by assumption) | omega)).trans ((f327 _ (by first | assumption | exact Ne.symm (by assumption) | omega)).trans ((f326 _ (by first | assumption | omega) (by first | assumption | exact Ne.symm (by assumption) | omega)).trans ((f325 _ (by first | assumption | omega) (by first | assumption | exact Ne.symm (by assumption) | omega)).trans (hLo9)))))) (by omega) (fun j hj q hq => by obtain ⟨fs, hf⟩ := hCl9 j hj q hq; exact ⟨15, fs, (fun q e he hi => (f329 q (by have := wh.lt he; omega)).trans ((((((xKp.rfl' hh).trans (xKp.one wh (gP) (by decide) f325)).trans (xKp.one w325 (o325) (by decide) f326)).trans (fun q e he _ => (f327 q (by have := w326.lt he; omega)).trans he)).trans (xKp.one w327 ((f327 _ (by first | assumption | exact Ne.symm (by assumption) | omega)).trans (o326)) (by decide) f328)) q e he hi)) q _ hf (xIm_o (by decide)), ⟨_, rfl, Or.inr q3287⟩⟩) hd0 hd2 (g329) ⟨_, rfl, Or.inr q3287⟩ (by omega)) lJX11_218_16 dX11_line_239 ((f329 _ (by first | assumption | exact Ne.symm (by assumption) | omega)).trans ((f328 _ (by first | assumption | omega) (by first | assumption | exact Ne.symm (by assumption) | omega)).trans ((f327 _ (by first | assumption | exact Ne.symm (by assumption) | omega)).trans ((f326 _ (by first | assumption | omega) (by first | assumption | exact Ne.symm (by assumption) | omega)).trans ((f325 _ (by first | assumption | omega) (by first | assumption | exact Ne.symm (by assumption) | omega)).trans (hLo9)))))) rfl (by decide) (Nat.le_of_ble_eq_true rfl) rfl (fun v330 h330 q9 => ?_)
            obtain ⟨rfl, a330⟩ := q9
            obtain ⟨e8, cap8, F8, b1, b2, b3, b4, b5, b6, b7, z330, f330, w330⟩ := id a330
            show ax_W Ω Γ _ _ (h330) _ _ (.int (nI 1) :: _)
            refine ax_pop (pc := 244) G dX11_line_244 rfl ?_
            refine ax_goto (pc := 245) (tgt := 254) G dX11_line_245 rfl ?_
            have hψ9 : ψ = rOutageB b n k325 f g O := by rw [hψ, rLine, if_neg w0, if_neg w1, if_neg w2, if_pos w3, rOutage_e (by rw [← e325]; exact c325.1), ← e325]
            have hrf := rOutageB_f hψ9
            have hrn := rOutageB_n hψ9
            have hψ8 := hψ9
            rw [rOutageB, rN_e e326 y326, rN_e e328 y328] at hψ8
            have hk9 : ψ.1 = k328 := by rw [hψ8]
            have hne := rBeg_0 hK.1 (e325 ▸ c325.1)
            obtain ⟨e7, l7, o7⟩ := xLi.add ((f329 _ (by first | assumption | exact Ne.symm (by assumption) | omega)).trans ((f328 _ (by first | assumption | omega) (by first | assumption | exact Ne.symm (by assumption) | omega)).trans ((f327 _ (by first | assumption | exact Ne.symm (by assumption) | omega)).trans ((f326 _ (by first | assumption | omega) (by first | assumption | exact Ne.symm (by assumption) | omega)).trans ((f325 _ (by first | assumption | omega) (by first | assumption | exact Ne.symm (by assumption) | omega)).trans (hLo9)))))) ((f329 _ (by first | assumption | exact Ne.symm (by assumption) | omega)).trans ((f328 _ (by first | assumption | omega) (by first | assumption | exact Ne.symm (by assumption) | omega)).trans ((f327 _ (by first | assumption | exact Ne.symm (by assumption) | omega)).trans ((f326 _ (by first | assumption | omega) (by first | assumption | exact Ne.symm (by assumption) | omega)).trans ((f325 _ (by first | assumption | omega) (by first | assumption | exact Ne.symm (by assumption) | omega)).trans (hEo9)))))) (by omega) hd2 hd1 hF9 (fun j hj q hq => by obtain ⟨fs, hf⟩ := hCl9 j hj q hq; exact ⟨fs, (fun q e he hi => (f329 q (by have := wh.lt he; omega)).trans ((((((xKp.rfl' hh).trans (xKp.one wh (gP) (by decide) f325)).trans (xKp.one w325 (o325) (by decide) f326)).trans (fun q e he _ => (f327 q (by have := w326.lt he; omega)).trans he)).trans (xKp.one w327 ((f327 _ (by first | assumption | exact Ne.symm (by assumption) | omega)).trans (o326)) (by decide) f328)) q e he hi)) q _ hf (xIm_o (by decide))⟩) (g329) (by decide) w329 a330
            have t9 : xTk h330 tk328 nm328 β k328 := ⟨t329.1.fr (fun q e he h1 h2 => (f330 q (w329.lt he) (fun y => by rw [y, (f329 _ (by first | assumption | exact Ne.symm (by assumption) | omega)).trans ((f328 _ (by first | assumption | omega) (by first | assumption | exact Ne.symm (by assumption) | omega)).trans ((f327 _ (by first | assumption | exact Ne.symm (by assumption) | omega)).trans ((f326 _ (by first | assumption | omega) (by first | assumption | exact Ne.symm (by assumption) | omega)).trans ((f325 _ (by first | assumption | omega) (by first | assumption | exact Ne.symm (by assumption) | omega)).trans (hLo9)))))] at he; exact absurd (h1 _ _ (Option.some.inj he).symm) (by decide)) (fun y => by rw [y, (f329 _ (by first | assumption | exact Ne.symm (by assumption) | omega)).trans ((f328 _ (by first | assumption | omega) (by first | assumption | exact Ne.symm (by assumption) | omega)).trans ((f327 _ (by first | assumption | exact Ne.symm (by assumption) | omega)).trans ((f326 _ (by first | assumption | omega) (by first | assumption | exact Ne.symm (by assumption) | omega)).trans ((f325 _ (by first | assumption | omega) (by first | assumption | exact Ne.symm (by assumption) | omega)).trans (hEo9)))))] at he; exact absurd (h2 _ _ _ (Option.some.inj he).symm) (by decide))).trans he), t329.2⟩
            have G9 : (∀ q, q < hh.2 → q ≠ P → q ≠ Lo → q ≠ eo → h330.1 q = hh.1 q) ∧ hh.2 ≤ h330.2 ∧ ax_wf h330 := ⟨(fun q a1 a2 a3 a4 => (f330 _ (by first | assumption | omega) (by first | assumption | exact Ne.symm (by assumption) | omega) (by first | assumption | exact Ne.symm (by assumption) | omega)).trans ((f329 _ (by first | assumption | exact Ne.symm (by assumption) | omega)).trans ((f328 _ (by first | assumption | omega) (by first | assumption | exact Ne.symm (by assumption) | omega)).trans ((f327 _ (by first | assumption | exact Ne.symm (by assumption) | omega)).trans ((f326 _ (by first | assumption | omega) (by first | assumption | exact Ne.symm (by assumption) | omega)).trans ((f325 _ (by first | assumption | omega) (by first | assumption | exact Ne.symm (by assumption) | omega)))))))), by omega, w330⟩
            have T9 := T.outage wh hd gP G9.1 (by omega) (by omega) (by omega) (by omega) hrf l7 (by rcases o7 with y | y <;> omega) (by rw [hψ8]; simp (disch := omega) only [↓pad_ne, ↓pu_ne, ↓pu_eqq]; exact (f330 _ (by first | assumption | omega) (by first | assumption | exact Ne.symm (by assumption) | omega) (by first | assumption | exact Ne.symm (by assumption) | omega)).trans (g329))
            exact ax_vretP (pc := 254) G E rfl dX11_line_254 ⟨M0.trans (xFm.of wh gP hLo9 hEo9 hzP hd.2.2.2.1 T.d.2.2.2.1 G9), Or.inl ⟨rfl, by rw [hk9]; exact ⟨nm328, tk328, (f330 _ (by first | assumption | omega) (by first | assumption | exact Ne.symm (by assumption) | omega) (by first | assumption | exact Ne.symm (by assumption) | omega)).trans ((f329 _ (by first | assumption | exact Ne.symm (by assumption) | omega)).trans (o328)), t9⟩, by rw [hk9]; exact c328, nh.kp (xKp.of wh gP hLo9 hEo9 G9.1), N, V, A, O + 1, hC.outage (by omega) hrf hrn, by omega, ⟨fun j hj => hrf.1 j (by omega) (by omega) (by omega), by rw [hrf.2]⟩, T9⟩⟩
          ·
            by_cases k11_0 : x9 = (-1005527311 : Int32)
            · refine ax_lookup (pc := 11) (off := 83) (tgt := 94) G dX11_line_11 (by decide) (by first | (rw [k11_0]; done) | (rw [k11_0]; decide)) rfl ?_
              refine ax_aload_n (pc := 94) G dX11_line_94 rfl rfl ?_
              refine ax_ldcS (pc := 95) G q1168 dX11_line_95 ?_
              refine ax_cV1 (pc := 97) (kb := 70) (nb := 1700) G (ct_seqS hA (tT.1) (nh.l xLm_195) (by omega) (by first | omega | decide)) lVX11_97_19 dX11_line_97 (tT.1.o.choose_spec) rfl (by decide) (Nat.le_of_ble_eq_true rfl) rfl ?_
              refine ax_top (show Value.int (bI (decide (xLen κ = [111, 117, 116, 97, 103, 101].length) && lEq (xLet β κ) (fun i => [111, 117, 116, 97, 103, 101].getD i 0) (xLen κ))) = .int (nI 0) from congrArg (fun z => Value.int (bI z)) ((xEq_word hβ hK.2.2 hK.1 (l := sL "outage") rfl (by decide) (by decide)).trans (Bool.eq_false_iff.mpr w3))) ?_
              refine ax_if_eq (pc := 100) (tgt := 105) G dX11_line_100 rfl (fun _ => ?_) (fun c9 => absurd rfl c9)
              refine ax_iload_n (pc := 105) G dX11_line_105 rfl rfl ?_
              refine ax_tableOut (pc := 106) (tgt := 248) G dX11_line_106 (Or.inl (by decide)) rfl ?_
              refine ax_aload_n (pc := 248) G dX11_line_248 rfl rfl ?_
              refine ax_iconst (pc := 249) (v := nI 1) G dX11_line_249 ic_1 ?_
              refine ax_nV (pc := 250) (kb := 69) (nb := 1692) G (ct_xflaw (b := b) (tb := tb) hA wh (by omega) (gP) 1) lVX11_110_9 dX11_line_250 (gP) rfl (by decide) (Nat.le_of_ble_eq_true rfl) rfl (fun v331 h331 q9 => ?_)
              obtain ⟨rfl, g331, f331, z331, w331⟩ := q9
              show ax_W Ω Γ _ _ (h331) _ _ (.ref hh.2 :: _)
              refine ax_athrow (pc := 253) G dX11_line_253 ?_
              have hk9 : ψ.1 = pFl κ 1 := by rw [hψ, rLine, if_neg w0, if_neg w1, if_neg w2, if_neg w3]
              exact ax_outP G E (fun x hx => by cases hx) ⟨M0.trans (xFm.new wh (by omega) f331 (by omega) w331), Or.inr ⟨by rw [hk9, pFl_c hK.1]; decide, _, rfl, by rw [xFl, hk9, pFl_v hK.1]; exact g331⟩⟩
            by_cases k11_1 : x9 = (-992843022 : Int32)
            · refine ax_lookup (pc := 11) (off := 41) (tgt := 52) G dX11_line_11 (by decide) (by first | (rw [k11_1]; done) | (rw [k11_1]; decide)) rfl ?_
              refine ax_aload_n (pc := 52) G dX11_line_52 rfl rfl ?_
              refine ax_ldcS (pc := 53) G q1165 dX11_line_53 ?_
              refine ax_cV1 (pc := 55) (kb := 70) (nb := 1700) G (ct_seqS hA (tT.1) (nh.l xLm_189) (by omega) (by first | omega | decide)) lVX11_97_19 dX11_line_55 (tT.1.o.choose_spec) rfl (by decide) (Nat.le_of_ble_eq_true rfl) rfl ?_
              refine ax_top (show Value.int (bI (decide (xLen κ = [112, 114, 111, 112, 111, 115, 97, 108].length) && lEq (xLet β κ) (fun i => [112, 114, 111, 112, 111, 115, 97, 108].getD i 0) (xLen κ))) = .int (nI 0) from congrArg (fun z => Value.int (bI z)) ((xEq_word hβ hK.2.2 hK.1 (l := sL "proposal") rfl (by decide) (by decide)).trans (Bool.eq_false_iff.mpr w0))) ?_
              refine ax_if_eq (pc := 58) (tgt := 105) G dX11_line_58 rfl (fun _ => ?_) (fun c9 => absurd rfl c9)
              refine ax_iload_n (pc := 105) G dX11_line_105 rfl rfl ?_
              refine ax_tableOut (pc := 106) (tgt := 248) G dX11_line_106 (Or.inl (by decide)) rfl ?_
              refine ax_aload_n (pc := 248) G dX11_line_248 rfl rfl ?_
              refine ax_iconst (pc := 249) (v := nI 1) G dX11_line_249 ic_1 ?_
              refine ax_nV (pc := 250) (kb := 69) (nb := 1692) G (ct_xflaw (b := b) (tb := tb) hA wh (by omega) (gP) 1) lVX11_110_9 dX11_line_250 (gP) rfl (by decide) (Nat.le_of_ble_eq_true rfl) rfl (fun v332 h332 q9 => ?_)
              obtain ⟨rfl, g332, f332, z332, w332⟩ := q9
              show ax_W Ω Γ _ _ (h332) _ _ (.ref hh.2 :: _)
              refine ax_athrow (pc := 253) G dX11_line_253 ?_
              have hk9 : ψ.1 = pFl κ 1 := by rw [hψ, rLine, if_neg w0, if_neg w1, if_neg w2, if_neg w3]
              exact ax_outP G E (fun x hx => by cases hx) ⟨M0.trans (xFm.new wh (by omega) f332 (by omega) w332), Or.inr ⟨by rw [hk9, pFl_c hK.1]; decide, _, rfl, by rw [xFl, hk9, pFl_v hK.1]; exact g332⟩⟩
            by_cases k11_2 : x9 = (92899676 : Int32)
            · refine ax_lookup (pc := 11) (off := 69) (tgt := 80) G dX11_line_11 (by decide) (by first | (rw [k11_2]; done) | (rw [k11_2]; decide)) rfl ?_
              refine ax_aload_n (pc := 80) G dX11_line_80 rfl rfl ?_
              refine ax_ldcS (pc := 81) G q1167 dX11_line_81 ?_
              refine ax_cV1 (pc := 83) (kb := 70) (nb := 1700) G (ct_seqS hA (tT.1) (nh.l xLm_193) (by omega) (by first | omega | decide)) lVX11_97_19 dX11_line_83 (tT.1.o.choose_spec) rfl (by decide) (Nat.le_of_ble_eq_true rfl) rfl ?_
              refine ax_top (show Value.int (bI (decide (xLen κ = [97, 108, 101, 114, 116].length) && lEq (xLet β κ) (fun i => [97, 108, 101, 114, 116].getD i 0) (xLen κ))) = .int (nI 0) from congrArg (fun z => Value.int (bI z)) ((xEq_word hβ hK.2.2 hK.1 (l := sL "alert") rfl (by decide) (by decide)).trans (Bool.eq_false_iff.mpr w2))) ?_
              refine ax_if_eq (pc := 86) (tgt := 105) G dX11_line_86 rfl (fun _ => ?_) (fun c9 => absurd rfl c9)
              refine ax_iload_n (pc := 105) G dX11_line_105 rfl rfl ?_
              refine ax_tableOut (pc := 106) (tgt := 248) G dX11_line_106 (Or.inl (by decide)) rfl ?_
              refine ax_aload_n (pc := 248) G dX11_line_248 rfl rfl ?_
              refine ax_iconst (pc := 249) (v := nI 1) G dX11_line_249 ic_1 ?_
              refine ax_nV (pc := 250) (kb := 69) (nb := 1692) G (ct_xflaw (b := b) (tb := tb) hA wh (by omega) (gP) 1) lVX11_110_9 dX11_line_250 (gP) rfl (by decide) (Nat.le_of_ble_eq_true rfl) rfl (fun v333 h333 q9 => ?_)
              obtain ⟨rfl, g333, f333, z333, w333⟩ := q9
              show ax_W Ω Γ _ _ (h333) _ _ (.ref hh.2 :: _)
              refine ax_athrow (pc := 253) G dX11_line_253 ?_
              have hk9 : ψ.1 = pFl κ 1 := by rw [hψ, rLine, if_neg w0, if_neg w1, if_neg w2, if_neg w3]
              exact ax_outP G E (fun x hx => by cases hx) ⟨M0.trans (xFm.new wh (by omega) f333 (by omega) w333), Or.inr ⟨by rw [hk9, pFl_c hK.1]; decide, _, rfl, by rw [xFl, hk9, pFl_v hK.1]; exact g333⟩⟩
            by_cases k11_3 : x9 = (112217419 : Int32)
            · refine ax_lookup (pc := 11) (off := 55) (tgt := 66) G dX11_line_11 (by decide) (by first | (rw [k11_3]; done) | (rw [k11_3]; decide)) rfl ?_
              refine ax_aload_n (pc := 66) G dX11_line_66 rfl rfl ?_
              refine ax_ldcS (pc := 67) G q1166 dX11_line_67 ?_
              refine ax_cV1 (pc := 69) (kb := 70) (nb := 1700) G (ct_seqS hA (tT.1) (nh.l xLm_191) (by omega) (by first | omega | decide)) lVX11_97_19 dX11_line_69 (tT.1.o.choose_spec) rfl (by decide) (Nat.le_of_ble_eq_true rfl) rfl ?_
              refine ax_top (show Value.int (bI (decide (xLen κ = [118, 105, 115, 105, 116].length) && lEq (xLet β κ) (fun i => [118, 105, 115, 105, 116].getD i 0) (xLen κ))) = .int (nI 0) from congrArg (fun z => Value.int (bI z)) ((xEq_word hβ hK.2.2 hK.1 (l := sL "visit") rfl (by decide) (by decide)).trans (Bool.eq_false_iff.mpr w1))) ?_
              refine ax_if_eq (pc := 72) (tgt := 105) G dX11_line_72 rfl (fun _ => ?_) (fun c9 => absurd rfl c9)
              refine ax_iload_n (pc := 105) G dX11_line_105 rfl rfl ?_
              refine ax_tableOut (pc := 106) (tgt := 248) G dX11_line_106 (Or.inl (by decide)) rfl ?_
              refine ax_aload_n (pc := 248) G dX11_line_248 rfl rfl ?_
              refine ax_iconst (pc := 249) (v := nI 1) G dX11_line_249 ic_1 ?_
              refine ax_nV (pc := 250) (kb := 69) (nb := 1692) G (ct_xflaw (b := b) (tb := tb) hA wh (by omega) (gP) 1) lVX11_110_9 dX11_line_250 (gP) rfl (by decide) (Nat.le_of_ble_eq_true rfl) rfl (fun v334 h334 q9 => ?_)
              obtain ⟨rfl, g334, f334, z334, w334⟩ := q9
              show ax_W Ω Γ _ _ (h334) _ _ (.ref hh.2 :: _)
              refine ax_athrow (pc := 253) G dX11_line_253 ?_
              have hk9 : ψ.1 = pFl κ 1 := by rw [hψ, rLine, if_neg w0, if_neg w1, if_neg w2, if_neg w3]
              exact ax_outP G E (fun x hx => by cases hx) ⟨M0.trans (xFm.new wh (by omega) f334 (by omega) w334), Or.inr ⟨by rw [hk9, pFl_c hK.1]; decide, _, rfl, by rw [xFl, hk9, pFl_v hK.1]; exact g334⟩⟩
            refine ax_lookup (pc := 11) (off := 94) (tgt := 105) G dX11_line_11 (by decide) (by show Op.lookupswitch.offset [(-1005527311, 83), (-992843022, 41), (92899676, 69), (112217419, 55)] 94 _ = _; rw [lv_osw k11_0 (by decide), lv_osw k11_1 (by decide), lv_osw k11_2 (by decide), lv_osw k11_3 (by decide)]; rfl) rfl ?_
            refine ax_iload_n (pc := 105) G dX11_line_105 rfl rfl ?_
            refine ax_tableOut (pc := 106) (tgt := 248) G dX11_line_106 (Or.inl (by decide)) rfl ?_
            refine ax_aload_n (pc := 248) G dX11_line_248 rfl rfl ?_
            refine ax_iconst (pc := 249) (v := nI 1) G dX11_line_249 ic_1 ?_
            refine ax_nV (pc := 250) (kb := 69) (nb := 1692) G (ct_xflaw (b := b) (tb := tb) hA wh (by omega) (gP) 1) lVX11_110_9 dX11_line_250 (gP) rfl (by decide) (Nat.le_of_ble_eq_true rfl) rfl (fun v335 h335 q9 => ?_)
            obtain ⟨rfl, g335, f335, z335, w335⟩ := q9
            show ax_W Ω Γ _ _ (h335) _ _ (.ref hh.2 :: _)
            refine ax_athrow (pc := 253) G dX11_line_253 ?_
            have hk9 : ψ.1 = pFl κ 1 := by rw [hψ, rLine, if_neg w0, if_neg w1, if_neg w2, if_neg w3]
            exact ax_outP G E (fun x hx => by cases hx) ⟨M0.trans (xFm.new wh (by omega) f335 (by omega) w335), Or.inr ⟨by rw [hk9, pFl_c hK.1]; decide, _, rfl, by rw [xFl, hk9, pFl_v hK.1]; exact g335⟩⟩
  have hnoP : ∀ (w : Nat) (fs : List Value), h.1 w = some (.inr (19, fs)) → w ≠ P := fun w fs hw y => by rw [y, hPo] at hw; cases hw
  refine ax_aload_n (pc := 0) G dX11_line_0 rfl rfl ?_
  refine ax_getf (pc := 1) (v := .ref tk) G flX11_11_9 dX11_line_1 hPo rfl ?_
  refine ax_astore_n (pc := 4) G dX11_line_4 rfl (Nat.le_of_ble_eq_true rfl) rfl ?_
  refine ax_iconst (pc := 5) (v := (-1)) G dX11_line_5 (by decide) ?_
  refine ax_istore_n (pc := 6) G dX11_line_6 rfl (Nat.le_of_ble_eq_true rfl) rfl ?_
  refine ax_aload_n (pc := 7) G dX11_line_7 rfl rfl ?_
  obtain ⟨nmx, tkx, hPx, hHs⟩ := hPh
  obtain ⟨rfl, rfl⟩ : nmx = nm ∧ tkx = tk := by rw [hPx] at hPo; cases hPo; exact ⟨rfl, rfl⟩
  by_cases h2 : κ.2.1 = 2
  · obtain ⟨ztk, ex, zex, hW⟩ := hHs.1 h2
    obtain ⟨e9, hs9, hz9, a9, q1, q2, q3, q4⟩ := id hTk.1
    rw [hW] at q1
    cases q1
    refine ax_nV (pc := 8) (kb := 70) (nb := 1700) G (ct_shashA hA wf hz hW q2 q4 (by omega) (by omega) (by omega)) lVX11_186_19 dX11_line_8 hW rfl (by decide) (Nat.le_of_ble_eq_true rfl) rfl (fun v9 hh q9 => ?_)
    obtain ⟨rfl, ⟨hs', hz', k1, k2, k3⟩, k4, k5, k6⟩ := q9
    have kst : ∀ {w m : Nat} {t : Nat → Nat}, sStr h w m t → sStr hh w m t := fun {w m t} y => by
      obtain ⟨e8, hs8, hz8, b8, y1, y2, y3, y4⟩ := y
      by_cases u : w = tkx
      · subst u
        rw [hW] at y1
        cases y1
        exact ⟨_, hs', hz', b8, k1, (k4 _ (fun v => by rw [v, hW] at y2; cases y2)).trans y2, y3, y4⟩
      · exact ⟨e8, hs8, hz8, b8, (k4 _ u).trans y1, (k4 _ (fun v => by rw [v, hW] at y2; cases y2)).trans y2, y3, y4⟩
    have kne : ∀ {q : Nat} {e : ax_E}, h.1 q = some e → (∀ fs, e ≠ .inr (19, fs)) → hh.1 q = some e := fun {q e} he hn => (k4 q (fun v => by rw [v, hW] at he; exact hn _ (Option.some.inj he).symm)).trans he
    refine KL hh _ (kne hPo (fun fs y => by cases y)) ⟨kne hEn.1 (fun fs y => by cases y), hEn.2.1, hEn.2.2.1, hEn.2.2.2.1, fun q hq => ⟨kst (hEn.2.2.2.2 q hq).1, ?_⟩⟩ ⟨kst hTk.1, hTk.2⟩ (kne hsc (fun fs y => by cases y)) (kne hsa (fun fs y => by cases y)) ?_ ⟨fun q hq => k4 q (by omega), fun q e he hi => kne he (fun fs y => (hi.2 19 fs y).2.2 rfl), by omega, k6⟩ k5 (fun _ => rfl)
    · obtain ⟨e8, hs8, hz8, y1, y2⟩ := (hEn.2.2.2.2 q hq).2
      refine ⟨e8, hs8, hz8, (k4 _ (fun v => ?_)).trans y1, y2⟩
      rw [v, hW] at y1
      cases y1
      rcases y2 with y2 | y2 <;> exact y2 rfl
    · have kli : ∀ {L e n C : Nat} {x : Nat → Nat}, xLi h L e n x C → C ≠ 19 → xLi hh L e n x C := fun {L e n C x} y hC => by
        obtain ⟨l1, hL⟩ := y.o
        obtain ⟨a1, hE⟩ := y.e
        exact y.fr (k4 _ (fun v => by rw [v, hW] at hL; cases hL)) (k4 _ (fun v => by rw [v, hW] at hE; cases hE)) (fun q fs hq => kne hq (fun fs' y' => by cases y'; exact hC rfl))
      exact ⟨kli T0.p (by decide), kli T0.v (by decide), kli T0.o (by decide), kli T0.a (by decide), fun k hk => by
        obtain ⟨y1, y2, y3⟩ := T0.n k hk
        exact ⟨kne y1 (fun fs y => by cases y), kst y2, y3⟩, ⟨fun k hk => kne (T0.t.1 k hk) (fun fs y => by cases y), fun k hk => kne (T0.t.2.1 k hk) (fun fs y => by cases y), fun k hk => kne (T0.t.2.2 k hk) (fun fs y => by cases y)⟩, T0.d⟩
  · obtain ⟨e8, hs8, hz8, y1, y2⟩ := hHs.2 h2
    refine ax_cV1 (pc := 8) (kb := 70) (nb := 1700) G (ct_shashB (n := 0) hA y1 y2) lVX11_186_19 dX11_line_8 y1 rfl (by decide) (Nat.le_of_ble_eq_true rfl) rfl ?_
    exact KL h _ hPo hEn hTk hsc hsa T0 (xFm.rfl' wf) rfl (fun y => absurd y h2)
