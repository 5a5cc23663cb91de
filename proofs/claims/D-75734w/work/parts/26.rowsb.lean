/-! more rows: switches, returned references, rows of booleans -/
section AXB
variable {Ω : ax_O} {Γ : ax_F} {y : MethodName} {cc : ByteArray} {nL : Nat} {ret : Option FieldType} {hh : List (Nat × Nat × Nat × Nat)} {d kb nb pc : Nat} {h h' : ax_H} {m : Nat} {μ : md_S} {ls : List (Option Value)} {rest : List Value}
theorem ax_tabIn (G : ax_C Ω Γ y cc nL ret hh d) {w : Nat} {dflt lo hi : Int} {offs : Array Int} {len : Nat} {off : Int} {tgt : Nat} (hdg : decode cc pc = .ok (.tableswitch dflt lo hi offs, len)) (h31 : w < 2 ^ 31) (h1 : ¬ (w : Int) < lo) (h2 : ¬ hi < (w : Int)) (ho : offs[((w : Int) - lo).toNat]? = some off) (ht : (pc : Int) + off = (tgt : Int)) (kk : ax_W Ω Γ kb nb h tgt ls rest) : ax_W Ω Γ kb nb h pc ls (.int (nI w) :: rest) :=
  fun H locs cells slots L hR hl hL hn g1 g2 => lv_tableIn G.2.1 G.2.2.1 hdg (by rw [nI_toInt h31]; exact h1) (by rw [nI_toInt h31]; exact h2) (by rw [nI_toInt h31]; exact ho) ht (kk H locs cells slots L hR hl hL hn g1 g2)
theorem ax_tabOut (G : ax_C Ω Γ y cc nL ret hh d) {w : Nat} {dflt lo hi : Int} {offs : Array Int} {len : Nat} {tgt : Nat} (hdg : decode cc pc = .ok (.tableswitch dflt lo hi offs, len)) (h31 : w < 2 ^ 31) (h1 : (w : Int) < lo ∨ hi < (w : Int)) (ht : (pc : Int) + dflt = (tgt : Int)) (kk : ax_W Ω Γ kb nb h tgt ls rest) : ax_W Ω Γ kb nb h pc ls (.int (nI w) :: rest) :=
  fun H locs cells slots L hR hl hL hn g1 g2 => lv_tableOut G.2.1 G.2.2.1 hdg (by rw [nI_toInt h31]; exact h1) ht (kk H locs cells slots L hR hl hL hn g1 g2)
theorem ax_aretE (G : ax_C Ω Γ y cc nL ret hh d) {v w : Value} {ty : FieldType} (E : ax_Done Ω Γ (.inl (some w)) h') (hr : ret = some ty) (ht : (∃ n, ty = .object n) ∨ ∃ t, ty = .array t) (hv : v = .null ∨ ∃ a, v = .ref a) (dec : decode cc pc = .ok (.areturn, 1)) (hw : v = w) (hh9 : h = h') : ax_W Ω Γ kb nb h pc ls [v] := by
  subst hw hh9; exact ax_areturn G E hr ht hv dec
theorem md_zld (G : ax_C Ω Γ y cc nL ret hh d) {i : Nat} {x : Int32} (dec : decode cc pc = .ok (.baload, 1)) (hx : x = nI i) (hi : i < 2) (kk : ax_W Ω Γ kb nb (md_H h m μ) (pc + 1) ls (.int (μ.2 9 i) :: rest)) : ax_W Ω Γ kb nb (md_H h m μ) pc ls (.int x :: .ref (m + 9) :: rest) :=
  ax_zaload G i dec (md_arr (j := 9) (by decide) (by decide)) hx hi (by decide) kk
theorem md_zst (G : ax_C Ω Γ y cc nL ret hh d) {i : Nat} {x : Int32} {b : Bool} (dec : decode cc pc = .ok (.bastore, 1)) (hm : Ω.2.1.heap.size ≤ m) (hx : x = nI i) (hi : i < 2) (kk : ax_W Ω Γ kb nb (md_H h m (md_sa μ 9 (upd (μ.2 9) i (bI b)))) (pc + 1) ls rest) : ax_W Ω Γ kb nb (md_H h m μ) pc ls (.int (bI b) :: .int x :: .ref (m + 9) :: rest) :=
  ax_zastore G i dec (md_arr (j := 9) (by decide) (by decide)) (Nat.le_trans hm (Nat.le_add_right _ _)) hx hi (by decide) (by
    have e : vp_nar .boolean (bI b) = bI b := by cases b <;> rfl
    rw [e, ← md_seta (by decide) (by decide)] at *
    exact kk)
end AXB
/-- what mayAsk throws -/
def pThr (hs : Int32) (b : Bool) : Int32 := if hs = 0 then 1 else if b = true then 0 else 2
theorem pIn_k {x : Int32} {n k : Nat} (hx : x = nI n) (hk : k < n) (hn : n < 2 ^ 31) : pIn (nI k) (nI 0) (x - nI 1) = true := by
  subst hx
  obtain ⟨n, rfl⟩ : ∃ j, n = j + 1 := ⟨n - 1, by omega⟩
  unfold pIn
  rw [decide_eq_true (show nI 0 ≤ nI k from nI_le (by omega) (by omega)), show nI (n + 1) - nI 1 = nI n from nI_pred n, decide_eq_true (nI_le (show k ≤ n by omega) (by omega))]; rfl
theorem pIn_c {k a b : Nat} (h1 : a ≤ k) (h2 : k ≤ b) (hb : b < 2 ^ 31) : pIn (nI k) (nI a) (nI b) = true := by
  unfold pIn
  rw [decide_eq_true (nI_le h1 (by omega)), decide_eq_true (nI_le h2 hb)]; rfl
theorem pIn_z {v x : Int32} (hx : x = nI 0) : pIn v (nI 0) (x - nI 1) = false := by
  subst hx
  unfold pIn
  by_cases h : nI 0 ≤ v
  · rw [decide_eq_false (show ¬ v ≤ nI 0 - nI 1 from ?_), Bool.and_false]
    intro h2
    have h3 := Int32.le_iff_toInt_le.mp (Int32.le_trans h h2)
    exact absurd h3 (by decide)
  · rw [decide_eq_false h]; rfl
section AXD
variable {Ω : ax_O} {Γ : ax_F} {y : MethodName} {cc : ByteArray} {nL : Nat} {ret : Option FieldType} {hh : List (Nat × Nat × Nat × Nat)} {d kb nb pc : Nat} {h : ax_H} {ls : List (Option Value)} {rest : List Value}
theorem ax_idivN (G : ax_C Ω Γ y cc nL ret hh d) {a b : Nat} (hdg : decode cc pc = .ok (.idiv, 1)) (ha : a < 2 ^ 31) (h0 : 0 < b) (hb : b < 2 ^ 31) (k : ax_W Ω Γ kb nb h (pc + 1) ls (.int (nI (a / b)) :: rest)) : ax_W Ω Γ kb nb h pc ls (.int (nI b) :: .int (nI a) :: rest) := ax_idiv G hdg (nI_ne0 h0 hb) (by rw [pk_div ha h0 hb]; exact k)
theorem ax_iremN (G : ax_C Ω Γ y cc nL ret hh d) {a b : Nat} (hdg : decode cc pc = .ok (.irem, 1)) (ha : a < 2 ^ 31) (h0 : 0 < b) (hb : b < 2 ^ 31) (k : ax_W Ω Γ kb nb h (pc + 1) ls (.int (nI (a % b)) :: rest)) : ax_W Ω Γ kb nb h pc ls (.int (nI b) :: .int (nI a) :: rest) := ax_irem G hdg (nI_ne0 h0 hb) (by rw [pk_rem ha h0 hb]; exact k)
end AXD
theorem iAbs_nI {w : Nat} (h : w < 2 ^ 31) : iAbs (nI w) = nI w := if_pos (nI_pos' h)
/-- the list l written from place Z on -/
def pWL (g : pR) (Z : Nat) : List Int32 → pR
  | [] => g
  | b :: l => pWL (upd g Z b) (Z + 1) l
theorem pWL_app {l k : List Int32} : ∀ {g : pR} {Z : Nat}, pWL g Z (l ++ k) = pWL (pWL g Z l) (Z + l.length) k := by
  induction l with
  | nil => intro g Z; rfl
  | cons b l ih => intro g Z; show pWL (upd g Z b) (Z + 1) (l ++ k) = _; rw [ih, List.length_cons, show Z + 1 + l.length = Z + (l.length + 1) from by omega]; rfl
/-- the digits of a number below 100000 -/
def pDig (w : Nat) : List Int32 :=
  if w < 10 then [nI (48 + w / 1 % 10)] else if w < 100 then [nI (48 + w / 10 % 10), nI (48 + w / 1 % 10)] else if w < 1000 then [nI (48 + w / 100 % 10), nI (48 + w / 10 % 10), nI (48 + w / 1 % 10)]
  else if w < 10000 then [nI (48 + w / 1000 % 10), nI (48 + w / 100 % 10), nI (48 + w / 10 % 10), nI (48 + w / 1 % 10)] else [nI (48 + w / 10000 % 10), nI (48 + w / 1000 % 10), nI (48 + w / 100 % 10), nI (48 + w / 10 % 10), nI (48 + w / 1 % 10)]
theorem pDig_len {w : Nat} : (pDig w).length ≤ 5 := by unfold pDig; split <;> (try split) <;> (try split) <;> (try split) <;> simp
