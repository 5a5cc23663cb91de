/-! many steps of the component -/
def cMany (pl : pR) (V O A pol : Nat) : Nat → pR → pR × Nat
  | 0, s => (s, 0)
  | n + 1, s => if pl 0 ≤ s 0 then (s, 0) else ((cMany pl V O A pol n (cSt pl s V O A pol)).1, (cMany pl V O A pol n (cSt pl s V O A pol)).2 + 1)
theorem cMany_s {pl s : pR} {V O A pol n : Nat} : cMany pl V O A pol (n + 1) s = if pl 0 ≤ s 0 then (s, 0) else ((cMany pl V O A pol n (cSt pl s V O A pol)).1, (cMany pl V O A pol n (cSt pl s V O A pol)).2 + 1) := rfl
theorem pWS.cmany {pl : pR} {N V O A pol : Nat} (hp : pWP pl N V O) : ∀ {n : Nat} {s : pR}, pWS s A → pWS (cMany pl V O A pol n s).1 A
  | 0, _, hs => hs
  | n + 1, s, hs => by
    rw [cMany_s]
    by_cases h9 : pl 0 ≤ s 0
    · rw [if_pos h9]; exact hs
    · rw [if_neg h9]; exact pWS.cmany hp (hs.st hp)
theorem pIm.cmany {pl : pR} {N V O A pol : Nat} (hp : pWP pl N V O) : ∀ {n : Nat} {s : pR}, pWS s A → pIm s (cMany pl V O A pol n s).1
  | 0, _, _ => pIm.refl _
  | n + 1, s, hs => by
    rw [cMany_s]
    by_cases h9 : pl 0 ≤ s 0
    · rw [if_pos h9]; exact pIm.refl _
    · rw [if_neg h9]; exact (pIm.st hp hs).trans (pIm.cmany hp (hs.st hp))
