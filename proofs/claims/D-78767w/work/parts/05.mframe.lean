/-! THE REFERENCE's MEMORY: its object at o, its eleven arrays behind it; st k j: the place j of the array in field k, or field k's own value at 0 -/
set_option maxRecDepth 100000
abbrev Ms : Type := Nat → Int → Int
def su (st : Ms) (k : Nat) (j x : Int) : Ms := fun a b => if a = k ∧ b = j then x else st a b
theorem su_s {st : Ms} {k : Nat} {j x : Int} : su st k j x k j = x := by simp [su]
theorem su_n {st : Ms} {k a : Nat} {j b x : Int} (h : a ≠ k) : su st k j x a b = st a b := by simp [su, h]
theorem su_m {st : Ms} {k a : Nat} {j b x : Int} (h : b ≠ j) : su st k j x a b = st a b := by simp [su, h]
theorem su_k {st : Ms} {k a : Nat} {j x : Int} (h : a ≠ k) : su st k j x a = st a := by funext b; simp [su, h]
theorem su_u {st : Ms} {k : Nat} {j x : Int} : su st k j x k = upz (st k) j x := by funext b; simp [su, upz]
def mfl (o : Nat) (st : Ms) : List Value := [.ref (o + 1), .ref (o + 2), .ref (o + 3), .int (iI (st 3 0)), .ref (o + 4), .int (iI (st 5 0)), .int (iI (st 6 0)), .ref (o + 5), .ref (o + 6), .ref (o + 7), .ref (o + 8), .ref (o + 9), .int (iI (st 12 0)), .ref (o + 10), .int (iI (st 14 0)), .int (iI (st 15 0)), .int (iI (st 16 0)), .int (iI (st 17 0)), .int (iI (st 18 0)), .int (iI (st 19 0)), .int (iI (st 20 0)), .int (iI (st 21 0)), .ref (o + 11), .long (lL (st 23 0))]
def mW (E : jE) (o : Nat) (st : Ms) : Nat → Option (Nat × va_E) → Option (Nat × va_E)
  | 0, _ => some (1, .inr (2, mfl o st))
  | 1, _ => some (1, arI E 198 (st 0))
  | 2, _ => some (1, arI E 198 (st 1))
  | 3, _ => some (1, arI E 792 (st 2))
  | 4, _ => some (1, arI E 150 (st 4))
  | 5, _ => some (1, arI E 20 (st 7))
  | 6, _ => some (1, arI E 20 (st 8))
  | 7, _ => some (1, arI E 20 (st 9))
  | 8, _ => some (1, arI E 20 (st 10))
  | 9, _ => some (1, arI E 20 (st 11))
  | 10, _ => some (1, arI E 20 (st 13))
  | 11, _ => some (1, arI E 6 (st 22))
  | _, x => x
def wM (E : jE) (o : Nat) (st : Ms) (w0 : Wl) : Wl := fun q => if q < o then w0 q else mW E o st (q - o) (w0 q)
section MFRAME
variable {E : jE} {o : Nat} {st : Ms} {w0 : Wl}
theorem wM_o : wM E o st w0 o = some (1, .inr (2, mfl o st)) := by simp [wM, mW]
theorem wM_at (k : Nat) : wM E o st w0 (o + k) = mW E o st k (w0 (o + k)) := by
  unfold wM
  rw [if_neg (by omega), Nat.add_sub_cancel_left]
theorem wM_0 : wM E o st w0 (o + 1) = some (1, arI E 198 (st 0)) := wM_at 1
theorem wM_1 : wM E o st w0 (o + 2) = some (1, arI E 198 (st 1)) := wM_at 2
theorem wM_2 : wM E o st w0 (o + 3) = some (1, arI E 792 (st 2)) := wM_at 3
theorem wM_4 : wM E o st w0 (o + 4) = some (1, arI E 150 (st 4)) := wM_at 4
theorem wM_7 : wM E o st w0 (o + 5) = some (1, arI E 20 (st 7)) := wM_at 5
theorem wM_8 : wM E o st w0 (o + 6) = some (1, arI E 20 (st 8)) := wM_at 6
theorem wM_9 : wM E o st w0 (o + 7) = some (1, arI E 20 (st 9)) := wM_at 7
theorem wM_10 : wM E o st w0 (o + 8) = some (1, arI E 20 (st 10)) := wM_at 8
theorem wM_11 : wM E o st w0 (o + 9) = some (1, arI E 20 (st 11)) := wM_at 9
theorem wM_13 : wM E o st w0 (o + 10) = some (1, arI E 20 (st 13)) := wM_at 10
theorem wM_22 : wM E o st w0 (o + 11) = some (1, arI E 6 (st 22)) := wM_at 11
theorem wM_put {st' : Ms} {k : Nat} {c : Nat × va_E} (h1 : ∀ x, mW E o st' k x = some c) (h2 : ∀ j x, j ≠ k → mW E o st' j x = mW E o st j x) : up (wM E o st w0) (o + k) c = wM E o st' w0 := by
  funext q
  by_cases hq : q = o + k
  · subst hq
    rw [up_s, wM_at, h1]
  · rw [up_n hq]
    by_cases hl : q < o
    · simp [wM, hl]
    · unfold wM
      rw [if_neg hl, if_neg hl, h2]
      omega
theorem wM_s0 {z x : Int} : up (wM E o st w0) (o + 1) (1, arI E 198 (upz (st 0) z x)) = wM E o (su st 0 z x) w0 := by
  refine wM_put (fun y => ?_) ?_
  · show some (1, arI E 198 (su st 0 z x 0)) = _
    rw [su_u]
  · intro j y hj
    match j, hj with
    | 0, _ => show some (1, Sum.inr (2, mfl o (su st 0 z x))) = some (1, Sum.inr (2, mfl o st)); simp only [mfl]; rfl
    | 1, hj => exact absurd rfl hj
    | 2, _ => show some (1, arI E 198 (su st 0 z x 1)) = some (1, arI E 198 (st 1)); rw [su_k (by decide)]
    | 3, _ => show some (1, arI E 792 (su st 0 z x 2)) = some (1, arI E 792 (st 2)); rw [su_k (by decide)]
    | 4, _ => show some (1, arI E 150 (su st 0 z x 4)) = some (1, arI E 150 (st 4)); rw [su_k (by decide)]
    | 5, _ => show some (1, arI E 20 (su st 0 z x 7)) = some (1, arI E 20 (st 7)); rw [su_k (by decide)]
    | 6, _ => show some (1, arI E 20 (su st 0 z x 8)) = some (1, arI E 20 (st 8)); rw [su_k (by decide)]
    | 7, _ => show some (1, arI E 20 (su st 0 z x 9)) = some (1, arI E 20 (st 9)); rw [su_k (by decide)]
    | 8, _ => show some (1, arI E 20 (su st 0 z x 10)) = some (1, arI E 20 (st 10)); rw [su_k (by decide)]
    | 9, _ => show some (1, arI E 20 (su st 0 z x 11)) = some (1, arI E 20 (st 11)); rw [su_k (by decide)]
    | 10, _ => show some (1, arI E 20 (su st 0 z x 13)) = some (1, arI E 20 (st 13)); rw [su_k (by decide)]
    | 11, _ => show some (1, arI E 6 (su st 0 z x 22)) = some (1, arI E 6 (st 22)); rw [su_k (by decide)]
    | _ + 12, _ => rfl
theorem wM_s1 {z x : Int} : up (wM E o st w0) (o + 2) (1, arI E 198 (upz (st 1) z x)) = wM E o (su st 1 z x) w0 := by
  refine wM_put (fun y => ?_) ?_
  · show some (1, arI E 198 (su st 1 z x 1)) = _
    rw [su_u]
  · intro j y hj
    match j, hj with
    | 0, _ => show some (1, Sum.inr (2, mfl o (su st 1 z x))) = some (1, Sum.inr (2, mfl o st)); simp only [mfl]; rfl
    | 1, _ => show some (1, arI E 198 (su st 1 z x 0)) = some (1, arI E 198 (st 0)); rw [su_k (by decide)]
    | 2, hj => exact absurd rfl hj
    | 3, _ => show some (1, arI E 792 (su st 1 z x 2)) = some (1, arI E 792 (st 2)); rw [su_k (by decide)]
    | 4, _ => show some (1, arI E 150 (su st 1 z x 4)) = some (1, arI E 150 (st 4)); rw [su_k (by decide)]
    | 5, _ => show some (1, arI E 20 (su st 1 z x 7)) = some (1, arI E 20 (st 7)); rw [su_k (by decide)]
    | 6, _ => show some (1, arI E 20 (su st 1 z x 8)) = some (1, arI E 20 (st 8)); rw [su_k (by decide)]
    | 7, _ => show some (1, arI E 20 (su st 1 z x 9)) = some (1, arI E 20 (st 9)); rw [su_k (by decide)]
    | 8, _ => show some (1, arI E 20 (su st 1 z x 10)) = some (1, arI E 20 (st 10)); rw [su_k (by decide)]
    | 9, _ => show some (1, arI E 20 (su st 1 z x 11)) = some (1, arI E 20 (st 11)); rw [su_k (by decide)]
    | 10, _ => show some (1, arI E 20 (su st 1 z x 13)) = some (1, arI E 20 (st 13)); rw [su_k (by decide)]
    | 11, _ => show some (1, arI E 6 (su st 1 z x 22)) = some (1, arI E 6 (st 22)); rw [su_k (by decide)]
    | _ + 12, _ => rfl
theorem wM_s2 {z x : Int} : up (wM E o st w0) (o + 3) (1, arI E 792 (upz (st 2) z x)) = wM E o (su st 2 z x) w0 := by
  refine wM_put (fun y => ?_) ?_
  · show some (1, arI E 792 (su st 2 z x 2)) = _
    rw [su_u]
  · intro j y hj
    match j, hj with
    | 0, _ => show some (1, Sum.inr (2, mfl o (su st 2 z x))) = some (1, Sum.inr (2, mfl o st)); simp only [mfl]; rfl
    | 1, _ => show some (1, arI E 198 (su st 2 z x 0)) = some (1, arI E 198 (st 0)); rw [su_k (by decide)]
    | 2, _ => show some (1, arI E 198 (su st 2 z x 1)) = some (1, arI E 198 (st 1)); rw [su_k (by decide)]
    | 3, hj => exact absurd rfl hj
    | 4, _ => show some (1, arI E 150 (su st 2 z x 4)) = some (1, arI E 150 (st 4)); rw [su_k (by decide)]
    | 5, _ => show some (1, arI E 20 (su st 2 z x 7)) = some (1, arI E 20 (st 7)); rw [su_k (by decide)]
    | 6, _ => show some (1, arI E 20 (su st 2 z x 8)) = some (1, arI E 20 (st 8)); rw [su_k (by decide)]
    | 7, _ => show some (1, arI E 20 (su st 2 z x 9)) = some (1, arI E 20 (st 9)); rw [su_k (by decide)]
    | 8, _ => show some (1, arI E 20 (su st 2 z x 10)) = some (1, arI E 20 (st 10)); rw [su_k (by decide)]
    | 9, _ => show some (1, arI E 20 (su st 2 z x 11)) = some (1, arI E 20 (st 11)); rw [su_k (by decide)]
    | 10, _ => show some (1, arI E 20 (su st 2 z x 13)) = some (1, arI E 20 (st 13)); rw [su_k (by decide)]
    | 11, _ => show some (1, arI E 6 (su st 2 z x 22)) = some (1, arI E 6 (st 22)); rw [su_k (by decide)]
    | _ + 12, _ => rfl
theorem wM_s4 {z x : Int} : up (wM E o st w0) (o + 4) (1, arI E 150 (upz (st 4) z x)) = wM E o (su st 4 z x) w0 := by
  refine wM_put (fun y => ?_) ?_
  · show some (1, arI E 150 (su st 4 z x 4)) = _
    rw [su_u]
  · intro j y hj
    match j, hj with
    | 0, _ => show some (1, Sum.inr (2, mfl o (su st 4 z x))) = some (1, Sum.inr (2, mfl o st)); simp only [mfl]; rfl
    | 1, _ => show some (1, arI E 198 (su st 4 z x 0)) = some (1, arI E 198 (st 0)); rw [su_k (by decide)]
    | 2, _ => show some (1, arI E 198 (su st 4 z x 1)) = some (1, arI E 198 (st 1)); rw [su_k (by decide)]
    | 3, _ => show some (1, arI E 792 (su st 4 z x 2)) = some (1, arI E 792 (st 2)); rw [su_k (by decide)]
    | 4, hj => exact absurd rfl hj
    | 5, _ => show some (1, arI E 20 (su st 4 z x 7)) = some (1, arI E 20 (st 7)); rw [su_k (by decide)]
    | 6, _ => show some (1, arI E 20 (su st 4 z x 8)) = some (1, arI E 20 (st 8)); rw [su_k (by decide)]
    | 7, _ => show some (1, arI E 20 (su st 4 z x 9)) = some (1, arI E 20 (st 9)); rw [su_k (by decide)]
    | 8, _ => show some (1, arI E 20 (su st 4 z x 10)) = some (1, arI E 20 (st 10)); rw [su_k (by decide)]
    | 9, _ => show some (1, arI E 20 (su st 4 z x 11)) = some (1, arI E 20 (st 11)); rw [su_k (by decide)]
    | 10, _ => show some (1, arI E 20 (su st 4 z x 13)) = some (1, arI E 20 (st 13)); rw [su_k (by decide)]
    | 11, _ => show some (1, arI E 6 (su st 4 z x 22)) = some (1, arI E 6 (st 22)); rw [su_k (by decide)]
    | _ + 12, _ => rfl
theorem wM_s7 {z x : Int} : up (wM E o st w0) (o + 5) (1, arI E 20 (upz (st 7) z x)) = wM E o (su st 7 z x) w0 := by
  refine wM_put (fun y => ?_) ?_
  · show some (1, arI E 20 (su st 7 z x 7)) = _
    rw [su_u]
  · intro j y hj
    match j, hj with
    | 0, _ => show some (1, Sum.inr (2, mfl o (su st 7 z x))) = some (1, Sum.inr (2, mfl o st)); simp only [mfl]; rfl
    | 1, _ => show some (1, arI E 198 (su st 7 z x 0)) = some (1, arI E 198 (st 0)); rw [su_k (by decide)]
    | 2, _ => show some (1, arI E 198 (su st 7 z x 1)) = some (1, arI E 198 (st 1)); rw [su_k (by decide)]
    | 3, _ => show some (1, arI E 792 (su st 7 z x 2)) = some (1, arI E 792 (st 2)); rw [su_k (by decide)]
    | 4, _ => show some (1, arI E 150 (su st 7 z x 4)) = some (1, arI E 150 (st 4)); rw [su_k (by decide)]
    | 5, hj => exact absurd rfl hj
    | 6, _ => show some (1, arI E 20 (su st 7 z x 8)) = some (1, arI E 20 (st 8)); rw [su_k (by decide)]
    | 7, _ => show some (1, arI E 20 (su st 7 z x 9)) = some (1, arI E 20 (st 9)); rw [su_k (by decide)]
    | 8, _ => show some (1, arI E 20 (su st 7 z x 10)) = some (1, arI E 20 (st 10)); rw [su_k (by decide)]
    | 9, _ => show some (1, arI E 20 (su st 7 z x 11)) = some (1, arI E 20 (st 11)); rw [su_k (by decide)]
    | 10, _ => show some (1, arI E 20 (su st 7 z x 13)) = some (1, arI E 20 (st 13)); rw [su_k (by decide)]
    | 11, _ => show some (1, arI E 6 (su st 7 z x 22)) = some (1, arI E 6 (st 22)); rw [su_k (by decide)]
    | _ + 12, _ => rfl
theorem wM_s8 {z x : Int} : up (wM E o st w0) (o + 6) (1, arI E 20 (upz (st 8) z x)) = wM E o (su st 8 z x) w0 := by
  refine wM_put (fun y => ?_) ?_
  · show some (1, arI E 20 (su st 8 z x 8)) = _
    rw [su_u]
  · intro j y hj
    match j, hj with
    | 0, _ => show some (1, Sum.inr (2, mfl o (su st 8 z x))) = some (1, Sum.inr (2, mfl o st)); simp only [mfl]; rfl
    | 1, _ => show some (1, arI E 198 (su st 8 z x 0)) = some (1, arI E 198 (st 0)); rw [su_k (by decide)]
    | 2, _ => show some (1, arI E 198 (su st 8 z x 1)) = some (1, arI E 198 (st 1)); rw [su_k (by decide)]
    | 3, _ => show some (1, arI E 792 (su st 8 z x 2)) = some (1, arI E 792 (st 2)); rw [su_k (by decide)]
    | 4, _ => show some (1, arI E 150 (su st 8 z x 4)) = some (1, arI E 150 (st 4)); rw [su_k (by decide)]
    | 5, _ => show some (1, arI E 20 (su st 8 z x 7)) = some (1, arI E 20 (st 7)); rw [su_k (by decide)]
    | 6, hj => exact absurd rfl hj
    | 7, _ => show some (1, arI E 20 (su st 8 z x 9)) = some (1, arI E 20 (st 9)); rw [su_k (by decide)]
    | 8, _ => show some (1, arI E 20 (su st 8 z x 10)) = some (1, arI E 20 (st 10)); rw [su_k (by decide)]
    | 9, _ => show some (1, arI E 20 (su st 8 z x 11)) = some (1, arI E 20 (st 11)); rw [su_k (by decide)]
    | 10, _ => show some (1, arI E 20 (su st 8 z x 13)) = some (1, arI E 20 (st 13)); rw [su_k (by decide)]
    | 11, _ => show some (1, arI E 6 (su st 8 z x 22)) = some (1, arI E 6 (st 22)); rw [su_k (by decide)]
    | _ + 12, _ => rfl
theorem wM_s9 {z x : Int} : up (wM E o st w0) (o + 7) (1, arI E 20 (upz (st 9) z x)) = wM E o (su st 9 z x) w0 := by
  refine wM_put (fun y => ?_) ?_
  · show some (1, arI E 20 (su st 9 z x 9)) = _
    rw [su_u]
  · intro j y hj
    match j, hj with
    | 0, _ => show some (1, Sum.inr (2, mfl o (su st 9 z x))) = some (1, Sum.inr (2, mfl o st)); simp only [mfl]; rfl
    | 1, _ => show some (1, arI E 198 (su st 9 z x 0)) = some (1, arI E 198 (st 0)); rw [su_k (by decide)]
    | 2, _ => show some (1, arI E 198 (su st 9 z x 1)) = some (1, arI E 198 (st 1)); rw [su_k (by decide)]
    | 3, _ => show some (1, arI E 792 (su st 9 z x 2)) = some (1, arI E 792 (st 2)); rw [su_k (by decide)]
    | 4, _ => show some (1, arI E 150 (su st 9 z x 4)) = some (1, arI E 150 (st 4)); rw [su_k (by decide)]
    | 5, _ => show some (1, arI E 20 (su st 9 z x 7)) = some (1, arI E 20 (st 7)); rw [su_k (by decide)]
    | 6, _ => show some (1, arI E 20 (su st 9 z x 8)) = some (1, arI E 20 (st 8)); rw [su_k (by decide)]
    | 7, hj => exact absurd rfl hj
    | 8, _ => show some (1, arI E 20 (su st 9 z x 10)) = some (1, arI E 20 (st 10)); rw [su_k (by decide)]
    | 9, _ => show some (1, arI E 20 (su st 9 z x 11)) = some (1, arI E 20 (st 11)); rw [su_k (by decide)]
    | 10, _ => show some (1, arI E 20 (su st 9 z x 13)) = some (1, arI E 20 (st 13)); rw [su_k (by decide)]
    | 11, _ => show some (1, arI E 6 (su st 9 z x 22)) = some (1, arI E 6 (st 22)); rw [su_k (by decide)]
    | _ + 12, _ => rfl
theorem wM_s10 {z x : Int} : up (wM E o st w0) (o + 8) (1, arI E 20 (upz (st 10) z x)) = wM E o (su st 10 z x) w0 := by
  refine wM_put (fun y => ?_) ?_
  · show some (1, arI E 20 (su st 10 z x 10)) = _
    rw [su_u]
  · intro j y hj
    match j, hj with
    | 0, _ => show some (1, Sum.inr (2, mfl o (su st 10 z x))) = some (1, Sum.inr (2, mfl o st)); simp only [mfl]; rfl
    | 1, _ => show some (1, arI E 198 (su st 10 z x 0)) = some (1, arI E 198 (st 0)); rw [su_k (by decide)]
    | 2, _ => show some (1, arI E 198 (su st 10 z x 1)) = some (1, arI E 198 (st 1)); rw [su_k (by decide)]
    | 3, _ => show some (1, arI E 792 (su st 10 z x 2)) = some (1, arI E 792 (st 2)); rw [su_k (by decide)]
    | 4, _ => show some (1, arI E 150 (su st 10 z x 4)) = some (1, arI E 150 (st 4)); rw [su_k (by decide)]
    | 5, _ => show some (1, arI E 20 (su st 10 z x 7)) = some (1, arI E 20 (st 7)); rw [su_k (by decide)]
    | 6, _ => show some (1, arI E 20 (su st 10 z x 8)) = some (1, arI E 20 (st 8)); rw [su_k (by decide)]
    | 7, _ => show some (1, arI E 20 (su st 10 z x 9)) = some (1, arI E 20 (st 9)); rw [su_k (by decide)]
    | 8, hj => exact absurd rfl hj
    | 9, _ => show some (1, arI E 20 (su st 10 z x 11)) = some (1, arI E 20 (st 11)); rw [su_k (by decide)]
    | 10, _ => show some (1, arI E 20 (su st 10 z x 13)) = some (1, arI E 20 (st 13)); rw [su_k (by decide)]
    | 11, _ => show some (1, arI E 6 (su st 10 z x 22)) = some (1, arI E 6 (st 22)); rw [su_k (by decide)]
    | _ + 12, _ => rfl
theorem wM_s11 {z x : Int} : up (wM E o st w0) (o + 9) (1, arI E 20 (upz (st 11) z x)) = wM E o (su st 11 z x) w0 := by
  refine wM_put (fun y => ?_) ?_
  · show some (1, arI E 20 (su st 11 z x 11)) = _
    rw [su_u]
  · intro j y hj
    match j, hj with
    | 0, _ => show some (1, Sum.inr (2, mfl o (su st 11 z x))) = some (1, Sum.inr (2, mfl o st)); simp only [mfl]; rfl
    | 1, _ => show some (1, arI E 198 (su st 11 z x 0)) = some (1, arI E 198 (st 0)); rw [su_k (by decide)]
    | 2, _ => show some (1, arI E 198 (su st 11 z x 1)) = some (1, arI E 198 (st 1)); rw [su_k (by decide)]
    | 3, _ => show some (1, arI E 792 (su st 11 z x 2)) = some (1, arI E 792 (st 2)); rw [su_k (by decide)]
    | 4, _ => show some (1, arI E 150 (su st 11 z x 4)) = some (1, arI E 150 (st 4)); rw [su_k (by decide)]
    | 5, _ => show some (1, arI E 20 (su st 11 z x 7)) = some (1, arI E 20 (st 7)); rw [su_k (by decide)]
    | 6, _ => show some (1, arI E 20 (su st 11 z x 8)) = some (1, arI E 20 (st 8)); rw [su_k (by decide)]
    | 7, _ => show some (1, arI E 20 (su st 11 z x 9)) = some (1, arI E 20 (st 9)); rw [su_k (by decide)]
    | 8, _ => show some (1, arI E 20 (su st 11 z x 10)) = some (1, arI E 20 (st 10)); rw [su_k (by decide)]
    | 9, hj => exact absurd rfl hj
    | 10, _ => show some (1, arI E 20 (su st 11 z x 13)) = some (1, arI E 20 (st 13)); rw [su_k (by decide)]
    | 11, _ => show some (1, arI E 6 (su st 11 z x 22)) = some (1, arI E 6 (st 22)); rw [su_k (by decide)]
    | _ + 12, _ => rfl
theorem wM_s13 {z x : Int} : up (wM E o st w0) (o + 10) (1, arI E 20 (upz (st 13) z x)) = wM E o (su st 13 z x) w0 := by
  refine wM_put (fun y => ?_) ?_
  · show some (1, arI E 20 (su st 13 z x 13)) = _
    rw [su_u]
  · intro j y hj
    match j, hj with
    | 0, _ => show some (1, Sum.inr (2, mfl o (su st 13 z x))) = some (1, Sum.inr (2, mfl o st)); simp only [mfl]; rfl
    | 1, _ => show some (1, arI E 198 (su st 13 z x 0)) = some (1, arI E 198 (st 0)); rw [su_k (by decide)]
    | 2, _ => show some (1, arI E 198 (su st 13 z x 1)) = some (1, arI E 198 (st 1)); rw [su_k (by decide)]
    | 3, _ => show some (1, arI E 792 (su st 13 z x 2)) = some (1, arI E 792 (st 2)); rw [su_k (by decide)]
    | 4, _ => show some (1, arI E 150 (su st 13 z x 4)) = some (1, arI E 150 (st 4)); rw [su_k (by decide)]
    | 5, _ => show some (1, arI E 20 (su st 13 z x 7)) = some (1, arI E 20 (st 7)); rw [su_k (by decide)]
    | 6, _ => show some (1, arI E 20 (su st 13 z x 8)) = some (1, arI E 20 (st 8)); rw [su_k (by decide)]
    | 7, _ => show some (1, arI E 20 (su st 13 z x 9)) = some (1, arI E 20 (st 9)); rw [su_k (by decide)]
    | 8, _ => show some (1, arI E 20 (su st 13 z x 10)) = some (1, arI E 20 (st 10)); rw [su_k (by decide)]
    | 9, _ => show some (1, arI E 20 (su st 13 z x 11)) = some (1, arI E 20 (st 11)); rw [su_k (by decide)]
    | 10, hj => exact absurd rfl hj
    | 11, _ => show some (1, arI E 6 (su st 13 z x 22)) = some (1, arI E 6 (st 22)); rw [su_k (by decide)]
    | _ + 12, _ => rfl
theorem wM_s22 {z x : Int} : up (wM E o st w0) (o + 11) (1, arI E 6 (upz (st 22) z x)) = wM E o (su st 22 z x) w0 := by
  refine wM_put (fun y => ?_) ?_
  · show some (1, arI E 6 (su st 22 z x 22)) = _
    rw [su_u]
  · intro j y hj
    match j, hj with
    | 0, _ => show some (1, Sum.inr (2, mfl o (su st 22 z x))) = some (1, Sum.inr (2, mfl o st)); simp only [mfl]; rfl
    | 1, _ => show some (1, arI E 198 (su st 22 z x 0)) = some (1, arI E 198 (st 0)); rw [su_k (by decide)]
    | 2, _ => show some (1, arI E 198 (su st 22 z x 1)) = some (1, arI E 198 (st 1)); rw [su_k (by decide)]
    | 3, _ => show some (1, arI E 792 (su st 22 z x 2)) = some (1, arI E 792 (st 2)); rw [su_k (by decide)]
    | 4, _ => show some (1, arI E 150 (su st 22 z x 4)) = some (1, arI E 150 (st 4)); rw [su_k (by decide)]
    | 5, _ => show some (1, arI E 20 (su st 22 z x 7)) = some (1, arI E 20 (st 7)); rw [su_k (by decide)]
    | 6, _ => show some (1, arI E 20 (su st 22 z x 8)) = some (1, arI E 20 (st 8)); rw [su_k (by decide)]
    | 7, _ => show some (1, arI E 20 (su st 22 z x 9)) = some (1, arI E 20 (st 9)); rw [su_k (by decide)]
    | 8, _ => show some (1, arI E 20 (su st 22 z x 10)) = some (1, arI E 20 (st 10)); rw [su_k (by decide)]
    | 9, _ => show some (1, arI E 20 (su st 22 z x 11)) = some (1, arI E 20 (st 11)); rw [su_k (by decide)]
    | 10, _ => show some (1, arI E 20 (su st 22 z x 13)) = some (1, arI E 20 (st 13)); rw [su_k (by decide)]
    | 11, hj => exact absurd rfl hj
    | _ + 12, _ => rfl
theorem wM_f3 {x : Int} : up (wM E o st w0) o (1, .inr (2, (mfl o st).set 3 (.int (iI x)))) = wM E o (su st 3 0 x) w0 := by
  refine wM_put (k := 0) (fun y => ?_) ?_
  · show some (1, Sum.inr (2, mfl o (su st 3 0 x))) = _
    rfl
  · intro j y hj
    match j, hj with
    | 0, hj => exact absurd rfl hj
    | 1, _ => show some (1, arI E 198 (su st 3 0 x 0)) = some (1, arI E 198 (st 0)); rw [su_k (by decide)]
    | 2, _ => show some (1, arI E 198 (su st 3 0 x 1)) = some (1, arI E 198 (st 1)); rw [su_k (by decide)]
    | 3, _ => show some (1, arI E 792 (su st 3 0 x 2)) = some (1, arI E 792 (st 2)); rw [su_k (by decide)]
    | 4, _ => show some (1, arI E 150 (su st 3 0 x 4)) = some (1, arI E 150 (st 4)); rw [su_k (by decide)]
    | 5, _ => show some (1, arI E 20 (su st 3 0 x 7)) = some (1, arI E 20 (st 7)); rw [su_k (by decide)]
    | 6, _ => show some (1, arI E 20 (su st 3 0 x 8)) = some (1, arI E 20 (st 8)); rw [su_k (by decide)]
    | 7, _ => show some (1, arI E 20 (su st 3 0 x 9)) = some (1, arI E 20 (st 9)); rw [su_k (by decide)]
    | 8, _ => show some (1, arI E 20 (su st 3 0 x 10)) = some (1, arI E 20 (st 10)); rw [su_k (by decide)]
    | 9, _ => show some (1, arI E 20 (su st 3 0 x 11)) = some (1, arI E 20 (st 11)); rw [su_k (by decide)]
    | 10, _ => show some (1, arI E 20 (su st 3 0 x 13)) = some (1, arI E 20 (st 13)); rw [su_k (by decide)]
    | 11, _ => show some (1, arI E 6 (su st 3 0 x 22)) = some (1, arI E 6 (st 22)); rw [su_k (by decide)]
    | _ + 12, _ => rfl
theorem wM_f5 {x : Int} : up (wM E o st w0) o (1, .inr (2, (mfl o st).set 5 (.int (iI x)))) = wM E o (su st 5 0 x) w0 := by
  refine wM_put (k := 0) (fun y => ?_) ?_
  · show some (1, Sum.inr (2, mfl o (su st 5 0 x))) = _
    rfl
  · intro j y hj
    match j, hj with
    | 0, hj => exact absurd rfl hj
    | 1, _ => show some (1, arI E 198 (su st 5 0 x 0)) = some (1, arI E 198 (st 0)); rw [su_k (by decide)]
    | 2, _ => show some (1, arI E 198 (su st 5 0 x 1)) = some (1, arI E 198 (st 1)); rw [su_k (by decide)]
    | 3, _ => show some (1, arI E 792 (su st 5 0 x 2)) = some (1, arI E 792 (st 2)); rw [su_k (by decide)]
    | 4, _ => show some (1, arI E 150 (su st 5 0 x 4)) = some (1, arI E 150 (st 4)); rw [su_k (by decide)]
    | 5, _ => show some (1, arI E 20 (su st 5 0 x 7)) = some (1, arI E 20 (st 7)); rw [su_k (by decide)]
    | 6, _ => show some (1, arI E 20 (su st 5 0 x 8)) = some (1, arI E 20 (st 8)); rw [su_k (by decide)]
    | 7, _ => show some (1, arI E 20 (su st 5 0 x 9)) = some (1, arI E 20 (st 9)); rw [su_k (by decide)]
    | 8, _ => show some (1, arI E 20 (su st 5 0 x 10)) = some (1, arI E 20 (st 10)); rw [su_k (by decide)]
    | 9, _ => show some (1, arI E 20 (su st 5 0 x 11)) = some (1, arI E 20 (st 11)); rw [su_k (by decide)]
    | 10, _ => show some (1, arI E 20 (su st 5 0 x 13)) = some (1, arI E 20 (st 13)); rw [su_k (by decide)]
    | 11, _ => show some (1, arI E 6 (su st 5 0 x 22)) = some (1, arI E 6 (st 22)); rw [su_k (by decide)]
    | _ + 12, _ => rfl
theorem wM_f6 {x : Int} : up (wM E o st w0) o (1, .inr (2, (mfl o st).set 6 (.int (iI x)))) = wM E o (su st 6 0 x) w0 := by
  refine wM_put (k := 0) (fun y => ?_) ?_
  · show some (1, Sum.inr (2, mfl o (su st 6 0 x))) = _
    rfl
  · intro j y hj
    match j, hj with
    | 0, hj => exact absurd rfl hj
    | 1, _ => show some (1, arI E 198 (su st 6 0 x 0)) = some (1, arI E 198 (st 0)); rw [su_k (by decide)]
    | 2, _ => show some (1, arI E 198 (su st 6 0 x 1)) = some (1, arI E 198 (st 1)); rw [su_k (by decide)]
    | 3, _ => show some (1, arI E 792 (su st 6 0 x 2)) = some (1, arI E 792 (st 2)); rw [su_k (by decide)]
    | 4, _ => show some (1, arI E 150 (su st 6 0 x 4)) = some (1, arI E 150 (st 4)); rw [su_k (by decide)]
    | 5, _ => show some (1, arI E 20 (su st 6 0 x 7)) = some (1, arI E 20 (st 7)); rw [su_k (by decide)]
    | 6, _ => show some (1, arI E 20 (su st 6 0 x 8)) = some (1, arI E 20 (st 8)); rw [su_k (by decide)]
    | 7, _ => show some (1, arI E 20 (su st 6 0 x 9)) = some (1, arI E 20 (st 9)); rw [su_k (by decide)]
    | 8, _ => show some (1, arI E 20 (su st 6 0 x 10)) = some (1, arI E 20 (st 10)); rw [su_k (by decide)]
    | 9, _ => show some (1, arI E 20 (su st 6 0 x 11)) = some (1, arI E 20 (st 11)); rw [su_k (by decide)]
    | 10, _ => show some (1, arI E 20 (su st 6 0 x 13)) = some (1, arI E 20 (st 13)); rw [su_k (by decide)]
    | 11, _ => show some (1, arI E 6 (su st 6 0 x 22)) = some (1, arI E 6 (st 22)); rw [su_k (by decide)]
    | _ + 12, _ => rfl
theorem wM_f12 {x : Int} : up (wM E o st w0) o (1, .inr (2, (mfl o st).set 12 (.int (iI x)))) = wM E o (su st 12 0 x) w0 := by
  refine wM_put (k := 0) (fun y => ?_) ?_
  · show some (1, Sum.inr (2, mfl o (su st 12 0 x))) = _
    rfl
  · intro j y hj
    match j, hj with
    | 0, hj => exact absurd rfl hj
    | 1, _ => show some (1, arI E 198 (su st 12 0 x 0)) = some (1, arI E 198 (st 0)); rw [su_k (by decide)]
    | 2, _ => show some (1, arI E 198 (su st 12 0 x 1)) = some (1, arI E 198 (st 1)); rw [su_k (by decide)]
    | 3, _ => show some (1, arI E 792 (su st 12 0 x 2)) = some (1, arI E 792 (st 2)); rw [su_k (by decide)]
    | 4, _ => show some (1, arI E 150 (su st 12 0 x 4)) = some (1, arI E 150 (st 4)); rw [su_k (by decide)]
    | 5, _ => show some (1, arI E 20 (su st 12 0 x 7)) = some (1, arI E 20 (st 7)); rw [su_k (by decide)]
    | 6, _ => show some (1, arI E 20 (su st 12 0 x 8)) = some (1, arI E 20 (st 8)); rw [su_k (by decide)]
    | 7, _ => show some (1, arI E 20 (su st 12 0 x 9)) = some (1, arI E 20 (st 9)); rw [su_k (by decide)]
    | 8, _ => show some (1, arI E 20 (su st 12 0 x 10)) = some (1, arI E 20 (st 10)); rw [su_k (by decide)]
    | 9, _ => show some (1, arI E 20 (su st 12 0 x 11)) = some (1, arI E 20 (st 11)); rw [su_k (by decide)]
    | 10, _ => show some (1, arI E 20 (su st 12 0 x 13)) = some (1, arI E 20 (st 13)); rw [su_k (by decide)]
    | 11, _ => show some (1, arI E 6 (su st 12 0 x 22)) = some (1, arI E 6 (st 22)); rw [su_k (by decide)]
    | _ + 12, _ => rfl
theorem wM_f14 {x : Int} : up (wM E o st w0) o (1, .inr (2, (mfl o st).set 14 (.int (iI x)))) = wM E o (su st 14 0 x) w0 := by
  refine wM_put (k := 0) (fun y => ?_) ?_
  · show some (1, Sum.inr (2, mfl o (su st 14 0 x))) = _
    rfl
  · intro j y hj
    match j, hj with
    | 0, hj => exact absurd rfl hj
    | 1, _ => show some (1, arI E 198 (su st 14 0 x 0)) = some (1, arI E 198 (st 0)); rw [su_k (by decide)]
    | 2, _ => show some (1, arI E 198 (su st 14 0 x 1)) = some (1, arI E 198 (st 1)); rw [su_k (by decide)]
    | 3, _ => show some (1, arI E 792 (su st 14 0 x 2)) = some (1, arI E 792 (st 2)); rw [su_k (by decide)]
    | 4, _ => show some (1, arI E 150 (su st 14 0 x 4)) = some (1, arI E 150 (st 4)); rw [su_k (by decide)]
    | 5, _ => show some (1, arI E 20 (su st 14 0 x 7)) = some (1, arI E 20 (st 7)); rw [su_k (by decide)]
    | 6, _ => show some (1, arI E 20 (su st 14 0 x 8)) = some (1, arI E 20 (st 8)); rw [su_k (by decide)]
    | 7, _ => show some (1, arI E 20 (su st 14 0 x 9)) = some (1, arI E 20 (st 9)); rw [su_k (by decide)]
    | 8, _ => show some (1, arI E 20 (su st 14 0 x 10)) = some (1, arI E 20 (st 10)); rw [su_k (by decide)]
    | 9, _ => show some (1, arI E 20 (su st 14 0 x 11)) = some (1, arI E 20 (st 11)); rw [su_k (by decide)]
    | 10, _ => show some (1, arI E 20 (su st 14 0 x 13)) = some (1, arI E 20 (st 13)); rw [su_k (by decide)]
    | 11, _ => show some (1, arI E 6 (su st 14 0 x 22)) = some (1, arI E 6 (st 22)); rw [su_k (by decide)]
    | _ + 12, _ => rfl
theorem wM_f15 {x : Int} : up (wM E o st w0) o (1, .inr (2, (mfl o st).set 15 (.int (iI x)))) = wM E o (su st 15 0 x) w0 := by
  refine wM_put (k := 0) (fun y => ?_) ?_
  · show some (1, Sum.inr (2, mfl o (su st 15 0 x))) = _
    rfl
  · intro j y hj
    match j, hj with
    | 0, hj => exact absurd rfl hj
    | 1, _ => show some (1, arI E 198 (su st 15 0 x 0)) = some (1, arI E 198 (st 0)); rw [su_k (by decide)]
    | 2, _ => show some (1, arI E 198 (su st 15 0 x 1)) = some (1, arI E 198 (st 1)); rw [su_k (by decide)]
    | 3, _ => show some (1, arI E 792 (su st 15 0 x 2)) = some (1, arI E 792 (st 2)); rw [su_k (by decide)]
    | 4, _ => show some (1, arI E 150 (su st 15 0 x 4)) = some (1, arI E 150 (st 4)); rw [su_k (by decide)]
    | 5, _ => show some (1, arI E 20 (su st 15 0 x 7)) = some (1, arI E 20 (st 7)); rw [su_k (by decide)]
    | 6, _ => show some (1, arI E 20 (su st 15 0 x 8)) = some (1, arI E 20 (st 8)); rw [su_k (by decide)]
    | 7, _ => show some (1, arI E 20 (su st 15 0 x 9)) = some (1, arI E 20 (st 9)); rw [su_k (by decide)]
    | 8, _ => show some (1, arI E 20 (su st 15 0 x 10)) = some (1, arI E 20 (st 10)); rw [su_k (by decide)]
    | 9, _ => show some (1, arI E 20 (su st 15 0 x 11)) = some (1, arI E 20 (st 11)); rw [su_k (by decide)]
    | 10, _ => show some (1, arI E 20 (su st 15 0 x 13)) = some (1, arI E 20 (st 13)); rw [su_k (by decide)]
    | 11, _ => show some (1, arI E 6 (su st 15 0 x 22)) = some (1, arI E 6 (st 22)); rw [su_k (by decide)]
    | _ + 12, _ => rfl
theorem wM_f16 {x : Int} : up (wM E o st w0) o (1, .inr (2, (mfl o st).set 16 (.int (iI x)))) = wM E o (su st 16 0 x) w0 := by
  refine wM_put (k := 0) (fun y => ?_) ?_
  · show some (1, Sum.inr (2, mfl o (su st 16 0 x))) = _
    rfl
  · intro j y hj
    match j, hj with
    | 0, hj => exact absurd rfl hj
    | 1, _ => show some (1, arI E 198 (su st 16 0 x 0)) = some (1, arI E 198 (st 0)); rw [su_k (by decide)]
    | 2, _ => show some (1, arI E 198 (su st 16 0 x 1)) = some (1, arI E 198 (st 1)); rw [su_k (by decide)]
    | 3, _ => show some (1, arI E 792 (su st 16 0 x 2)) = some (1, arI E 792 (st 2)); rw [su_k (by decide)]
    | 4, _ => show some (1, arI E 150 (su st 16 0 x 4)) = some (1, arI E 150 (st 4)); rw [su_k (by decide)]
    | 5, _ => show some (1, arI E 20 (su st 16 0 x 7)) = some (1, arI E 20 (st 7)); rw [su_k (by decide)]
    | 6, _ => show some (1, arI E 20 (su st 16 0 x 8)) = some (1, arI E 20 (st 8)); rw [su_k (by decide)]
    | 7, _ => show some (1, arI E 20 (su st 16 0 x 9)) = some (1, arI E 20 (st 9)); rw [su_k (by decide)]
    | 8, _ => show some (1, arI E 20 (su st 16 0 x 10)) = some (1, arI E 20 (st 10)); rw [su_k (by decide)]
    | 9, _ => show some (1, arI E 20 (su st 16 0 x 11)) = some (1, arI E 20 (st 11)); rw [su_k (by decide)]
    | 10, _ => show some (1, arI E 20 (su st 16 0 x 13)) = some (1, arI E 20 (st 13)); rw [su_k (by decide)]
    | 11, _ => show some (1, arI E 6 (su st 16 0 x 22)) = some (1, arI E 6 (st 22)); rw [su_k (by decide)]
    | _ + 12, _ => rfl
theorem wM_f17 {x : Int} : up (wM E o st w0) o (1, .inr (2, (mfl o st).set 17 (.int (iI x)))) = wM E o (su st 17 0 x) w0 := by
  refine wM_put (k := 0) (fun y => ?_) ?_
  · show some (1, Sum.inr (2, mfl o (su st 17 0 x))) = _
    rfl
  · intro j y hj
    match j, hj with
    | 0, hj => exact absurd rfl hj
    | 1, _ => show some (1, arI E 198 (su st 17 0 x 0)) = some (1, arI E 198 (st 0)); rw [su_k (by decide)]
    | 2, _ => show some (1, arI E 198 (su st 17 0 x 1)) = some (1, arI E 198 (st 1)); rw [su_k (by decide)]
    | 3, _ => show some (1, arI E 792 (su st 17 0 x 2)) = some (1, arI E 792 (st 2)); rw [su_k (by decide)]
    | 4, _ => show some (1, arI E 150 (su st 17 0 x 4)) = some (1, arI E 150 (st 4)); rw [su_k (by decide)]
    | 5, _ => show some (1, arI E 20 (su st 17 0 x 7)) = some (1, arI E 20 (st 7)); rw [su_k (by decide)]
    | 6, _ => show some (1, arI E 20 (su st 17 0 x 8)) = some (1, arI E 20 (st 8)); rw [su_k (by decide)]
    | 7, _ => show some (1, arI E 20 (su st 17 0 x 9)) = some (1, arI E 20 (st 9)); rw [su_k (by decide)]
    | 8, _ => show some (1, arI E 20 (su st 17 0 x 10)) = some (1, arI E 20 (st 10)); rw [su_k (by decide)]
    | 9, _ => show some (1, arI E 20 (su st 17 0 x 11)) = some (1, arI E 20 (st 11)); rw [su_k (by decide)]
    | 10, _ => show some (1, arI E 20 (su st 17 0 x 13)) = some (1, arI E 20 (st 13)); rw [su_k (by decide)]
    | 11, _ => show some (1, arI E 6 (su st 17 0 x 22)) = some (1, arI E 6 (st 22)); rw [su_k (by decide)]
    | _ + 12, _ => rfl
theorem wM_f18 {x : Int} : up (wM E o st w0) o (1, .inr (2, (mfl o st).set 18 (.int (iI x)))) = wM E o (su st 18 0 x) w0 := by
  refine wM_put (k := 0) (fun y => ?_) ?_
  · show some (1, Sum.inr (2, mfl o (su st 18 0 x))) = _
    rfl
  · intro j y hj
    match j, hj with
    | 0, hj => exact absurd rfl hj
    | 1, _ => show some (1, arI E 198 (su st 18 0 x 0)) = some (1, arI E 198 (st 0)); rw [su_k (by decide)]
    | 2, _ => show some (1, arI E 198 (su st 18 0 x 1)) = some (1, arI E 198 (st 1)); rw [su_k (by decide)]
    | 3, _ => show some (1, arI E 792 (su st 18 0 x 2)) = some (1, arI E 792 (st 2)); rw [su_k (by decide)]
    | 4, _ => show some (1, arI E 150 (su st 18 0 x 4)) = some (1, arI E 150 (st 4)); rw [su_k (by decide)]
    | 5, _ => show some (1, arI E 20 (su st 18 0 x 7)) = some (1, arI E 20 (st 7)); rw [su_k (by decide)]
    | 6, _ => show some (1, arI E 20 (su st 18 0 x 8)) = some (1, arI E 20 (st 8)); rw [su_k (by decide)]
    | 7, _ => show some (1, arI E 20 (su st 18 0 x 9)) = some (1, arI E 20 (st 9)); rw [su_k (by decide)]
    | 8, _ => show some (1, arI E 20 (su st 18 0 x 10)) = some (1, arI E 20 (st 10)); rw [su_k (by decide)]
    | 9, _ => show some (1, arI E 20 (su st 18 0 x 11)) = some (1, arI E 20 (st 11)); rw [su_k (by decide)]
    | 10, _ => show some (1, arI E 20 (su st 18 0 x 13)) = some (1, arI E 20 (st 13)); rw [su_k (by decide)]
    | 11, _ => show some (1, arI E 6 (su st 18 0 x 22)) = some (1, arI E 6 (st 22)); rw [su_k (by decide)]
    | _ + 12, _ => rfl
theorem wM_f19 {x : Int} : up (wM E o st w0) o (1, .inr (2, (mfl o st).set 19 (.int (iI x)))) = wM E o (su st 19 0 x) w0 := by
  refine wM_put (k := 0) (fun y => ?_) ?_
  · show some (1, Sum.inr (2, mfl o (su st 19 0 x))) = _
    rfl
  · intro j y hj
    match j, hj with
    | 0, hj => exact absurd rfl hj
    | 1, _ => show some (1, arI E 198 (su st 19 0 x 0)) = some (1, arI E 198 (st 0)); rw [su_k (by decide)]
    | 2, _ => show some (1, arI E 198 (su st 19 0 x 1)) = some (1, arI E 198 (st 1)); rw [su_k (by decide)]
    | 3, _ => show some (1, arI E 792 (su st 19 0 x 2)) = some (1, arI E 792 (st 2)); rw [su_k (by decide)]
    | 4, _ => show some (1, arI E 150 (su st 19 0 x 4)) = some (1, arI E 150 (st 4)); rw [su_k (by decide)]
    | 5, _ => show some (1, arI E 20 (su st 19 0 x 7)) = some (1, arI E 20 (st 7)); rw [su_k (by decide)]
    | 6, _ => show some (1, arI E 20 (su st 19 0 x 8)) = some (1, arI E 20 (st 8)); rw [su_k (by decide)]
    | 7, _ => show some (1, arI E 20 (su st 19 0 x 9)) = some (1, arI E 20 (st 9)); rw [su_k (by decide)]
    | 8, _ => show some (1, arI E 20 (su st 19 0 x 10)) = some (1, arI E 20 (st 10)); rw [su_k (by decide)]
    | 9, _ => show some (1, arI E 20 (su st 19 0 x 11)) = some (1, arI E 20 (st 11)); rw [su_k (by decide)]
    | 10, _ => show some (1, arI E 20 (su st 19 0 x 13)) = some (1, arI E 20 (st 13)); rw [su_k (by decide)]
    | 11, _ => show some (1, arI E 6 (su st 19 0 x 22)) = some (1, arI E 6 (st 22)); rw [su_k (by decide)]
    | _ + 12, _ => rfl
theorem wM_f20 {x : Int} : up (wM E o st w0) o (1, .inr (2, (mfl o st).set 20 (.int (iI x)))) = wM E o (su st 20 0 x) w0 := by
  refine wM_put (k := 0) (fun y => ?_) ?_
  · show some (1, Sum.inr (2, mfl o (su st 20 0 x))) = _
    rfl
  · intro j y hj
    match j, hj with
    | 0, hj => exact absurd rfl hj
    | 1, _ => show some (1, arI E 198 (su st 20 0 x 0)) = some (1, arI E 198 (st 0)); rw [su_k (by decide)]
    | 2, _ => show some (1, arI E 198 (su st 20 0 x 1)) = some (1, arI E 198 (st 1)); rw [su_k (by decide)]
    | 3, _ => show some (1, arI E 792 (su st 20 0 x 2)) = some (1, arI E 792 (st 2)); rw [su_k (by decide)]
    | 4, _ => show some (1, arI E 150 (su st 20 0 x 4)) = some (1, arI E 150 (st 4)); rw [su_k (by decide)]
    | 5, _ => show some (1, arI E 20 (su st 20 0 x 7)) = some (1, arI E 20 (st 7)); rw [su_k (by decide)]
    | 6, _ => show some (1, arI E 20 (su st 20 0 x 8)) = some (1, arI E 20 (st 8)); rw [su_k (by decide)]
    | 7, _ => show some (1, arI E 20 (su st 20 0 x 9)) = some (1, arI E 20 (st 9)); rw [su_k (by decide)]
    | 8, _ => show some (1, arI E 20 (su st 20 0 x 10)) = some (1, arI E 20 (st 10)); rw [su_k (by decide)]
    | 9, _ => show some (1, arI E 20 (su st 20 0 x 11)) = some (1, arI E 20 (st 11)); rw [su_k (by decide)]
    | 10, _ => show some (1, arI E 20 (su st 20 0 x 13)) = some (1, arI E 20 (st 13)); rw [su_k (by decide)]
    | 11, _ => show some (1, arI E 6 (su st 20 0 x 22)) = some (1, arI E 6 (st 22)); rw [su_k (by decide)]
    | _ + 12, _ => rfl
theorem wM_f21 {x : Int} : up (wM E o st w0) o (1, .inr (2, (mfl o st).set 21 (.int (iI x)))) = wM E o (su st 21 0 x) w0 := by
  refine wM_put (k := 0) (fun y => ?_) ?_
  · show some (1, Sum.inr (2, mfl o (su st 21 0 x))) = _
    rfl
  · intro j y hj
    match j, hj with
    | 0, hj => exact absurd rfl hj
    | 1, _ => show some (1, arI E 198 (su st 21 0 x 0)) = some (1, arI E 198 (st 0)); rw [su_k (by decide)]
    | 2, _ => show some (1, arI E 198 (su st 21 0 x 1)) = some (1, arI E 198 (st 1)); rw [su_k (by decide)]
    | 3, _ => show some (1, arI E 792 (su st 21 0 x 2)) = some (1, arI E 792 (st 2)); rw [su_k (by decide)]
    | 4, _ => show some (1, arI E 150 (su st 21 0 x 4)) = some (1, arI E 150 (st 4)); rw [su_k (by decide)]
    | 5, _ => show some (1, arI E 20 (su st 21 0 x 7)) = some (1, arI E 20 (st 7)); rw [su_k (by decide)]
    | 6, _ => show some (1, arI E 20 (su st 21 0 x 8)) = some (1, arI E 20 (st 8)); rw [su_k (by decide)]
    | 7, _ => show some (1, arI E 20 (su st 21 0 x 9)) = some (1, arI E 20 (st 9)); rw [su_k (by decide)]
    | 8, _ => show some (1, arI E 20 (su st 21 0 x 10)) = some (1, arI E 20 (st 10)); rw [su_k (by decide)]
    | 9, _ => show some (1, arI E 20 (su st 21 0 x 11)) = some (1, arI E 20 (st 11)); rw [su_k (by decide)]
    | 10, _ => show some (1, arI E 20 (su st 21 0 x 13)) = some (1, arI E 20 (st 13)); rw [su_k (by decide)]
    | 11, _ => show some (1, arI E 6 (su st 21 0 x 22)) = some (1, arI E 6 (st 22)); rw [su_k (by decide)]
    | _ + 12, _ => rfl
theorem wM_f23 {x : Int} : up (wM E o st w0) o (1, .inr (2, (mfl o st).set 23 (.long (lL x)))) = wM E o (su st 23 0 x) w0 := by
  refine wM_put (k := 0) (fun y => ?_) ?_
  · show some (1, Sum.inr (2, mfl o (su st 23 0 x))) = _
    rfl
  · intro j y hj
    match j, hj with
    | 0, hj => exact absurd rfl hj
    | 1, _ => show some (1, arI E 198 (su st 23 0 x 0)) = some (1, arI E 198 (st 0)); rw [su_k (by decide)]
    | 2, _ => show some (1, arI E 198 (su st 23 0 x 1)) = some (1, arI E 198 (st 1)); rw [su_k (by decide)]
    | 3, _ => show some (1, arI E 792 (su st 23 0 x 2)) = some (1, arI E 792 (st 2)); rw [su_k (by decide)]
    | 4, _ => show some (1, arI E 150 (su st 23 0 x 4)) = some (1, arI E 150 (st 4)); rw [su_k (by decide)]
    | 5, _ => show some (1, arI E 20 (su st 23 0 x 7)) = some (1, arI E 20 (st 7)); rw [su_k (by decide)]
    | 6, _ => show some (1, arI E 20 (su st 23 0 x 8)) = some (1, arI E 20 (st 8)); rw [su_k (by decide)]
    | 7, _ => show some (1, arI E 20 (su st 23 0 x 9)) = some (1, arI E 20 (st 9)); rw [su_k (by decide)]
    | 8, _ => show some (1, arI E 20 (su st 23 0 x 10)) = some (1, arI E 20 (st 10)); rw [su_k (by decide)]
    | 9, _ => show some (1, arI E 20 (su st 23 0 x 11)) = some (1, arI E 20 (st 11)); rw [su_k (by decide)]
    | 10, _ => show some (1, arI E 20 (su st 23 0 x 13)) = some (1, arI E 20 (st 13)); rw [su_k (by decide)]
    | 11, _ => show some (1, arI E 6 (su st 23 0 x 22)) = some (1, arI E 6 (st 22)); rw [su_k (by decide)]
    | _ + 12, _ => rfl
end MFRAME
