/-! steps of sorting, the title's search, the survey's end, in plain Lean -/
set_option maxRecDepth 100000
theorem srt_box {P sh f g : Int → Int} {it cnt a : Int} (h0 : 0 ≤ it) (hc : 0 ≤ cnt) (i3 : cnt = (ordS P sh it.toNat).1) (i4 : ∀ j : Int, 0 ≤ j → j < cnt → f j = (ordS P sh it.toNat).2 j) (hb : 0 < nd P it 4) (j1 : ∀ j : Int, 0 ≤ j → j < a → g j = f j) (j2 : ∀ j : Int, a < j → j ≤ cnt → g j = f (j - 1)) (hpos : a = posF sh f it cnt.toNat) : cnt + 1 = (ordS P sh (it + 1).toNat).1 ∧ ∀ j : Int, 0 ≤ j → j < cnt + 1 → upz g a it j = (ordS P sh (it + 1).toNat).2 j := by
  have e1 : (it + 1).toNat = it.toNat + 1 := by omega
  have e2 : ((it.toNat : Nat) : Int) = it := by omega
  have hp : posF sh f it cnt.toNat = posF sh (ordS P sh it.toNat).2 it cnt.toNat := posF_congr _ rfl (fun j k1 k2 => by rw [i4 j k1 (by omega)])
  rw [e1]
  unfold ordS
  rw [e2, if_pos hb, ← i3, ← hp, ← hpos]
  refine ⟨rfl, fun j k1 k2 => ?_⟩
  have hpb := posF_b sh f it cnt.toNat
  unfold insO upz
  dsimp only
  by_cases hj : j < a
  · rw [if_pos hj, if_neg (by omega), j1 j k1 hj]
    exact i4 j k1 (by omega)
  · rw [if_neg hj]
    by_cases hj2 : j = a
    · rw [if_pos hj2, if_pos hj2]
    · rw [if_neg hj2, if_neg hj2, j2 j (by omega) (by omega)]
      exact i4 (j - 1) (by omega) (by omega)
theorem srt_no {P sh f g : Int → Int} {it cnt a : Int} (h0 : 0 ≤ it) (i3 : cnt = (ordS P sh it.toNat).1) (i4 : ∀ j : Int, 0 ≤ j → j < cnt → f j = (ordS P sh it.toNat).2 j) (hb : ¬ 0 < nd P it 4) (ha : a = cnt) (j1 : ∀ j : Int, 0 ≤ j → j < a → g j = f j) : cnt = (ordS P sh (it + 1).toNat).1 ∧ ∀ j : Int, 0 ≤ j → j < cnt → upz g a it j = (ordS P sh (it + 1).toNat).2 j := by
  have e1 : (it + 1).toNat = it.toNat + 1 := by omega
  have e2 : ((it.toNat : Nat) : Int) = it := by omega
  rw [e1]
  unfold ordS
  rw [e2, if_neg hb]
  refine ⟨i3, fun j k1 k2 => ?_⟩
  rw [upz_n (by omega), j1 j k1 (by omega)]
  exact i4 j k1 k2
theorem pos_step {sh f : Int → Int} {x a : Int} (ha : 0 < a) (h : sh x < sh (f (a - 1))) : posF sh f x a.toNat = posF sh f x (a - 1).toNat := by
  rw [show a.toNat = (a - 1).toNat + 1 by omega]
  rw [posF, if_pos]
  rw [show (((a - 1).toNat : Nat) : Int) = a - 1 by omega]
  exact h
theorem pos_stop {sh f : Int → Int} {x a : Int} (ha : 0 < a) (h : ¬ sh x < sh (f (a - 1))) : posF sh f x a.toNat = a := by
  rw [show a.toNat = (a - 1).toNat + 1 by omega]
  have e : (((a - 1).toNat : Nat) : Int) = a - 1 := by omega
  rw [posF, e, if_neg h]
  omega
theorem pos_zero {sh f : Int → Int} {x a : Int} (ha : a = 0) : posF sh f x a.toNat = a := by
  subst ha; rfl
theorem srO_k (st : Ms) (f : Int → Int) (n : Int) {k : Nat} (h : k ≠ 13) (h2 : k ≠ 14) : srO st f n k = st k := by simp [srO, h, h2]
theorem tiO_k (st : Ms) (a b c : Int) {k : Nat} (h : k ≠ 17) (h2 : k ≠ 18) (h3 : k ≠ 19) : tiO st a b c k = st k := by simp [tiO, h, h2, h3]
theorem upF_s {p : Int → Prop} {f : Nat} {t : Int} (h : p t) : upF p (f + 1) t = t := pI_t h
theorem upF_n {p : Int → Prop} {f : Nat} {t : Int} (h : ¬ p t) : upF p (f + 1) t = upF p f (t + 1) := pI_f h
