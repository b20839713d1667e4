/-! numbers: division of negative ones, exclusive or -/
set_option maxRecDepth 100000
theorem iI_divn {a b : Int} (ha : -2147483647 ≤ a ∧ a < 0) (hb : 0 < b ∧ b ≤ 2147483647) : iI a / iI b = iI (-((-a) / b)) := by
  have h1 : iI b ≠ -1 := by
    intro h
    have := congrArg Int32.toInt h
    rw [iI_T (by omega)] at this
    have e : (-1 : Int32).toInt = -1 := by decide
    omega
  have h2 := Int.ediv_le_self b (a := -a) (by omega)
  have h3 := Int.ediv_nonneg (a := -a) (b := b) (by omega) (by omega)
  apply Int32.toInt_inj.mp
  rw [Int32.toInt_div_of_ne_right _ _ h1, iI_T (by omega), iI_T (by omega), iI_T (by omega)]
  have e : a = -(-a) := by omega
  rw [e, Int.neg_tdiv, Int.tdiv_eq_ediv_of_nonneg (by omega), Int.neg_neg]
theorem iI_xneg {a b : Int} (ha : -2147483648 ≤ a ∧ a ≤ 2147483647) (hb : 0 ≤ b ∧ b ≤ 2147483647) : (iI a ^^^ iI b < 0) ↔ a < 0 := by
  have hm : ∀ x : Int32, x < 0 ↔ x.toBitVec.msb = true := by
    intro x
    rw [Int32.lt_iff_toInt_lt]
    show x.toInt < 0 ↔ _
    rw [← Int32.toInt_toBitVec, BitVec.msb_eq_toInt]
    simp
  have hi : ∀ z : Int, -2147483648 ≤ z ∧ z ≤ 2147483647 → ((iI z).toBitVec.msb = true ↔ z < 0) := by
    intro z hz
    rw [← hm, Int32.lt_iff_toInt_lt, iI_T hz]
    rfl
  rw [hm, Int32.toBitVec_xor, BitVec.msb_xor]
  have h1 := hi a ha
  have h2 := hi b (by omega)
  cases e1 : (iI a).toBitVec.msb <;> cases e2 : (iI b).toBitVec.msb <;> simp [e1, e2] at h1 h2 ⊢ <;> omega
def tdvO (a b : Int) : Int := if 0 ≤ a then a / b else -((-a) / b)
theorem tdvO_b {a b : Int} (hb : 0 < b) : -(if 0 ≤ a then a else -a) ≤ tdvO a b ∧ tdvO a b ≤ (if 0 ≤ a then a else -a) := by
  unfold tdvO
  split
  · have h2 := Int.ediv_le_self b (a := a) (by omega)
    have h3 := Int.ediv_nonneg (a := a) (b := b) (by omega) (by omega)
    omega
  · have h2 := Int.ediv_le_self b (a := -a) (by omega)
    have h3 := Int.ediv_nonneg (a := -a) (b := b) (by omega) (by omega)
    omega
theorem flo_pos {a b : Int} (h : 0 ≤ a) : tdvO a b = a / b := if_pos h
theorem flo_eq {a b : Int} (hb : 0 < b) (h : a < 0) (he : tdvO a b * b = a) : tdvO a b = a / b := by
  have e := Int.mul_ediv_cancel (tdvO a b) (show b ≠ 0 by omega)
  rw [he] at e
  exact e.symm
theorem flo_ne {a b : Int} (hb : 0 < b) (h : a < 0) (he : ¬ tdvO a b * b = a) : tdvO a b - 1 = a / b := by
  have e1 : tdvO a b = -((-a) / b) := if_neg (by omega)
  have m1 := Int.emod_add_mul_ediv (-a) b
  have m2 := Int.emod_nonneg (-a) (show b ≠ 0 by omega)
  have m3 := Int.emod_lt_of_pos (-a) hb
  have h0 : (-a) % b ≠ 0 := by
    intro q
    rw [q] at m1
    apply he
    rw [e1, Int.neg_mul, Int.mul_comm]
    omega
  have e2 : a = (b - (-a) % b) + b * (-((-a) / b) - 1) := by
    rw [Int.mul_sub, Int.mul_neg]; omega
  have e3 : a / b = (-((-a) / b) - 1) := by
    rw [e2, Int.add_mul_ediv_left _ _ (show b ≠ 0 by omega), Int.ediv_eq_zero_of_lt (by omega) (by omega)]
    rw [← e2]; omega
  rw [e1, e3]
theorem tdv_mul {a b : Int} (hb : 0 < b) : -(if 0 ≤ a then a else -a) ≤ tdvO a b * b ∧ tdvO a b * b ≤ (if 0 ≤ a then a else -a) := by
  unfold tdvO
  split
  · have m1 := Int.emod_add_mul_ediv a b
    have m2 := Int.emod_nonneg a (show b ≠ 0 by omega)
    have m4 := Int.mul_nonneg (show 0 ≤ b by omega) (Int.ediv_nonneg (a := a) (b := b) (by omega) (by omega))
    rw [Int.mul_comm]
    omega
  · have m1 := Int.emod_add_mul_ediv (-a) b
    have m2 := Int.emod_nonneg (-a) (show b ≠ 0 by omega)
    have m4 := Int.mul_nonneg (show 0 ≤ b by omega) (Int.ediv_nonneg (a := -a) (b := b) (by omega) (by omega))
    rw [Int.neg_mul, Int.mul_comm]
    omega
section NUMROWS
variable {p : Program} {l : Launch} {e : Env} {R : Room} {s : State} {m : MethodId} {args : Array Value} {below : List Frame} {meth : Method} {c : Code} {H : Heap} {locs : List Loc} {cells slots : Nat} {Q : State → Prop}
variable {cc : ByteArray} {pc : Nat} {ls : Array Slot} {rest : List Value}
theorem j_idivs (hx : p.tables.exec = Jvm.exec) (hb : c.code = cc) {a b : Int} (d : decode cc pc = .ok (.idiv, 1)) (ha : -2147483647 ≤ a ∧ a ≤ 2147483647) (hb2 : 0 < b ∧ b ≤ 2147483647) (k : W p l e R s m args below meth c H locs cells slots Q (F0 m (pc + 1) ls (.int (iI (tdvO a b)) :: rest))) : W p l e R s m args below meth c H locs cells slots Q (F0 m pc ls (.int (iI b) :: .int (iI a) :: rest)) := by
  refine lv_idiv hx hb d (iI_ne0 (by omega) (by omega)) ?_
  by_cases h : 0 ≤ a
  · rw [iI_div ⟨h, ha.2⟩ hb2, ← flo_pos h]; exact k
  · rw [iI_divn ⟨ha.1, by omega⟩ hb2, ← show tdvO a b = _ from if_neg h]; exact k
theorem j_ifx_ge (hx : p.tables.exec = Jvm.exec) (hb : c.code = cc) {a b : Int} {off : Int} {tgt : Nat} (d : decode cc pc = .ok (.ifCond .ge off, 3)) (ht : (pc : Int) + off = (tgt : Int)) (ha : -2147483648 ≤ a ∧ a ≤ 2147483647) (hb2 : 0 ≤ b ∧ b ≤ 2147483647) (kt : 0 ≤ a → W p l e R s m args below meth c H locs cells slots Q (F0 m tgt ls rest)) (kf : a < 0 → W p l e R s m args below meth c H locs cells slots Q (F0 m (pc + 3) ls rest)) : W p l e R s m args below meth c H locs cells slots Q (F0 m pc ls (.int (iI a ^^^ iI b) :: rest)) :=
  lv_if_ge hx hb d ht (fun h => kt (by by_cases q : a < 0; exact absurd ((iI_xneg ha hb2).mpr q) (Int32.not_lt.mpr h); omega)) (fun h => kf ((iI_xneg ha hb2).mp (Int32.not_le.mp h)))
end NUMROWS
