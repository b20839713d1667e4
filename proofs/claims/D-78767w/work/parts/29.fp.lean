/-! the mean of ghosts is a number -/
set_option maxRecDepth 100000
def fpF : FP.Core.Datum → Bool
  | .fin _ _ _ => true
  | _ => false
def fpZ : FP.Core.Datum → Bool
  | .fin _ c _ => c != 0
  | _ => false
theorem fp_fin {s : Bool} {c : Nat} {q : Int} (hc : c < 9007199254740992) (hq : q ≤ 971) : FP.Core.encode FP.Core.b64 (.fin s c q) % 9223372036854775808 ≤ 9218868437227405312 := by
  have e1 : FP.Core.b64.tails = 4503599627370496 := by decide
  have e2 : FP.Core.b64.exps = 2048 := by decide
  have e3 : FP.Core.b64.qmin = -1074 := by decide
  unfold FP.Core.encode
  simp only [FP.Core.assemble, e1, e2, e3]
  have hs : s.toNat = 0 ∨ s.toNat = 1 := by cases s <;> simp
  split
  · rcases hs with h | h <;> rw [h] <;> omega
  · have h5 : (q - -1074).toNat ≤ 2045 := by omega
    rcases hs with h | h <;> rw [h] <;> omega
theorem fp_inf {s : Bool} : FP.Core.encode FP.Core.b64 (.inf s) % 9223372036854775808 ≤ 9218868437227405312 := by
  cases s <;> decide
theorem fp_ratio (s : Bool) (n d : Nat) (e : Int) : FP.Core.encode FP.Core.b64 (FP.Core.roundRatio FP.Core.b64 s n d e) % 9223372036854775808 ≤ 9218868437227405312 := by
  have e4 : (2 : Nat) ^ FP.Core.b64.p = 9007199254740992 := by decide
  have e5 : FP.Core.b64.qmax = 971 := by decide
  have e3 : FP.Core.b64.qmin = -1074 := by decide
  have e1 : FP.Core.b64.tails = 4503599627370496 := by decide
  unfold FP.Core.roundRatio
  split
  · exact fp_fin (by decide) (by rw [e3]; decide)
  · unfold FP.Core.roundAt FP.Core.settle FP.Core.bound
    rw [e4, e5, e1]
    split
    · split
      · exact fp_fin (by assumption) (by assumption)
      · exact fp_inf
    · split
      · exact fp_fin (by decide) (by assumption)
      · exact fp_inf
theorem fp_div {x y : UInt64} (hx : fpF (FP.Core.decode FP.Core.b64 x.toNat) = true) (hy : fpZ (FP.Core.decode FP.Core.b64 y.toNat) = true) : vf_n64 (FP.ddiv x y) := by
  have h : FP.Core.div FP.Core.b64 x.toNat y.toNat % 9223372036854775808 ≤ 9218868437227405312 := by
    unfold FP.Core.div
    cases hdx : FP.Core.decode FP.Core.b64 x.toNat with
    | nan => rw [hdx] at hx; cases hx
    | inf s => rw [hdx] at hx; cases hx
    | fin s c q =>
      cases hdy : FP.Core.decode FP.Core.b64 y.toNat with
      | nan => rw [hdy] at hy; cases hy
      | inf t => rw [hdy] at hy; cases hy
      | fin t d r =>
        rw [hdy] at hy
        have hd : d ≠ 0 := by simpa [fpZ] using hy
        simp only [FP.Core.quotient]
        rw [if_neg hd]
        exact fp_ratio _ _ _ _
  unfold vf_n64 FP.ddiv
  rw [UInt64.le_iff_toNat_le, UInt64.toNat_and]
  show (UInt64.ofNat (FP.Core.div FP.Core.b64 x.toNat y.toNat)).toNat &&& 9223372036854775807 ≤ 9218868437227405312
  have e : (9223372036854775807 : Nat) = 2 ^ 63 - 1 := by decide
  rw [e, Nat.and_two_pow_sub_one_eq_mod, UInt64.toNat_ofNat']
  have e2 : (2 : Nat) ^ 63 = 9223372036854775808 := by decide
  have e3 : (2 : Nat) ^ 64 = 18446744073709551616 := by decide
  omega
theorem fp_a : (List.range 3001).all (fun a => fpF (FP.Core.decode FP.Core.b64 (FP.i2d (Int32.ofInt (a : Int))).toNat)) = true := by decide +kernel
theorem fp_b : (List.range 201).all (fun a => decide (a < 1) || fpZ (FP.Core.decode FP.Core.b64 (FP.i2d (Int32.ofInt (a : Int))).toNat)) = true := by decide +kernel
theorem fp_mean {a b : Int} (ha : 0 ≤ a ∧ a ≤ 3000) (hb : 1 ≤ b ∧ b ≤ 200) : vf_n64 (FP.ddiv (FP.i2d (iI a)) (FP.i2d (iI b))) := by
  refine fp_div ?_ ?_
  · have := List.all_eq_true.mp fp_a a.toNat (List.mem_range.mpr (by omega))
    rw [show ((a.toNat : Nat) : Int) = a by omega] at this
    exact this
  · have := List.all_eq_true.mp fp_b b.toNat (List.mem_range.mpr (by omega))
    rw [show ((b.toNat : Nat) : Int) = b by omega] at this
    rcases (Bool.or_eq_true _ _).mp this with q | q
    · exact absurd (of_decide_eq_true q) (by omega)
    · exact q
