/-! reading the command text t of length L -/
set_option maxRecDepth 100000
/-- behind the run of those that are so, from p -/
noncomputable def ruF (q : Int → Prop) (t : Int → Int) : Nat → Int → Int
  | 0, p => p
  | f + 1, p => pI (q (t p)) (ruF q t f (p + 1)) p
noncomputable def ruO (q : Int → Prop) (t : Int → Int) (L p : Int) : Int := ruF q t (L - p).toNat p
theorem ruO_s {q : Int → Prop} {t : Int → Int} {L p : Int} (h : p < L) (hq : q (t p)) : ruO q t L p = ruO q t L (p + 1) := by
  unfold ruO
  rw [show (L - p).toNat = (L - (p + 1)).toNat + 1 by omega, ruF]
  exact pI_t hq
theorem ruO_n {q : Int → Prop} {t : Int → Int} {L p : Int} (h : p < L → ¬ q (t p)) : ruO q t L p = p := by
  unfold ruO
  by_cases hl : p < L
  · rw [show (L - p).toNat = (L - (p + 1)).toNat + 1 by omega, ruF]
    exact pI_f (h hl)
  · rw [show (L - p).toNat = 0 by omega]; rfl
theorem ruF_b (q : Int → Prop) (t : Int → Int) : ∀ (f : Nat) (p : Int), p ≤ ruF q t f p ∧ ruF q t f p ≤ p + f := by
  intro f
  induction f with
  | zero => intro p; simp [ruF]
  | succ f ih =>
    intro p
    simp only [ruF]
    rcases pI_or (q (t p)) (ruF q t f (p + 1)) p with h | h <;> rw [h.2]
    · have := ih (p + 1); omega
    · omega
theorem ruO_b (q : Int → Prop) (t : Int → Int) (L p : Int) : p ≤ ruO q t L p ∧ (ruO q t L p ≤ L ∨ ruO q t L p = p) := by
  have h := ruF_b q t (L - p).toNat p
  unfold ruO
  omega
theorem ruF_all (q : Int → Prop) (t : Int → Int) : ∀ (f : Nat) (p j : Int), p ≤ j → j < ruF q t f p → q (t j) := by
  intro f
  induction f with
  | zero => intro p j h0 h1; simp [ruF] at h1; omega
  | succ f ih =>
    intro p j h0 h1
    simp only [ruF] at h1
    rcases pI_or (q (t p)) (ruF q t f (p + 1)) p with h | h <;> rw [h.2] at h1
    · by_cases hj : j = p
      · subst hj; exact h.1
      · exact ih (p + 1) j (by omega) h1
    · omega
abbrev isSp (c : Int) : Prop := c = 32
abbrev isLe (c : Int) : Prop := 97 ≤ c ∧ c ≤ 122
abbrev isDg (c : Int) : Prop := 48 ≤ c ∧ c ≤ 57
noncomputable def skO (t : Int → Int) (L p : Int) : Int := ruO isSp t L p
noncomputable def leO (t : Int → Int) (L p : Int) : Int := ruO isLe t L p
def herO (t : Int → Int) (L p : Int) : Int := if p < L then t p else -1000
/-- the number of a word of k letters from p -/
def wvF (t : Int → Int) (p : Int) : Nat → Int
  | 0 => 0
  | k + 1 => wvF t p k * 27 + t (p + (k : Int)) - 96
theorem wvF_b {t : Int → Int} {p : Int} : ∀ k : Nat, k ≤ 6 → (∀ j : Int, p ≤ j → j < p + (k : Int) → isLe (t j)) → 0 ≤ wvF t p k ∧ wvF t p k < 27 ^ k := by
  intro k
  induction k with
  | zero => intro _ _; simp [wvF]
  | succ k ih =>
    intro hk h
    have h1 := ih (by omega) (fun j a b => h j a (by omega))
    have h2 := h (p + (k : Int)) (by omega) (by omega)
    simp only [wvF]
    have e : (27 : Int) ^ (k + 1) = 27 ^ k * 27 := by rw [Int.pow_succ]
    rw [e]
    have h3 : isLe (t (p + (k : Int))) := h2
    unfold isLe at h3
    omega
noncomputable def wdO (t : Int → Int) (L p : Int) : Int := if 5 < leO t L p - p then -1000 else cmdO (wvF t p (leO t L p - p).toNat)
/-- at most f digits from p, the number v before them: where it ends, and the number -/
def dgF (t : Int → Int) (L : Int) : Nat → Int → Int → Int × Int
  | 0, p, v => (p, v)
  | f + 1, p, v => if p < L ∧ isDg (t p) then dgF t L f (p + 1) (10 * v + t p - 48) else (p, v)
theorem dgF_b {t : Int → Int} {L : Int} : ∀ (f : Nat) (p v : Int), p ≤ (dgF t L f p v).1 ∧ (dgF t L f p v).1 ≤ p + f ∧ ((dgF t L f p v).1 ≤ L ∨ (dgF t L f p v).1 = p) := by
  intro f
  induction f with
  | zero => intro p v; simp [dgF]
  | succ f ih =>
    intro p v
    unfold dgF
    split
    · rename_i h
      have := ih (p + 1) (10 * v + t p - 48)
      omega
    · simp; omega
/-- a number: whether it is one, and where reading stands -/
noncomputable def nuO (t : Int → Int) (L p : Int) : Int × Int := if skO t L p = p then (0, p) else (if skO t L p < (dgF t L 3 (skO t L p) 0).1 then 1 else 0, (dgF t L 3 (skO t L p) 0).1)
noncomputable def rdN (t : Int → Int) (L p : Int) : Nat → Int × Int
  | 0 => (1, p)
  | k + 1 => if (rdN t L p k).1 = 1 then nuO t L (rdN t L p k).2 else rdN t L p k
/-- the k-th number behind p -/
noncomputable def nvO (t : Int → Int) (L p : Int) (k : Nat) : Int := (dgF t L 3 (skO t L (rdN t L p k).2) 0).2
def manO (c : Int) : Int := if c = 7 ∨ c = 8 then 1 else if c = 0 ∨ c = 5 then 2 else if c = 3 then 4 else if c = 2 then 6 else 3
/-- a command at p: whether it is one, and where reading stands -/
noncomputable def rcO (t : Int → Int) (L p : Int) : Int × Int :=
  if wdO t L p = -1000 then (0, p) else if (rdN t L (leO t L p) (manO (wdO t L p)).toNat).1 = 1 then (if herO t L (skO t L (rdN t L (leO t L p) (manO (wdO t L p)).toNat).2) = 59 then (1, skO t L (rdN t L (leO t L p) (manO (wdO t L p)).toNat).2 + 1) else (0, skO t L (rdN t L (leO t L p) (manO (wdO t L p)).toNat).2)) else rdN t L (leO t L p) (manO (wdO t L p)).toNat
theorem nuO_b (t : Int → Int) (L p : Int) : ((nuO t L p).1 = 0 ∨ (nuO t L p).1 = 1) ∧ p ≤ (nuO t L p).2 ∧ ((nuO t L p).2 ≤ L ∨ (nuO t L p).2 = p) := by
  have h1 := ruO_b isSp t L p
  have h2 := dgF_b (t := t) (L := L) 3 (skO t L p) 0
  unfold skO at h2
  unfold nuO skO
  split
  · simp
  · rename_i h
    refine ⟨?_, ?_, ?_⟩
    · dsimp only; split <;> simp
    · dsimp only; omega
    · dsimp only; omega
theorem rdN_b (t : Int → Int) (L p : Int) : ∀ k : Nat, ((rdN t L p k).1 = 0 ∨ (rdN t L p k).1 = 1) ∧ p ≤ (rdN t L p k).2 ∧ ((rdN t L p k).2 ≤ L ∨ (rdN t L p k).2 = p) := by
  intro k
  induction k with
  | zero => simp [rdN]
  | succ k ih =>
    simp only [rdN]
    split
    · have := nuO_b t L (rdN t L p k).2
      omega
    · exact ih
theorem rcO_b (t : Int → Int) (L p : Int) (hp : p ≤ L) : ((rcO t L p).1 = 0 ∨ (rcO t L p).1 = 1) ∧ p ≤ (rcO t L p).2 ∧ (rcO t L p).2 ≤ L ∧ ((rcO t L p).1 = 1 → p < (rcO t L p).2) := by
  have h1 := ruO_b isLe t L p
  have h2 := rdN_b t L (leO t L p) (manO (wdO t L p)).toNat
  unfold leO at h2
  unfold rcO leO
  split
  · simp; omega
  · generalize rdN t L (ruO isLe t L p) (manO (wdO t L p)).toNat = r at h2 ⊢
    have h3 := ruO_b isSp t L r.2
    split
    · by_cases hh : herO t L (skO t L r.2) = 59
      · rw [if_pos hh]
        have h4 : skO t L r.2 < L := by
          by_cases q : skO t L r.2 < L
          · exact q
          · unfold herO at hh; rw [if_neg q] at hh; omega
        unfold skO at h4 ⊢
        dsimp only
        omega
      · rw [if_neg hh]
        unfold skO
        dsimp only
        omega
    · omega
/-- all commands: whether there is no fault, and where reading stands -/
noncomputable def gdF (t : Int → Int) (L : Int) : Nat → Int → Int × Int
  | 0, p => (1, p)
  | f + 1, p => if p < L then (if (rcO t L p).1 = 1 then gdF t L f (skO t L (rcO t L p).2) else rcO t L p) else (1, p)
noncomputable def gdO (t : Int → Int) (L : Int) : Int × Int := gdF t L 151 (skO t L 0)
theorem gdF_end {t : Int → Int} {L p : Int} (h : ¬ p < L) : ∀ f : Nat, gdF t L f p = (1, p)
  | 0 => rfl
  | f + 1 => by unfold gdF; rw [if_neg h]
theorem gdF_fuel {t : Int → Int} {L : Int} : ∀ (f g : Nat) (p : Int), p ≤ L → L - p < (f : Int) → L - p < (g : Int) → gdF t L f p = gdF t L g p := by
  intro f
  induction f with
  | zero => intro g p h0 h1; omega
  | succ f ih =>
    intro g p h0 h1 h2
    cases g with
    | zero => omega
    | succ g =>
      unfold gdF
      by_cases hp : p < L
      · rw [if_pos hp, if_pos hp]
        by_cases ho : (rcO t L p).1 = 1
        · rw [if_pos ho, if_pos ho]
          have hb := rcO_b t L p h0
          have h3 := hb.2.2.2 ho
          have h4 := ruO_b isSp t L (rcO t L p).2
          exact ih g _ (by unfold skO; omega) (by unfold skO; omega) (by unfold skO; omega)
        · rw [if_neg ho, if_neg ho]
      · rw [if_neg hp, if_neg hp]
theorem ten_pos : ∀ f : Nat, (1 : Int) ≤ 10 ^ (f + 1)
  | 0 => by decide
  | f + 1 => by
    have := ten_pos f
    rw [Int.pow_succ]
    omega
theorem dgF_v {t : Int → Int} {L : Int} : ∀ (f : Nat) (p v : Int) (A : Int), 0 ≤ v → v ≤ A → 0 ≤ (dgF t L f p v).2 ∧ (dgF t L f p v).2 ≤ (A + 1) * 10 ^ f - 1 := by
  intro f
  induction f with
  | zero => intro p v A h0 h1; simp [dgF]; omega
  | succ f ih =>
    intro p v A h0 h1
    have e : (A + 1) * 10 ^ (f + 1) = ((10 * A + 9) + 1) * 10 ^ f := by
      rw [Int.pow_succ, show 10 * A + 9 + 1 = (A + 1) * 10 by omega, Int.mul_comm (10 ^ f) 10, Int.mul_assoc]
    unfold dgF
    split
    · rename_i h
      have h2 : isDg (t p) := h.2
      unfold isDg at h2
      have := ih (p + 1) (10 * v + t p - 48) (10 * A + 9) (by omega) (by omega)
      rw [e]
      exact this
    · dsimp only
      have h3 : (1 : Int) ≤ 10 ^ (f + 1) := ten_pos f
      have h4 : (A + 1) * 1 ≤ (A + 1) * 10 ^ (f + 1) := Int.mul_le_mul_of_nonneg_left h3 (by omega)
      omega
theorem nvO_b (t : Int → Int) (L p : Int) (k : Nat) : 0 ≤ nvO t L p k ∧ nvO t L p k ≤ 999 := by
  have := dgF_v (t := t) (L := L) 3 (skO t L (rdN t L p k).2) 0 0 (by decide) (by decide)
  unfold nvO
  omega
/-! the text's cells in the reference's memory -/
def txO (st : Ms) (pl cm : Int) (nm : Int → Int) : Ms := fun k => if k = 20 then upz (st 20) 0 pl else if k = 21 then upz (st 21) 0 cm else if k = 22 then nm else st k
theorem txO_self (st : Ms) : txO st (st 20 0) (st 21 0) (st 22) = st := by
  funext k
  unfold txO
  by_cases h : k = 20
  · subst h; rw [if_pos rfl]; exact upz_self
  · rw [if_neg h]
    by_cases h2 : k = 21
    · subst h2; rw [if_pos rfl]; exact upz_self
    · rw [if_neg h2]
      by_cases h3 : k = 22
      · subst h3; rw [if_pos rfl]
      · rw [if_neg h3]
theorem txO_tx (st : Ms) (a b x y : Int) (c z : Int → Int) : txO (txO st a b c) x y z = txO st x y z := by
  funext k
  unfold txO
  by_cases h : k = 20
  · subst h; simp [upz_u]
  · by_cases h2 : k = 21
    · subst h2; simp [upz_u]
    · by_cases h3 : k = 22
      · subst h3; simp
      · simp [h, h2, h3]
theorem txO_p (st : Ms) (a b x : Int) (c : Int → Int) : su (txO st a b c) 20 0 x = txO st x b c := by
  funext k j
  by_cases h : k = 20
  · subst h; rw [su_u]; show upz (upz (st 20) 0 a) 0 x j = upz (st 20) 0 x j; rw [upz_u]
  · rw [su_k h]; simp [txO, h]
theorem txO_c (st : Ms) (a b x : Int) (c : Int → Int) : su (txO st a b c) 21 0 x = txO st a x c := by
  funext k j
  by_cases h : k = 21
  · subst h; rw [su_u]; show upz (upz (st 21) 0 b) 0 x j = upz (st 21) 0 x j; rw [upz_u]
  · rw [su_k h]; simp [txO, h]
theorem txO_n (st : Ms) (a b z x : Int) (c : Int → Int) : su (txO st a b c) 22 z x = txO st a b (upz c z x) := by
  funext k j
  by_cases h : k = 22
  · subst h; rw [su_u]; rfl
  · rw [su_k h]; simp [txO, h]
/-- the text: at most 150 bytes, all of them from 0 to 127 -/
def TXW (st : Ms) : Prop := (0 ≤ st 5 0 ∧ st 5 0 ≤ 150) ∧ ∀ j : Int, 0 ≤ j → j < st 5 0 → 0 ≤ st 4 j ∧ st 4 j ≤ 127
def NMW (f : Int → Int) : Prop := ∀ j : Int, 0 ≤ j → j < 6 → 0 ≤ f j ∧ f j ≤ 999
theorem NMW.up {f : Int → Int} (h : NMW f) {k x : Int} (hx : 0 ≤ x ∧ x ≤ 999) : NMW (upz f k x) := by
  intro j h0 h1
  unfold upz
  split
  · exact hx
  · exact h j h0 h1
theorem herO_b {st : Ms} (h : TXW st) {p : Int} (hp : 0 ≤ p) : (herO (st 4) (st 5 0) p = -1000 ∧ st 5 0 ≤ p) ∨ (herO (st 4) (st 5 0) p = st 4 p ∧ p < st 5 0 ∧ 0 ≤ st 4 p ∧ st 4 p ≤ 127) := by
  unfold herO
  by_cases q : p < st 5 0
  · have := h.2 p hp q
    rw [if_pos q]; exact Or.inr ⟨rfl, q, this⟩
  · rw [if_neg q]; exact Or.inl ⟨rfl, by omega⟩
