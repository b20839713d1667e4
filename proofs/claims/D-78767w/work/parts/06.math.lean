/-! WHAT A PAGE MEANS: the page of 198 numbers as the reference lays it out, as one mathematical value for both sides -/
set_option maxRecDepth 100000
def nd (P : Int → Int) (n k : Int) : Int := P (14 + 8 * n + k)
def sc (P : Int → Int) (s k : Int) : Int := P (174 + 3 * s + k)
/-- a page that can come up; its time is at most T -/
def PWF (T : Int) (P : Int → Int) : Prop :=
  ((20 ≤ P 0 ∧ P 0 ≤ 200) ∧ (10 ≤ P 1 ∧ P 1 ≤ 120) ∧ (0 ≤ P 2 ∧ P 2 ≤ 20) ∧ (0 ≤ P 3 ∧ P 3 ≤ 8) ∧ (0 ≤ P 4 ∧ P 4 ≤ T)) ∧
  ((-20 ≤ P 5 ∧ P 5 ≤ 0) ∧ (0 ≤ P 6 ∧ P 6 ≤ 20) ∧ (0 ≤ P 7 ∧ P 7 ≤ 100) ∧ (1 ≤ P 8 ∧ P 8 ≤ 5) ∧ (0 ≤ P 9 ∧ P 9 ≤ 15) ∧ (0 ≤ P 10 ∧ P 10 ≤ 100)) ∧
  ((0 ≤ P 11 ∧ P 11 ≤ 199) ∧ (0 ≤ P 12 ∧ P 12 ≤ 119) ∧ (0 ≤ P 13 ∧ P 13 ≤ 40)) ∧
  (∀ n : Int, 0 ≤ n → n < P 2 → (nd P n 0 = -1000 ∨ (0 ≤ nd P n 0 ∧ nd P n 0 < n ∧ nd P (nd P n 0) 4 = 0)) ∧ (-200 ≤ nd P n 1 ∧ nd P n 1 ≤ 200) ∧ (-200 ≤ nd P n 2 ∧ nd P n 2 ≤ 200) ∧ (-200 ≤ nd P n 3 ∧ nd P n 3 ≤ 200) ∧ (0 ≤ nd P n 4 ∧ nd P n 4 ≤ 100) ∧ (0 ≤ nd P n 5 ∧ nd P n 5 ≤ 100) ∧ (0 ≤ nd P n 6 ∧ nd P n 6 ≤ 15)) ∧
  (∀ s : Int, 0 ≤ s → s < P 3 → (-20 ≤ sc P s 0 ∧ sc P s 0 ≤ 0) ∧ (0 ≤ sc P s 1 ∧ sc P s 1 ≤ 20) ∧ (1 ≤ sc P s 2 ∧ sc P s 2 ≤ 50))
section PW
variable {T : Int} {P : Int → Int}
theorem PWF.A (h : PWF T P) : (20 ≤ P 0 ∧ P 0 ≤ 200) ∧ (10 ≤ P 1 ∧ P 1 ≤ 120) ∧ (0 ≤ P 2 ∧ P 2 ≤ 20) ∧ (0 ≤ P 3 ∧ P 3 ≤ 8) ∧ (0 ≤ P 4 ∧ P 4 ≤ T) := h.1
theorem PWF.B (h : PWF T P) : (-20 ≤ P 5 ∧ P 5 ≤ 0) ∧ (0 ≤ P 6 ∧ P 6 ≤ 20) ∧ (0 ≤ P 7 ∧ P 7 ≤ 100) ∧ (1 ≤ P 8 ∧ P 8 ≤ 5) ∧ (0 ≤ P 9 ∧ P 9 ≤ 15) ∧ (0 ≤ P 10 ∧ P 10 ≤ 100) := h.2.1
theorem PWF.C (h : PWF T P) : (0 ≤ P 11 ∧ P 11 ≤ 199) ∧ (0 ≤ P 12 ∧ P 12 ≤ 119) ∧ (0 ≤ P 13 ∧ P 13 ≤ 40) := h.2.2.1
theorem PWF.N (h : PWF T P) {n : Int} (h0 : 0 ≤ n) (h1 : n < P 2) : (nd P n 0 = -1000 ∨ (0 ≤ nd P n 0 ∧ nd P n 0 < n ∧ nd P (nd P n 0) 4 = 0)) ∧ (-200 ≤ nd P n 1 ∧ nd P n 1 ≤ 200) ∧ (-200 ≤ nd P n 2 ∧ nd P n 2 ≤ 200) ∧ (-200 ≤ nd P n 3 ∧ nd P n 3 ≤ 200) ∧ (0 ≤ nd P n 4 ∧ nd P n 4 ≤ 100) ∧ (0 ≤ nd P n 5 ∧ nd P n 5 ≤ 100) ∧ (0 ≤ nd P n 6 ∧ nd P n 6 ≤ 15) := h.2.2.2.1 n h0 h1
theorem PWF.S (h : PWF T P) {s : Int} (h0 : 0 ≤ s) (h1 : s < P 3) : (-20 ≤ sc P s 0 ∧ sc P s 0 ≤ 0) ∧ (0 ≤ sc P s 1 ∧ sc P s 1 ≤ 20) ∧ (1 ≤ sc P s 2 ∧ sc P s 2 ≤ 50) := h.2.2.2.2 s h0 h1
end PW
/-! sums along the groups around a node -/
def sumF (P : Int → Int) (k : Int) : Nat → Int → Int
  | 0, _ => 0
  | f + 1, n => if n = -1000 then 0 else nd P n k + sumF P k f (nd P n 0)
def sumO (P : Int → Int) (n k : Int) : Int := sumF P k 21 n
def depF (P : Int → Int) : Nat → Int → Int
  | 0, _ => 0
  | f + 1, n => if nd P n 0 = -1000 then 0 else 1 + depF P f (nd P n 0)
def depO (P : Int → Int) (n : Int) : Int := depF P 21 n
/-- a node's number, or none -/
abbrev okN (P : Int → Int) (n : Int) : Prop := n = -1000 ∨ (0 ≤ n ∧ n < P 2)
theorem okN.parent {T : Int} {P : Int → Int} (h : PWF T P) {n : Int} (h0 : 0 ≤ n) (h1 : n < P 2) : okN P (nd P n 0) := by
  rcases (h.N h0 h1).1 with h2 | h2
  · exact Or.inl h2
  · exact Or.inr ⟨h2.1, by omega⟩
theorem sumF_none (P : Int → Int) (k : Int) : ∀ f : Nat, sumF P k f (-1000) = 0
  | 0 => rfl
  | f + 1 => by simp [sumF]
theorem sumF_fuel {T : Int} {P : Int → Int} (h : PWF T P) (k : Int) : ∀ (f g : Nat) (n : Int), okN P n → n < (f : Int) → n < (g : Int) → sumF P k f n = sumF P k g n := by
  intro f
  induction f with
  | zero =>
    intro g n hn hf hg
    rcases hn with hn | hn
    · rw [hn, sumF_none, sumF_none]
    · omega
  | succ f ih =>
    intro g n hn hf hg
    rcases hn with hn | hn
    · rw [hn, sumF_none, sumF_none]
    · cases g with
      | zero => omega
      | succ g =>
        have hne : n ≠ -1000 := by omega
        simp only [sumF, if_neg hne]
        have hp := (h.N hn.1 hn.2).1
        rw [ih g (nd P n 0) (okN.parent h hn.1 hn.2) (by omega) (by omega)]
theorem sumO_step {T : Int} {P : Int → Int} (h : PWF T P) (k : Int) {n : Int} (h0 : 0 ≤ n) (h1 : n < P 2) : sumO P n k = nd P n k + sumO P (nd P n 0) k := by
  have hb := h.A
  have hne : n ≠ -1000 := by omega
  have e1 : sumO P n k = nd P n k + sumF P k 20 (nd P n 0) := by
    unfold sumO
    rw [sumF, if_neg hne]
  rw [e1]
  unfold sumO
  have hp := (h.N h0 h1).1
  rw [sumF_fuel h k 20 21 _ (okN.parent h h0 h1) (by omega) (by omega)]
theorem sumO_none (P : Int → Int) (k : Int) : sumO P (-1000) k = 0 := sumF_none P k 21
theorem sumF_b {T : Int} {P : Int → Int} (h : PWF T P) {k : Int} (hk : k = 1 ∨ k = 2 ∨ k = 3) : ∀ (f : Nat) (n : Int), okN P n → -200 * (f : Int) ≤ sumF P k f n ∧ sumF P k f n ≤ 200 * (f : Int) := by
  intro f
  induction f with
  | zero => intro n _; simp [sumF]
  | succ f ih =>
    intro n hn
    rcases hn with hn | hn
    · rw [hn, sumF_none]; omega
    · have hne : n ≠ -1000 := by omega
      simp only [sumF, if_neg hne]
      have h1 := ih _ (okN.parent h hn.1 hn.2)
      have h2 := h.N hn.1 hn.2
      rcases hk with rfl | rfl | rfl <;> omega
theorem sumO_b {T : Int} {P : Int → Int} (h : PWF T P) {k n : Int} (hk : k = 1 ∨ k = 2 ∨ k = 3) (hn : okN P n) : -4200 ≤ sumO P n k ∧ sumO P n k ≤ 4200 := by
  have := sumF_b h hk 21 n hn
  unfold sumO
  omega
theorem depF_fuel {T : Int} {P : Int → Int} (h : PWF T P) : ∀ (f g : Nat) (n : Int), 0 ≤ n → n < P 2 → n < (f : Int) → n < (g : Int) → depF P f n = depF P g n := by
  intro f
  induction f with
  | zero => intro g n h0 h1 hf hg; omega
  | succ f ih =>
    intro g n h0 h1 hf hg
    cases g with
    | zero => omega
    | succ g =>
      simp only [depF]
      by_cases hp : nd P n 0 = -1000
      · rw [if_pos hp, if_pos hp]
      · rw [if_neg hp, if_neg hp]
        have h2 := (h.N h0 h1).1
        rw [ih g (nd P n 0) (by omega) (by omega) (by omega) (by omega)]
theorem depO_step {T : Int} {P : Int → Int} (h : PWF T P) {n : Int} (h0 : 0 ≤ n) (h1 : n < P 2) : depO P n = if nd P n 0 = -1000 then 0 else 1 + depO P (nd P n 0) := by
  have hb := h.A
  unfold depO
  rw [depF]
  by_cases hp : nd P n 0 = -1000
  · rw [if_pos hp, if_pos hp]
  · rw [if_neg hp, if_neg hp]
    have h2 := (h.N h0 h1).1
    rw [depF_fuel h 20 21 _ (by omega) (by omega) (by omega) (by omega)]
theorem depF_b {T : Int} {P : Int → Int} (h : PWF T P) : ∀ (f : Nat) (n : Int), 0 ≤ depF P f n ∧ depF P f n ≤ f := by
  intro f
  induction f with
  | zero => intro n; simp [depF]
  | succ f ih =>
    intro n
    simp only [depF]
    have := ih (nd P n 0)
    split <;> omega
theorem depO_b {T : Int} {P : Int → Int} (h : PWF T P) (n : Int) : 0 ≤ depO P n ∧ depO P n ≤ 21 := depF_b h 21 n
/-! shifts -/
def rawO (P : Int → Int) (n : Int) : Int := P 7 * sumO P n 3 / 100
/-- the gain g in the place of the page's own -/
def fitsG (P : Int → Int) (g q lo hi : Int) : Prop := ∀ n : Int, 0 ≤ n → n < P 2 → 0 < nd P n 4 → lo ≤ g * sumO P n 3 / 100 * q / 100 ∧ g * sumO P n 3 / 100 * q / 100 ≤ hi
/-- the first from g downward that is so -/
noncomputable def dnF (p : Int → Prop) : Nat → Int → Int
  | 0, g => g
  | f + 1, g => @ite Int (p g) (Classical.propDecidable _) g (dnF p f (g - 1))
theorem dnF_t {p : Int → Prop} {g : Int} (h : p g) : ∀ f : Nat, dnF p f g = g
  | 0 => rfl
  | f + 1 => by simp [dnF, h]
theorem dnF_f {p : Int → Prop} {g : Int} (h : ¬ p g) (f : Nat) : dnF p (f + 1) g = dnF p f (g - 1) := by simp [dnF, h]
theorem dnF_b {p : Int → Prop} : ∀ (f : Nat) (g : Int), g - f ≤ dnF p f g ∧ dnF p f g ≤ g
  | 0, g => by simp [dnF]
  | f + 1, g => by
    by_cases h : p g
    · rw [dnF_t h]; omega
    · rw [dnF_f h]
      have := dnF_b (p := p) f (g - 1)
      omega
theorem dnF_p {p : Int → Prop} : ∀ (f : Nat) (g : Int), p (g - f) → p (dnF p f g)
  | 0, g, h => by simpa [dnF] using h
  | f + 1, g, h => by
    by_cases hg : p g
    · rw [dnF_t hg]; exact hg
    · rw [dnF_f hg]
      refine dnF_p f (g - 1) ?_
      rw [show g - 1 - (f : Int) = g - ((f + 1 : Nat) : Int) by omega]
      exact h
noncomputable def pctO (P : Int → Int) (lo hi : Int) : Int := dnF (fun q => fitsG P (P 7) q lo hi) 100 100
noncomputable def gainO (P : Int → Int) : Int := dnF (fun g => fitsG P g 100 (P 5) (P 6)) 100 100
theorem fitsG_q0 {P : Int → Int} {g lo hi : Int} (h1 : lo ≤ 0) (h2 : 0 ≤ hi) : fitsG P g 0 lo hi := by
  intro n _ _ _
  simp
  omega
theorem fitsG_g0 {P : Int → Int} {q lo hi : Int} (h1 : lo ≤ 0) (h2 : 0 ≤ hi) : fitsG P 0 q lo hi := by
  intro n _ _ _
  simp
  omega
theorem pctO_b (P : Int → Int) (lo hi : Int) : 0 ≤ pctO P lo hi ∧ pctO P lo hi ≤ 100 := by
  have := dnF_b (p := fun q => fitsG P (P 7) q lo hi) 100 100
  unfold pctO
  omega
theorem pctO_fits {P : Int → Int} {lo hi : Int} (h1 : lo ≤ 0) (h2 : 0 ≤ hi) : fitsG P (P 7) (pctO P lo hi) lo hi :=
  dnF_p (p := fun q => fitsG P (P 7) q lo hi) 100 100 (fitsG_q0 h1 h2)
noncomputable def shO (P : Int → Int) (n : Int) : Int := rawO P n * pctO P (P 5) (P 6) / 100
theorem mul_b {a b A B : Int} (h1 : -A ≤ a ∧ a ≤ A) (h2 : 0 ≤ b ∧ b ≤ B) : -(A * B) ≤ a * b ∧ a * b ≤ A * B := by
  have hA : 0 ≤ A := by omega
  have e1 : a * b ≤ A * b := Int.mul_le_mul_of_nonneg_right h1.2 h2.1
  have e2 : A * b ≤ A * B := Int.mul_le_mul_of_nonneg_left h2.2 hA
  have e3 : -A * b ≤ a * b := Int.mul_le_mul_of_nonneg_right h1.1 h2.1
  have e4 : -A * b = -(A * b) := Int.neg_mul A b
  omega
theorem gz_b {T : Int} {P : Int → Int} (h : PWF T P) {n g : Int} (hn : okN P n) (hg : 0 ≤ g ∧ g ≤ 100) : -420000 ≤ g * sumO P n 3 ∧ g * sumO P n 3 ≤ 420000 := by
  have := mul_b (sumO_b h (k := 3) (by omega) hn) hg
  rw [Int.mul_comm]
  omega
theorem raw_b {T : Int} {P : Int → Int} (h : PWF T P) {n g : Int} (hn : okN P n) (hg : 0 ≤ g ∧ g ≤ 100) : -4200 ≤ g * sumO P n 3 / 100 ∧ g * sumO P n 3 / 100 ≤ 4200 := by
  have := gz_b h hn hg
  omega
theorem rawq_b {T : Int} {P : Int → Int} (h : PWF T P) {n g q : Int} (hn : okN P n) (hg : 0 ≤ g ∧ g ≤ 100) (hq : 0 ≤ q ∧ q ≤ 100) : -420000 ≤ g * sumO P n 3 / 100 * q ∧ g * sumO P n 3 / 100 * q ≤ 420000 := by
  have := mul_b (raw_b h hn hg) hq
  omega
theorem rawO_b {T : Int} {P : Int → Int} (h : PWF T P) {n : Int} (hn : okN P n) : -4200 ≤ rawO P n ∧ rawO P n ≤ 4200 := raw_b h hn h.B.2.2.1
theorem shO_b {T : Int} {P : Int → Int} (h : PWF T P) {n : Int} (hn : okN P n) : -4200 ≤ shO P n ∧ shO P n ≤ 4200 := by
  have := rawq_b h hn h.B.2.2.1 (pctO_b P (P 5) (P 6))
  unfold shO rawO
  omega
/-- a box's shift is within the scene's -/
theorem shO_box {T : Int} {P : Int → Int} (h : PWF T P) {n : Int} (h0 : 0 ≤ n) (h1 : n < P 2) (hb : 0 < nd P n 4) : P 5 ≤ shO P n ∧ shO P n ≤ P 6 := pctO_fits h.B.1.2 h.B.2.1.1 n h0 h1 hb
/-! small functions -/
theorem floor_neg {a b : Int} (hb : 0 < b) : -((b - 1 - a) / b) = a / b := by
  have h := Int.emod_add_mul_ediv a b
  have h1 := Int.emod_nonneg a (show b ≠ 0 by omega)
  have h2 := Int.emod_lt_of_pos a hb
  have e : b - 1 - a = (b - 1 - a % b) + b * (-(a / b)) := by
    rw [Int.mul_neg]; omega
  have e2 : (b - 1 - a) / b = -(a / b) := by
    rw [e, Int.add_mul_ediv_left _ _ (show b ≠ 0 by omega), Int.ediv_eq_zero_of_lt (by omega) (by omega)]
    omega
  omega
def nBegin (w h : Int) : Int := if (20 ≤ w ∧ w ≤ 200) ∧ 10 ≤ h ∧ h ≤ 120 then 0 else 1
def nTick (t : Int) : Int := if 1 ≤ t ∧ t ≤ 200 then 0 else 1
def nSet (what v : Int) : Int := if ((what = 0 ∨ what = 3) ∧ 0 ≤ v ∧ v ≤ 100) ∨ (what = 1 ∧ 1 ≤ v ∧ v ≤ 5) ∨ (what = 2 ∧ 0 ≤ v ∧ v ≤ 15) then 0 else 1
def twO (a b q : Int) : Int := if a + q < b then a + q else if b < a - q then a - q else b
noncomputable def colO (x d : Int) (left : Prop) : Int := @ite Int left (Classical.propDecidable _) (x + (d + 1) / 2) (x - d / 2)
theorem colO_t {x d : Int} {left : Prop} (h : left) : colO x d left = x + (d + 1) / 2 := by unfold colO; exact if_pos h
theorem colO_f {x d : Int} {left : Prop} (h : ¬ left) : colO x d left = x - d / 2 := by unfold colO; exact if_neg h
theorem colO_b {x d A : Int} {left : Prop} (hx : -A ≤ x ∧ x ≤ A) (hd : -4200 ≤ d ∧ d ≤ 4200) : -A - 2101 ≤ colO x d left ∧ colO x d left ≤ A + 2101 := by
  by_cases h : left
  · rw [colO_t h]; omega
  · rw [colO_f h]; omega
def cmdO (v : Int) : Int := if v = 3544025 then 0 else if v = 4085899 then 1 else if v = 1887 then 2 else if v = 40187 then 3 else if v = 10160456 then 4 else if v = 14006 then 5 else if v = 10820876 then 6 else if v = 92275 then 7 else if v = 400313 then 8 else -1000
/-- groups around a node whose parent is n -/
def gaO (P : Int → Int) (n : Int) : Int := if n = -1000 then 0 else 1 + depO P n
theorem depO_ga {T : Int} {P : Int → Int} (h : PWF T P) {n : Int} (h0 : 0 ≤ n) (h1 : n < P 2) : depO P n = gaO P (nd P n 0) := depO_step h h0 h1
theorem gaO_b {T : Int} {P : Int → Int} (h : PWF T P) (n : Int) : 0 ≤ gaO P n ∧ gaO P n ≤ 22 := by
  have := depO_b h n
  unfold gaO
  split <;> omega
def wiF (P : Int → Int) (o : Int) : Nat → Int → Prop
  | 0, _ => False
  | f + 1, n => n = o ∨ (n ≠ -1000 ∧ wiF P o f (nd P n 0))
def wiO (P : Int → Int) (n o : Int) : Prop := wiF P o 21 n
theorem wiF_none {P : Int → Int} {o : Int} (ho : o ≠ -1000) : ∀ f : Nat, ¬ wiF P o f (-1000)
  | 0 => fun h => h
  | f + 1 => fun h => by
    rcases h with h | h
    · exact ho h.symm
    · exact h.1 rfl
theorem wiF_fuel {T : Int} {P : Int → Int} (h : PWF T P) {o : Int} (ho : o ≠ -1000) : ∀ (f g : Nat) (n : Int), okN P n → n < (f : Int) → n < (g : Int) → (wiF P o f n ↔ wiF P o g n) := by
  intro f
  induction f with
  | zero =>
    intro g n hn hf hg
    rcases hn with hn | hn
    · rw [hn]; exact ⟨fun q => absurd q (wiF_none ho _), fun q => absurd q (wiF_none ho _)⟩
    · omega
  | succ f ih =>
    intro g n hn hf hg
    rcases hn with hn | hn
    · rw [hn]; exact ⟨fun q => absurd q (wiF_none ho _), fun q => absurd q (wiF_none ho _)⟩
    · cases g with
      | zero => omega
      | succ g =>
        have hp := (h.N hn.1 hn.2).1
        have := ih g (nd P n 0) (okN.parent h hn.1 hn.2) (by omega) (by omega)
        simp only [wiF, this]
theorem wiO_step {T : Int} {P : Int → Int} (h : PWF T P) {n o : Int} (ho : o ≠ -1000) (h0 : 0 ≤ n) (h1 : n < P 2) : wiO P n o ↔ n = o ∨ wiO P (nd P n 0) o := by
  have hb := h.A
  have hp := (h.N h0 h1).1
  have e := wiF_fuel h ho 20 21 (nd P n 0) (okN.parent h h0 h1) (by omega) (by omega)
  have hne : n ≠ -1000 := by omega
  unfold wiO
  rw [← e]
  simp only [wiF, hne, ne_eq, not_false_eq_true, true_and]
theorem wiO_none {P : Int → Int} {o : Int} (ho : o ≠ -1000) : ¬ wiO P (-1000) o := wiF_none ho 21
/-! scenes -/
def begF (P : Int → Int) : Nat → Int
  | 0 => 0
  | k + 1 => begF P k + sc P (k : Int) 2
def begO (P : Int → Int) (s : Int) : Int := begF P s.toNat
theorem begO_0 (P : Int → Int) : begO P 0 = 0 := rfl
theorem begO_s (P : Int → Int) {s : Int} (h : 0 ≤ s) : begO P (s + 1) = begO P s + sc P s 2 := by
  unfold begO
  rw [show (s + 1).toNat = s.toNat + 1 by omega, begF, show ((s.toNat : Nat) : Int) = s by omega]
theorem begF_b {T : Int} {P : Int → Int} (h : PWF T P) : ∀ k : Nat, (k : Int) ≤ P 3 → 0 ≤ begF P k ∧ begF P k ≤ 50 * (k : Int) := by
  intro k
  induction k with
  | zero => intro _; simp [begF]
  | succ k ih =>
    intro hk
    have h1 := ih (by omega)
    have h2 := (h.S (s := (k : Int)) (by omega) (by omega)).2.2
    simp only [begF]
    omega
theorem begO_b {T : Int} {P : Int → Int} (h : PWF T P) {s : Int} (h0 : 0 ≤ s) (h1 : s ≤ P 3) : 0 ≤ begO P s ∧ begO P s ≤ 400 := by
  have := begF_b h s.toNat (by omega)
  have hb := h.A
  unfold begO
  omega
theorem begF_mono {T : Int} {P : Int → Int} (h : PWF T P) (a : Nat) : ∀ d : Nat, ((a + d : Nat) : Int) ≤ P 3 → begF P a ≤ begF P (a + d) := by
  intro d
  induction d with
  | zero => intro _; exact Int.le_refl _
  | succ d ih =>
    intro hd
    have h1 := ih (by omega)
    have h2 := (h.S (s := ((a + d : Nat) : Int)) (by omega) (by omega)).2.2
    have e : begF P (a + (d + 1)) = begF P (a + d) + sc P ((a + d : Nat) : Int) 2 := rfl
    omega
theorem begO_mono {T : Int} {P : Int → Int} (h : PWF T P) {a b : Int} (h0 : 0 ≤ a) (h1 : a ≤ b) (h2 : b ≤ P 3) : begO P a ≤ begO P b := by
  have := begF_mono h a.toNat (b - a).toNat (by omega)
  unfold begO
  rw [show b.toNat = a.toNat + (b - a).toNat by omega]
  exact this
/-- the present scene -/
def isNow (P : Int → Int) (s : Int) : Prop := (P 3 = 0 ∧ s = -1000) ∨ (0 ≤ s ∧ s < P 3 ∧ begO P s ≤ P 4 ∧ (s = P 3 - 1 ∨ P 4 < begO P (s + 1)))
theorem isNow_eq {T : Int} {P : Int → Int} (h : PWF T P) {a b : Int} (ha : isNow P a) (hb : isNow P b) : a = b := by
  rcases ha with ha | ⟨a0, a1, a2, a3⟩ <;> rcases hb with hb | ⟨b0, b1, b2, b3⟩
  · omega
  · omega
  · omega
  · have h1 : ¬ a < b := by
      intro hl
      have := begO_mono h (a := a + 1) (b := b) (by omega) (by omega) (by omega)
      rcases a3 with a3 | a3 <;> omega
    have h2 : ¬ b < a := by
      intro hl
      have := begO_mono h (a := b + 1) (b := a) (by omega) (by omega) (by omega)
      rcases b3 with b3 | b3 <;> omega
    omega
def nowF (P : Int → Int) : Nat → Int → Int
  | 0, _ => -1000
  | f + 1, s => if P 3 ≤ s then -1000 else if P 4 < begO P (s + 1) ∨ s = P 3 - 1 then s else nowF P f (s + 1)
def nowO (P : Int → Int) : Int := nowF P 9 0
theorem nowF_is {T : Int} {P : Int → Int} (h : PWF T P) : ∀ (f : Nat) (s : Int), 0 ≤ s → P 3 < s + (f : Int) → (0 < P 3 → s < P 3) → begO P s ≤ P 4 → isNow P (nowF P f s) := by
  intro f
  induction f with
  | zero =>
    intro s h0 h1 h2 h3
    have hb := h.A
    by_cases e : P 3 = 0
    · exact Or.inl ⟨e, rfl⟩
    · omega
  | succ f ih =>
    intro s h0 h1 h2 h3
    have hb := h.A
    unfold nowF
    by_cases e1 : P 3 ≤ s
    · rw [if_pos e1]; exact Or.inl ⟨by omega, rfl⟩
    · rw [if_neg e1]
      by_cases e2 : P 4 < begO P (s + 1) ∨ s = P 3 - 1
      · rw [if_pos e2]; exact Or.inr ⟨h0, by omega, h3, e2.symm⟩
      · rw [if_neg e2]; exact ih (s + 1) (by omega) (by omega) (by omega) (by omega)
theorem nowO_is {T : Int} {P : Int → Int} (h : PWF T P) : isNow P (nowO P) := by
  have hb := h.A
  exact nowF_is h 9 0 (by omega) (by omega) (by omega) (by rw [begO_0]; omega)
theorem nowO_of {T : Int} {P : Int → Int} (h : PWF T P) {s : Int} (hs : isNow P s) : s = nowO P := isNow_eq h hs (nowO_is h)
theorem nowO_b {T : Int} {P : Int → Int} (h : PWF T P) : nowO P = -1000 ∨ (0 ≤ nowO P ∧ nowO P < P 3) := by
  rcases nowO_is h with h1 | h1
  · exact Or.inl h1.2
  · exact Or.inr ⟨h1.1, h1.2.1⟩
/-! a tick -/
def tickO (P : Int → Int) : Int → Int :=
  let P1 := upz P 4 (P 4 + 1)
  let s := nowO P1
  if s = -1000 then P1 else upz (upz P1 5 (twO (P 5) (sc P s 0) (P 8))) 6 (twO (P 6) (sc P s 1) (P 8))
def ticksO (P : Int → Int) : Nat → Int → Int
  | 0 => P
  | n + 1 => tickO (ticksO P n)
theorem twO_b {a b q lo hi : Int} (ha : lo ≤ a ∧ a ≤ hi) (hb : lo ≤ b ∧ b ≤ hi) (hq : 0 ≤ q) : lo ≤ twO a b q ∧ twO a b q ≤ hi := by
  unfold twO; omega
/-- pages that agree but for time and shifts -/
theorem PWF.of_agree {T T' : Int} {P P' : Int → Int} (h : PWF T P) (hk : ∀ k : Int, k ≠ 4 → k ≠ 5 → k ≠ 6 → P' k = P k) (h4 : 0 ≤ P' 4 ∧ P' 4 ≤ T') (h5 : -20 ≤ P' 5 ∧ P' 5 ≤ 0) (h6 : 0 ≤ P' 6 ∧ P' 6 ≤ 20) : PWF T' P' := by
  have hn : ∀ n k : Int, 0 ≤ n → 0 ≤ k → nd P' n k = nd P n k := fun n k h1 h2 => hk _ (by omega) (by omega) (by omega)
  have hs : ∀ s k : Int, 0 ≤ s → 0 ≤ k → sc P' s k = sc P s k := fun n k h1 h2 => hk _ (by omega) (by omega) (by omega)
  obtain ⟨hA, hB, hC, hN, hS⟩ := h
  refine ⟨?_, ?_, ?_, ?_, ?_⟩
  · rw [hk 0 (by decide) (by decide) (by decide), hk 1 (by decide) (by decide) (by decide), hk 2 (by decide) (by decide) (by decide), hk 3 (by decide) (by decide) (by decide)]
    exact ⟨hA.1, hA.2.1, hA.2.2.1, hA.2.2.2.1, h4⟩
  · rw [hk 7 (by decide) (by decide) (by decide), hk 8 (by decide) (by decide) (by decide), hk 9 (by decide) (by decide) (by decide), hk 10 (by decide) (by decide) (by decide)]
    exact ⟨h5, h6, hB.2.2⟩
  · rw [hk 11 (by decide) (by decide) (by decide), hk 12 (by decide) (by decide) (by decide), hk 13 (by decide) (by decide) (by decide)]
    exact hC
  · intro n h0 h1
    rw [hk 2 (by decide) (by decide) (by decide)] at h1
    have h2 := hN n h0 h1
    rw [hn n 0 h0 (by decide), hn n 1 h0 (by decide), hn n 2 h0 (by decide), hn n 3 h0 (by decide), hn n 4 h0 (by decide), hn n 5 h0 (by decide), hn n 6 h0 (by decide)]
    rcases h2.1 with h3 | h3
    · exact ⟨Or.inl h3, h2.2⟩
    · rw [hn _ 4 h3.1 (by decide)]
      exact h2
  · intro s h0 h1
    rw [hk 3 (by decide) (by decide) (by decide)] at h1
    rw [hs s 0 h0 (by decide), hs s 1 h0 (by decide), hs s 2 h0 (by decide)]
    exact hS s h0 h1
theorem PWF.mono {T T' : Int} {P : Int → Int} (h : PWF T P) (hT : T ≤ T') : PWF T' P := by
  have := h.A
  exact h.of_agree (fun _ _ _ _ => rfl) (by omega) h.B.1 h.B.2.1
theorem PWF.time {T : Int} {P : Int → Int} (h : PWF T P) : PWF (T + 1) (upz P 4 (P 4 + 1)) := by
  have hA := h.A
  refine h.of_agree (fun k h4 _ _ => upz_n h4) ?_ ?_ ?_
  · rw [upz_s]; omega
  · rw [upz_n (by decide)]; exact h.B.1
  · rw [upz_n (by decide)]; exact h.B.2.1
theorem PWF.tick {T : Int} {P : Int → Int} (h : PWF T P) : PWF (T + 1) (tickO P) := by
  have h1 := h.time
  unfold tickO
  dsimp only
  split
  · exact h1
  · rename_i hne
    have hs := (nowO_b h1).resolve_left hne
    have e3 : (upz P 4 (P 4 + 1)) 3 = P 3 := upz_n (by decide)
    rw [e3] at hs
    have hS := h.S hs.1 hs.2
    refine h1.of_agree (fun k h4 h5 h6 => ?_) ?_ ?_ ?_
    · rw [upz_n h6, upz_n h5]
    · rw [upz_n (by decide), upz_n (by decide)]; exact h1.A.2.2.2.2
    · rw [upz_n (by decide), upz_s]
      exact twO_b h.B.1 hS.1 (by have := h.B; omega)
    · rw [upz_s]
      exact twO_b h.B.2.1 hS.2.1 (by have := h.B; omega)
theorem PWF.ticks {T : Int} {P : Int → Int} (h : PWF T P) : ∀ n : Nat, PWF (T + n) (ticksO P n)
  | 0 => by
    have e : T + ((0 : Nat) : Int) = T := by omega
    rw [e]
    exact h
  | n + 1 => by
    have := (PWF.ticks h n).tick
    simp only [ticksO]
    exact this.mono (by omega)
