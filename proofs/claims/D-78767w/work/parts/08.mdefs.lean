/-! what the reference's arrays hold behind a survey; steps of its loops, in plain Lean -/
set_option maxRecDepth 100000
def PLC (st : Ms) : Prop := ∀ n : Int, 0 ≤ n → n < st 0 2 → st 8 n = sumO (st 0) n 1 ∧ st 9 n = sumO (st 0) n 2 ∧ st 10 n = sumO (st 0) n 3
def SHC (st : Ms) : Prop := ∀ n : Int, 0 ≤ n → n < st 0 2 → st 11 n = shO (st 0) n
def ORC (st : Ms) : Prop := st 14 0 = cntO (st 0) ∧ ∀ j : Int, 0 ≤ j → j < cntO (st 0) → st 13 j = ordO (st 0) j
def MKC (st : Ms) : Prop := st 15 0 = mlO (st 0) ∧ st 16 0 = mrO (st 0)
def TIC (st : Ms) : Prop := (st 17 0 = if trO (st 0) = -1 then 0 else 1) ∧ (trO (st 0) ≠ -1 → st 18 0 = trO (st 0) ∧ st 19 0 = tsO (st 0))
def SVC (st : Ms) : Prop := PLC st ∧ SHC st ∧ ORC st ∧ MKC st ∧ TIC st ∧ st 12 0 = pctO (st 0) (st 0 5) (st 0 6)
/-- but for the survey's own cells nothing has changed -/
def agr (ks : List Nat) (st u : Ms) : Prop := ∀ k : Nat, k ∉ ks → u k = st k
theorem agr.rf (ks : List Nat) (st : Ms) : agr ks st st := fun _ _ => rfl
def fitsT (P : Int → Int) (g q lo hi N : Int) : Prop := ∀ j : Int, 0 ≤ j → j < N → 0 < nd P j 4 → lo ≤ g * sumO P j 3 / 100 * q / 100 ∧ g * sumO P j 3 / 100 * q / 100 ≤ hi
theorem fitsT_s {P : Int → Int} {g q lo hi n : Int} (h : 0 ≤ n) : fitsT P g q lo hi (n + 1) ↔ fitsT P g q lo hi n ∧ (0 < nd P n 4 → lo ≤ g * sumO P n 3 / 100 * q / 100 ∧ g * sumO P n 3 / 100 * q / 100 ≤ hi) := by
  constructor
  · intro hf
    exact ⟨fun j h0 h1 => hf j h0 (by omega), hf n h (by omega)⟩
  · intro hf j h0 h1 hb
    by_cases hj : j = n
    · subst hj; exact hf.2 hb
    · exact hf.1 j h0 (by omega) hb
theorem fitsT_G {P : Int → Int} {g q lo hi : Int} : fitsT P g q lo hi (P 2) ↔ fitsG P g q lo hi := Iff.rfl
theorem fitsT_0 {P : Int → Int} {g q lo hi : Int} : fitsT P g q lo hi 0 := fun j h0 h1 => by omega
theorem bI_no {z : Int} {p : Prop} (h : z = bI p) (h0 : z = 0) : ¬ p := bI_0.mp (h.symm.trans h0)
theorem bI_yes {z : Int} {p : Prop} (h : z = bI p) (h0 : z ≠ 0) : p := Classical.byContradiction fun q => h0 (h.trans (bI_f q))
/-- places -/
def plO (st : Ms) (n : Int) : Ms := fun k b => if k = 8 ∧ 0 ≤ b ∧ b < n then sumO (st 0) b 1 else if k = 9 ∧ 0 ≤ b ∧ b < n then sumO (st 0) b 2 else if k = 10 ∧ 0 ≤ b ∧ b < n then sumO (st 0) b 3 else st k b
theorem plO_k (st : Ms) (n : Int) {k : Nat} (h8 : k ≠ 8) (h9 : k ≠ 9) (h10 : k ≠ 10) : plO st n k = st k := by
  funext b
  simp [plO, h8, h9, h10]
theorem plO_P (st : Ms) (n : Int) : plO st n 0 = st 0 := plO_k st n (by decide) (by decide) (by decide)
theorem plO_0 (st : Ms) : plO st 0 = st := by
  funext k b
  unfold plO
  rw [if_neg (by omega), if_neg (by omega), if_neg (by omega)]
theorem plO_s (st : Ms) {n : Int} (h : 0 ≤ n) : su (su (su (plO st n) 8 n (sumO (st 0) n 1)) 9 n (sumO (st 0) n 2)) 10 n (sumO (st 0) n 3) = plO st (n + 1) := by
  funext k b
  unfold plO su
  by_cases hb : b = n
  · subst hb
    by_cases h8 : k = 8
    · subst h8; simp; omega
    · by_cases h9 : k = 9
      · subst h9; simp; omega
      · by_cases h10 : k = 10
        · subst h10; simp; omega
        · simp [h8, h9, h10]
  · have e : (0 ≤ b ∧ b < n + 1) ↔ (0 ≤ b ∧ b < n) := by omega
    simp only [hb, and_false, if_false, e]
theorem plO_C {st : Ms} : PLC (plO st (st 0 2)) := by
  intro n h0 h1
  rw [plO_P] at h1 ⊢
  refine ⟨?_, ?_, ?_⟩
  · unfold plO; rw [if_pos ⟨rfl, h0, h1⟩]
  · unfold plO; rw [if_neg (by omega), if_pos ⟨rfl, h0, h1⟩]
  · unfold plO; rw [if_neg (by omega), if_neg (by omega), if_pos ⟨rfl, h0, h1⟩]
/-- shifts -/
noncomputable def shfO (st : Ms) (n : Int) : Ms := fun k b => if k = 11 ∧ 0 ≤ b ∧ b < n then shO (st 0) b else st k b
theorem shfO_k (st : Ms) (n : Int) {k : Nat} (h : k ≠ 11) : shfO st n k = st k := by
  funext b
  simp [shfO, h]
theorem shfO_0 (st : Ms) : shfO st 0 = st := by
  funext k b
  unfold shfO
  rw [if_neg (by omega)]
theorem shfO_s (st : Ms) {n : Int} (h : 0 ≤ n) : su (shfO st n) 11 n (shO (st 0) n) = shfO st (n + 1) := by
  funext k b
  unfold shfO su
  by_cases hb : b = n
  · subst hb
    by_cases h8 : k = 11
    · subst h8; simp; omega
    · simp [h8]
  · have e : (0 ≤ b ∧ b < n + 1) ↔ (0 ≤ b ∧ b < n) := by omega
    simp only [hb, and_false, if_false, e]
theorem shfO_C {st : Ms} : SHC (shfO st (st 0 2)) := by
  intro n h0 h1
  have e : shfO st (st 0 2) 0 = st 0 := shfO_k st _ (by decide)
  rw [e] at h1 ⊢
  unfold shfO; rw [if_pos ⟨rfl, h0, h1⟩]
/-- a copy of n cells -/
def cpO (st : Ms) (kf : Nat) (at_ : Int) (kt : Nat) (pl n : Int) : Ms := fun k b => if k = kt ∧ pl ≤ b ∧ b < pl + n then st kf (at_ + (b - pl)) else st k b
theorem cpO_0 (st : Ms) (kf : Nat) (at_ : Int) (kt : Nat) (pl : Int) : cpO st kf at_ kt pl 0 = st := by
  funext k b
  unfold cpO
  rw [if_neg (by omega)]
theorem cpO_k (st : Ms) {kf : Nat} {at_ : Int} {kt : Nat} {pl n : Int} {k : Nat} (h : k ≠ kt) : cpO st kf at_ kt pl n k = st k := by
  funext b
  simp [cpO, h]
theorem cpO_s (st : Ms) {kf : Nat} {at_ : Int} {kt : Nat} {pl n : Int} (hk : kf ≠ kt) (hn : 0 ≤ n) : su (cpO st kf at_ kt pl n) kt (pl + n) (cpO st kf at_ kt pl n kf (at_ + n)) = cpO st kf at_ kt pl (n + 1) := by
  rw [cpO_k st hk]
  funext k b
  unfold cpO su
  by_cases h8 : k = kt
  · subst h8
    by_cases hb : b = pl + n
    · subst hb
      simp
      rw [if_pos (by omega)]
      congr 1
      omega
    · have e : (pl ≤ b ∧ b < pl + (n + 1)) ↔ (pl ≤ b ∧ b < pl + n) := by omega
      simp only [hb, and_false, if_false, e]
  · simp [h8]
/-- the saved pages moved down by one, the first n cells of it -/
def dwO (st : Ms) (n : Int) : Ms := fun k b => if k = 2 ∧ 0 ≤ b ∧ b < n then st 2 (b + 198) else st k b
theorem dwO_0 (st : Ms) : dwO st 0 = st := by
  funext k b
  unfold dwO
  rw [if_neg (by omega)]
theorem dwO_k (st : Ms) (n : Int) {k : Nat} (h : k ≠ 2) : dwO st n k = st k := by
  funext b
  simp [dwO, h]
theorem dwO_at (st : Ms) {n b : Int} (h : n ≤ b) : dwO st n 2 b = st 2 b := by
  unfold dwO
  rw [if_neg (by omega)]
theorem dwO_s (st : Ms) {n : Int} (hn : 0 ≤ n) : su (dwO st n) 2 n (dwO st n 2 (n + 198)) = dwO st (n + 1) := by
  rw [dwO_at st (by omega)]
  funext k b
  unfold dwO su
  by_cases h8 : k = 2
  · subst h8
    by_cases hb : b = n
    · subst hb
      simp
      omega
    · have e : (0 ≤ b ∧ b < n + 1) ↔ (0 ≤ b ∧ b < n) := by omega
      simp only [hb, and_false, if_false, e]
  · simp [h8]
/-- the state behind keep() -/
def kpO (st : Ms) : Ms :=
  let s1 := if st 3 0 = 4 then su (dwO st 594) 3 0 (4 - 1) else st
  su (cpO s1 0 0 2 (198 * s1 3 0) 198) 3 0 (s1 3 0 + 1)
/-- the page replaced -/
def sp (st : Ms) (P : Int → Int) : Ms := fun k => if k = 0 then P else st k
theorem sp_0 (st : Ms) (P : Int → Int) : sp st P 0 = P := rfl
theorem sp_k (st : Ms) (P : Int → Int) {k : Nat} (h : k ≠ 0) : sp st P k = st k := if_neg h
theorem sp_su (st : Ms) (z x : Int) : su st 0 z x = sp st (upz (st 0) z x) := by
  funext k b
  unfold su sp upz
  by_cases h : k = 0
  · subst h; simp
  · simp [h]
theorem su_sp (st : Ms) (P : Int → Int) (z x : Int) : su (sp st P) 0 z x = sp st (upz P z x) := by
  funext k b
  unfold su sp upz
  by_cases h : k = 0
  · subst h; simp
  · simp [h]
theorem sp_sp (st : Ms) (P P' : Int → Int) : sp (sp st P) P' = sp st P' := by
  funext k
  unfold sp
  by_cases h : k = 0
  · simp [h]
  · simp [h]
theorem sp_self (st : Ms) : sp st (st 0) = st := by
  funext k
  unfold sp
  by_cases h : k = 0
  · simp [h]
  · simp [h]
/-- order and boxes -/
def srO (st : Ms) (f : Int → Int) (n : Int) : Ms := fun k => if k = 13 then f else if k = 14 then upz (st 14) 0 n else st k
theorem srO_13 (st : Ms) (f : Int → Int) (n : Int) : srO st f n 13 = f := rfl
theorem srO_14 (st : Ms) (f : Int → Int) (n : Int) : srO st f n 14 0 = n := by simp [srO, upz]
theorem srO_i (st : Ms) (n : Int) : su st 14 0 n = srO st (st 13) n := by
  funext k b
  unfold su srO
  by_cases h : k = 13
  · subst h; simp
  · by_cases h2 : k = 14
    · subst h2; simp [upz]
    · simp [h, h2]
theorem srO_o (st : Ms) (f : Int → Int) (n z x : Int) : su (srO st f n) 13 z x = srO st (upz f z x) n := by
  funext k b
  unfold su srO
  by_cases h : k = 13
  · subst h; simp [upz]
  · by_cases h2 : k = 14
    · subst h2; simp [upz]
    · simp [h, h2]
theorem srO_b (st : Ms) (f : Int → Int) (n x : Int) : su (srO st f n) 14 0 x = srO st f x := by
  funext k b
  unfold su srO
  by_cases h : k = 13
  · subst h; simp
  · by_cases h2 : k = 14
    · subst h2; simp [upz]; split <;> rfl
    · simp [h, h2]
/-- what a survey leaves -/
def svO (st u : Ms) : Ms := fun k => if 8 ≤ k ∧ k ≤ 19 then u k else st k
theorem svO_out (st u : Ms) {k : Nat} (h : k < 8 ∨ 19 < k) : svO st u k = st k := by
  unfold svO
  rw [if_neg (by omega)]
theorem svO_mk {st u : Ms} (h : ∀ k : Nat, k < 8 ∨ 19 < k → u k = st k) : svO st u = u := by
  funext k
  unfold svO
  by_cases hk : 8 ≤ k ∧ k ≤ 19
  · rw [if_pos hk]
  · rw [if_neg hk, h k (by omega)]
/-- isShown, titleRow, titleShift -/
def tiO (st : Ms) (a b c : Int) : Ms := fun k => if k = 17 then upz (st 17) 0 a else if k = 18 then upz (st 18) 0 b else if k = 19 then upz (st 19) 0 c else st k
theorem tiO_17 (st : Ms) (a b c : Int) : tiO st a b c 17 0 = a := by simp [tiO, upz]
theorem tiO_18 (st : Ms) (a b c : Int) : tiO st a b c 18 0 = b := by simp [tiO, upz]
theorem tiO_19 (st : Ms) (a b c : Int) : tiO st a b c 19 0 = c := by simp [tiO, upz]
theorem tiO_i (st : Ms) (a : Int) : su st 17 0 a = tiO st a (st 18 0) (st 19 0) := by
  funext k b
  unfold su tiO
  by_cases h : k = 17
  · subst h; simp [upz]
  · by_cases h2 : k = 18
    · subst h2; simp [upz]; intro hb; rw [hb]
    · by_cases h3 : k = 19
      · subst h3; simp [upz]; intro hb; rw [hb]
      · simp [h, h2, h3]
theorem tiO_s (st : Ms) (a b c x y z : Int) : su (su (su (tiO st a b c) 17 0 x) 18 0 y) 19 0 z = tiO st x y z := by
  funext k b
  unfold su tiO
  by_cases h : k = 17
  · subst h; simp [upz]; by_cases hb : b = 0 <;> simp [hb]
  · by_cases h2 : k = 18
    · subst h2; simp [upz]; by_cases hb : b = 0 <;> simp [hb]
    · by_cases h3 : k = 19
      · subst h3; simp [upz]; by_cases hb : b = 0 <;> simp [hb]
      · simp [h, h2, h3]
