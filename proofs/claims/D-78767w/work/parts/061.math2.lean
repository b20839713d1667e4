/-! WHAT BOTH EYES SEE, out of a page -/
set_option maxRecDepth 100000
noncomputable def pI (p : Prop) (a b : Int) : Int := @ite Int p (Classical.propDecidable _) a b
theorem pI_t {p : Prop} {a b : Int} (h : p) : pI p a b = a := by unfold pI; exact if_pos h
theorem pI_f {p : Prop} {a b : Int} (h : ¬ p) : pI p a b = b := by unfold pI; exact if_neg h
theorem pI_or (p : Prop) (a b : Int) : (p ∧ pI p a b = a) ∨ (¬ p ∧ pI p a b = b) := by
  by_cases h : p
  · exact Or.inl ⟨h, pI_t h⟩
  · exact Or.inr ⟨h, pI_f h⟩
theorem pI_c {p q : Prop} {a b : Int} (h : p ↔ q) : pI p a b = pI q a b := by rw [propext h]
/-! boxes in the order of painting -/
def posF (sh f : Int → Int) (x : Int) : Nat → Int
  | 0 => 0
  | c + 1 => if sh x < sh (f (c : Int)) then posF sh f x c else (c : Int) + 1
def insO (f : Int → Int) (p x : Int) : Int → Int := fun j => if j < p then f j else if j = p then x else f (j - 1)
def ordS (P sh : Int → Int) : Nat → Int × (Int → Int)
  | 0 => (0, fun _ => 0)
  | k + 1 => if 0 < nd P (k : Int) 4 then ((ordS P sh k).1 + 1, insO (ordS P sh k).2 (posF sh (ordS P sh k).2 (k : Int) (ordS P sh k).1.toNat) (k : Int)) else ordS P sh k
theorem posF_b (sh f : Int → Int) (x : Int) : ∀ c : Nat, 0 ≤ posF sh f x c ∧ posF sh f x c ≤ c := by
  intro c
  induction c with
  | zero => simp [posF]
  | succ c ih =>
    unfold posF
    split
    · omega
    · omega
theorem posF_congr {sh sh' f f' : Int → Int} {x : Int} : ∀ c : Nat, (sh x = sh' x) → (∀ j : Int, 0 ≤ j → j < c → sh (f j) = sh' (f' j)) → posF sh f x c = posF sh' f' x c := by
  intro c
  induction c with
  | zero => intro _ _; rfl
  | succ c ih =>
    intro h1 h2
    unfold posF
    rw [h1, h2 c (by omega) (by omega), ih h1 (fun j a b => h2 j a (by omega))]
theorem ordS_b {T : Int} {P sh : Int → Int} (h : PWF T P) : ∀ k : Nat, (k : Int) ≤ P 2 → (0 ≤ (ordS P sh k).1 ∧ (ordS P sh k).1 ≤ k) ∧ ∀ j : Int, 0 ≤ j → j < (ordS P sh k).1 → 0 ≤ (ordS P sh k).2 j ∧ (ordS P sh k).2 j < k ∧ 0 < nd P ((ordS P sh k).2 j) 4 := by
  intro k
  induction k with
  | zero => intro _; exact ⟨by simp [ordS], fun j h0 h1 => by simp [ordS] at h1; omega⟩
  | succ k ih =>
    intro hk
    obtain ⟨h1, h2⟩ := ih (by omega)
    unfold ordS
    by_cases hb : 0 < nd P (k : Int) 4
    · rw [if_pos hb]
      have hp := posF_b sh (ordS P sh k).2 (k : Int) (ordS P sh k).1.toNat
      generalize posF sh (ordS P sh k).2 (k : Int) (ordS P sh k).1.toNat = q at hp ⊢
      refine ⟨by dsimp only; omega, fun j h3 h4 => ?_⟩
      dsimp only at h4 ⊢
      unfold insO
      by_cases e1 : j < q
      · rw [if_pos e1]
        have := h2 j h3 (by omega)
        omega
      · rw [if_neg e1]
        by_cases e2 : j = q
        · rw [if_pos e2]; omega
        · rw [if_neg e2]
          have := h2 (j - 1) (by omega) (by omega)
          omega
    · rw [if_neg hb]
      refine ⟨by omega, fun j h3 h4 => ?_⟩
      have := h2 j h3 h4
      omega
noncomputable def cntO (P : Int → Int) : Int := (ordS P (shO P) (P 2).toNat).1
noncomputable def ordO (P : Int → Int) (j : Int) : Int := (ordS P (shO P) (P 2).toNat).2 j
theorem cntO_b {T : Int} {P : Int → Int} (h : PWF T P) : 0 ≤ cntO P ∧ cntO P ≤ P 2 := by
  have hb := h.A
  have := (ordS_b (sh := shO P) h (P 2).toNat (by omega)).1
  unfold cntO
  omega
theorem ordO_b {T : Int} {P : Int → Int} (h : PWF T P) {j : Int} (h0 : 0 ≤ j) (h1 : j < cntO P) : 0 ≤ ordO P j ∧ ordO P j < P 2 ∧ 0 < nd P (ordO P j) 4 := by
  have hb := h.A
  have := (ordS_b (sh := shO P) h (P 2).toNat (by omega)).2 j h0 h1
  unfold ordO
  omega
/-! the window -/
noncomputable def colN (P : Int → Int) (n : Int) (left : Prop) : Int := colO (sumO P n 1) (shO P n) left
theorem colN_b {T : Int} {P : Int → Int} (h : PWF T P) {n : Int} (hn : okN P n) (left : Prop) : -6301 ≤ colN P n left ∧ colN P n left ≤ 6301 := by
  have h1 := sumO_b h (k := 1) (by omega) hn
  have h2 := shO_b h hn
  have := colO_b (left := left) (A := 4200) (x := sumO P n 1) (d := shO P n) (by omega) h2
  unfold colN
  omega
def inrO (P : Int → Int) (n : Int) : Prop := sumO P n 2 < P 1 ∧ 0 < sumO P n 2 + nd P n 5
def cutLO (P : Int → Int) (n : Int) (left : Prop) (a : Int) : Prop := inrO P n ∧ colN P n left < pI left a 0 ∧ pI left a 0 < colN P n left + nd P n 4
def cutRO (P : Int → Int) (n : Int) (left : Prop) (b : Int) : Prop := inrO P n ∧ colN P n left < pI left (P 0) (P 0 - b) ∧ pI left (P 0) (P 0 - b) < colN P n left + nd P n 4
def cutO (P : Int → Int) (n : Int) (al : Prop) (a : Int) : Prop := (al ∧ (cutLO P n True a ∨ cutLO P n False a)) ∨ (¬ al ∧ (cutRO P n True a ∨ cutRO P n False a))
noncomputable def nxtF (P : Int → Int) (al : Prop) (a : Int) : Nat → Int
  | 0 => a
  | k + 1 => pI (cutO P (ordO P (k : Int)) al a) (max (nxtF P al a k) (shO P (ordO P (k : Int)))) (nxtF P al a k)
noncomputable def nxtO (P : Int → Int) (al : Prop) (a : Int) : Int := nxtF P al a (cntO P).toNat
noncomputable def mskF (P : Int → Int) (al : Prop) : Nat → Int → Int
  | 0, a => a
  | f + 1, a => if a < nxtO P al a then mskF P al f (nxtO P al a) else a
noncomputable def mskO (P : Int → Int) (al : Prop) : Int := mskF P al 21 0
theorem nxtF_b {T : Int} {P : Int → Int} (h : PWF T P) (al : Prop) {a : Int} (ha : 0 ≤ a ∧ a ≤ 20) : ∀ k : Nat, (k : Int) ≤ cntO P → a ≤ nxtF P al a k ∧ nxtF P al a k ≤ 20 := by
  intro k
  induction k with
  | zero => intro _; simp only [nxtF]; omega
  | succ k ih =>
    intro hk
    have h1 := ih (by omega)
    have h2 := ordO_b h (j := (k : Int)) (by omega) (by omega)
    have h3 := shO_box h h2.1 h2.2.1 h2.2.2
    have h4 := h.B
    simp only [nxtF]
    rcases pI_or (cutO P (ordO P (k : Int)) al a) (max (nxtF P al a k) (shO P (ordO P (k : Int)))) (nxtF P al a k) with ⟨_, e⟩ | ⟨_, e⟩ <;> rw [e] <;> omega
theorem nxtO_b {T : Int} {P : Int → Int} (h : PWF T P) (al : Prop) {a : Int} (ha : 0 ≤ a ∧ a ≤ 20) : a ≤ nxtO P al a ∧ nxtO P al a ≤ 20 := by
  have hc := cntO_b h
  exact nxtF_b h al ha (cntO P).toNat (by omega)
theorem mskF_b {T : Int} {P : Int → Int} (h : PWF T P) (al : Prop) : ∀ (f : Nat) (a : Int), 0 ≤ a → a ≤ 20 → 0 ≤ mskF P al f a ∧ mskF P al f a ≤ 20 := by
  intro f
  induction f with
  | zero => intro a h0 h1; simp only [mskF]; omega
  | succ f ih =>
    intro a h0 h1
    have := nxtO_b h al ⟨h0, h1⟩
    simp only [mskF]
    split
    · exact ih _ (by omega) (by omega)
    · omega
theorem mskO_b {T : Int} {P : Int → Int} (h : PWF T P) (al : Prop) : 0 ≤ mskO P al ∧ mskO P al ≤ 20 := mskF_b h al 21 0 (by decide) (by decide)
theorem mskF_end {P : Int → Int} {al : Prop} {a : Int} (h : ¬ a < nxtO P al a) (f : Nat) : mskF P al f a = a := by
  cases f with
  | zero => rfl
  | succ f => simp only [mskF, if_neg h]
theorem mskF_more {T : Int} {P : Int → Int} (h : PWF T P) (al : Prop) : ∀ (f g : Nat) (a : Int), 0 ≤ a → a ≤ 20 → 20 < a + (f : Int) → 20 < a + (g : Int) → mskF P al f a = mskF P al g a := by
  intro f
  induction f with
  | zero => intro g a h0 h1 h2; omega
  | succ f ih =>
    intro g a h0 h1 h2 h3
    cases g with
    | zero => omega
    | succ g =>
      have hb := nxtO_b h al ⟨h0, h1⟩
      by_cases hl : a < nxtO P al a
      · simp only [mskF, if_pos hl]
        exact ih g _ (by omega) (by omega) (by omega) (by omega)
      · rw [mskF_end hl, mskF_end hl]
/-! the title -/
def metO (P : Int → Int) (n row t : Int) (left : Prop) : Prop := (0 ≤ row - sumO P n 2 ∧ row - sumO P n 2 ≤ nd P n 5 - 1) ∧ colN P n left < colO (P 11) t left + P 13 ∧ colO (P 11) t left < colN P n left + nd P n 4
def clrO (P : Int → Int) (ml mr row t : Int) (left : Prop) : Prop := (pI left ml 0 ≤ colO (P 11) t left ∧ colO (P 11) t left + P 13 ≤ pI left (P 0) (P 0 - mr)) ∧ ∀ k : Int, 0 ≤ k → k < cntO P → metO P (ordO P k) row t left → shO P (ordO P k) < t
noncomputable def mlO (P : Int → Int) : Int := mskO P True
noncomputable def mrO (P : Int → Int) : Int := mskO P False
def posO (P : Int → Int) (row t : Int) : Prop := clrO P (mlO P) (mrO P) row t True ∧ clrO P (mlO P) (mrO P) row t False
/-- the first from t upward that is so, or -1 -/
noncomputable def upF (p : Int → Prop) : Nat → Int → Int
  | 0, _ => -1
  | f + 1, t => pI (p t) t (upF p f (t + 1))
noncomputable def ftO (P : Int → Int) (row : Int) : Int := upF (posO P row) (P 6 + 1).toNat 0
noncomputable def rowF (P : Int → Int) : Nat → Int → Int
  | 0, _ => -1
  | f + 1, r => if ftO P r = -1 then rowF P f (r - 1) else r
/-- the title's row, or -1 -/
noncomputable def trO (P : Int → Int) : Int := if 0 < P 13 then rowF P (P 12 + 1).toNat (P 12) else -1
noncomputable def tsO (P : Int → Int) : Int := ftO P (trO P)
theorem upF_b (p : Int → Prop) : ∀ (f : Nat) (t : Int), 0 ≤ t → upF p f t = -1 ∨ (t ≤ upF p f t ∧ upF p f t < t + f)
  | 0, t, _ => Or.inl rfl
  | f + 1, t, h => by
    rcases pI_or (p t) t (upF p f (t + 1)) with ⟨_, e⟩ | ⟨_, e⟩
    · simp only [upF, e]; omega
    · simp only [upF, e]
      have := upF_b p f (t + 1) (by omega)
      omega
theorem ftO_b {T : Int} {P : Int → Int} (h : PWF T P) (row : Int) : ftO P row = -1 ∨ (0 ≤ ftO P row ∧ ftO P row ≤ 20) := by
  have := upF_b (posO P row) (P 6 + 1).toNat 0 (by decide)
  have hb := h.B
  unfold ftO
  omega
theorem rowF_b (P : Int → Int) : ∀ (f : Nat) (r : Int), r + 1 = f → rowF P f r = -1 ∨ (0 ≤ rowF P f r ∧ rowF P f r ≤ r ∧ ftO P (rowF P f r) ≠ -1)
  | 0, r, _ => Or.inl rfl
  | f + 1, r, h => by
    simp only [rowF]
    split
    · have := rowF_b P f (r - 1) (by omega)
      omega
    · rename_i hn
      exact Or.inr ⟨by omega, by omega, hn⟩
theorem trO_b {T : Int} {P : Int → Int} (h : PWF T P) : trO P = -1 ∨ (0 ≤ trO P ∧ trO P ≤ 119 ∧ 0 < P 13 ∧ (0 ≤ tsO P ∧ tsO P ≤ 20)) := by
  have hc := h.C
  unfold tsO
  unfold trO
  split
  · rename_i hp
    have := rowF_b P (P 12 + 1).toNat (P 12) (by omega)
    rcases this with h1 | h1
    · exact Or.inl h1
    · have h2 := (ftO_b h (rowF P (P 12 + 1).toNat (P 12))).resolve_left h1.2.2
      exact Or.inr ⟨h1.1, by omega, hp, h2⟩
  · exact Or.inl rfl
/-! images -/
def hasO (P : Int → Int) (n : Int) (left : Prop) (col row : Int) : Prop := (0 ≤ row - sumO P n 2 ∧ row - sumO P n 2 ≤ nd P n 5 - 1) ∧ 0 ≤ col - colN P n left ∧ col - colN P n left ≤ nd P n 4 - 1
noncomputable def topF (P : Int → Int) (left : Prop) (col row : Int) : Nat → Int
  | 0 => -1000
  | k + 1 => pI (hasO P (ordO P (k : Int)) left col row) (ordO P (k : Int)) (topF P left col row k)
noncomputable def topO (P : Int → Int) (left : Prop) (col row : Int) : Int := topF P left col row (cntO P).toNat
theorem topF_b {T : Int} {P : Int → Int} (h : PWF T P) (left : Prop) (col row : Int) : ∀ k : Nat, (k : Int) ≤ cntO P → okN P (topF P left col row k) := by
  intro k
  induction k with
  | zero => intro _; exact Or.inl rfl
  | succ k ih =>
    intro hk
    have h2 := ordO_b h (j := (k : Int)) (by omega) (by omega)
    rcases pI_or (hasO P (ordO P (k : Int)) left col row) (ordO P (k : Int)) (topF P left col row k) with ⟨_, e⟩ | ⟨_, e⟩
    · simp only [topF, e]; exact Or.inr ⟨h2.1, h2.2.1⟩
    · simp only [topF, e]; exact ih (by omega)
theorem topO_b {T : Int} {P : Int → Int} (h : PWF T P) (left : Prop) (col row : Int) : okN P (topO P left col row) := by
  have hc := cntO_b h
  exact topF_b h left col row (cntO P).toNat (by omega)
def istO (P : Int → Int) (left : Prop) (col row : Int) : Prop := (trO P ≠ -1 ∧ row = trO P) ∧ 0 ≤ col - colO (P 11) (tsO P) left ∧ col - colO (P 11) (tsO P) left ≤ P 13 - 1
def mkdO (P : Int → Int) (left : Prop) (col : Int) : Prop := (left ∧ col < mlO P) ∨ (¬ left ∧ P 0 - mrO P ≤ col)
noncomputable def shadO (P : Int → Int) (left : Prop) (col row : Int) : Int := pI (mkdO P left col) 0 (pI (istO P left col row) 15 (if topO P left col row = -1000 then P 9 else nd P (topO P left col row) 6))
theorem shadO_b {T : Int} {P : Int → Int} (h : PWF T P) (left : Prop) (col row : Int) : 0 ≤ shadO P left col row ∧ shadO P left col row ≤ 15 := by
  unfold shadO
  rcases pI_or (mkdO P left col) 0 (pI (istO P left col row) 15 (if topO P left col row = -1000 then P 9 else nd P (topO P left col row) 6)) with ⟨_, e⟩ | ⟨_, e⟩
  · rw [e]; decide
  · rw [e]
    rcases pI_or (istO P left col row) 15 (if topO P left col row = -1000 then P 9 else nd P (topO P left col row) 6) with ⟨_, e⟩ | ⟨_, e⟩
    · rw [e]; decide
    · rw [e]
      have hb := h.B
      rcases topO_b h left col row with ht | ht
      · rw [if_pos ht]; omega
      · rw [if_neg (by omega)]
        have := h.N ht.1 ht.2
        omega
noncomputable def ghoO (P : Int → Int) (col row : Int) : Int := P 10 * (if shadO P True col row - shadO P False col row < 0 then -(shadO P True col row - shadO P False col row) else shadO P True col row - shadO P False col row) / 100
theorem ghoO_b {T : Int} {P : Int → Int} (h : PWF T P) (col row : Int) : 0 ≤ ghoO P col row ∧ ghoO P col row ≤ 15 := by
  have h1 := shadO_b h True col row
  have h2 := shadO_b h False col row
  have h3 : ∀ d : Int, 0 ≤ d → d ≤ 15 → 0 ≤ P 10 * d / 100 ∧ P 10 * d / 100 ≤ 15 := by
    intro d h3 h4
    have := mul_b (a := P 10) (b := d) (A := 100) (B := 15) (by have := h.B; omega) ⟨h3, h4⟩
    have h5 := Int.mul_nonneg h.B.2.2.2.2.2.1 h3
    omega
  unfold ghoO
  split
  · exact h3 _ (by omega) (by omega)
  · exact h3 _ (by omega) (by omega)
/-- how many ghosts of a strength at least, among the first k cells -/
noncomputable def ghsF (P : Int → Int) (least : Int) : Nat → Int
  | 0 => 0
  | k + 1 => ghsF P least k + bI (least ≤ ghoO P ((k : Int) % P 0) ((k : Int) / P 0))
noncomputable def ghsO (P : Int → Int) (least : Int) : Int := ghsF P least (P 0 * P 1).toNat
noncomputable def gsmF (P : Int → Int) (row : Int) : Nat → Int
  | 0 => 0
  | k + 1 => gsmF P row k + ghoO P (k : Int) row
noncomputable def gsmO (P : Int → Int) (row : Int) : Int := gsmF P row (P 0).toNat
theorem gsmF_b {T : Int} {P : Int → Int} (h : PWF T P) (row : Int) : ∀ k : Nat, 0 ≤ gsmF P row k ∧ gsmF P row k ≤ 15 * (k : Int) := by
  intro k
  induction k with
  | zero => simp [gsmF]
  | succ k ih =>
    have := ghoO_b h (k : Int) row
    simp only [gsmF]
    omega
theorem ghsF_b (P : Int → Int) (least : Int) : ∀ k : Nat, 0 ≤ ghsF P least k ∧ ghsF P least k ≤ (k : Int) := by
  intro k
  induction k with
  | zero => simp [ghsF]
  | succ k ih =>
    have := bI_01 (least ≤ ghoO P ((k : Int) % P 0) ((k : Int) / P 0))
    simp only [ghsF]
    omega
/-! values -/
def chiF (P : Int → Int) (n : Int) : Nat → Int
  | 0 => 0
  | k + 1 => chiF P n k + (if nd P (k : Int) 0 = n then 1 else 0)
def chiO (P : Int → Int) (n : Int) : Int := chiF P n (P 2).toNat
theorem chiF_b (P : Int → Int) (n : Int) : ∀ k : Nat, 0 ≤ chiF P n k ∧ chiF P n k ≤ (k : Int) := by
  intro k
  induction k with
  | zero => simp [chiF]
  | succ k ih => simp only [chiF]; split <;> omega
noncomputable def boxV (P : Int → Int) (n what : Int) : Int := if what = 9 then nd P n 4 else if what = 10 then nd P n 5 else if what = 11 then nd P n 6 else if what = 12 then rawO P n else if what = 13 then shO P n else colN P n (what = 14)
noncomputable def nodV (P : Int → Int) (n what : Int) : Int := if what = 0 then nd P n 0 else if what = 1 then nd P n 1 else if what = 2 then nd P n 2 else if what = 3 then nd P n 3 else if what = 4 then sumO P n 1 else if what = 5 then sumO P n 2 else if what = 6 then sumO P n 3 else if what = 7 then depO P n else if what = 8 then chiO P n else if 0 < nd P n 4 then boxV P n what else -1000
def scnV (P : Int → Int) (s what : Int) : Int := if what = 3 then begO P s else sc P s what
noncomputable def titV (P : Int → Int) (what : Int) : Int := if P 13 = 0 ∨ (2 < what ∧ trO P = -1) then -1000 else if what = 0 then P 11 else if what = 1 then P 12 else if what = 2 then P 13 else if what = 3 then trO P else if what = 4 then tsO P else colO (P 11) (tsO P) (what = 5)
noncomputable def whoV (P : Int → Int) (what : Int) : Int := if what = 0 then P 0 else if what = 1 then P 1 else if what = 2 then P 2 else if what = 3 then cntO P else if what = 4 then P 3 else if what = 5 then P 4 else if what = 6 then nowO P else if what = 7 then P 5 else if what = 8 then P 6 else if what = 9 then pctO P (P 5) (P 6) else if what = 10 then mlO P else if what = 11 then mrO P else P (what - 5)
theorem rawOq_b {T : Int} {P : Int → Int} (h : PWF T P) {n q : Int} (hn : okN P n) (hq : 0 ≤ q ∧ q ≤ 100) : -420000 ≤ rawO P n * q ∧ rawO P n * q ≤ 420000 := rawq_b h hn h.B.2.2.1 hq
/-- a condition, and one for each number below n -/
def alT (A : Prop) (p : Int → Prop) (n : Int) : Prop := A ∧ ∀ j : Int, 0 ≤ j → j < n → p j
theorem alT_0 {A : Prop} {p : Int → Prop} : alT A p 0 ↔ A := ⟨fun h => h.1, fun h => ⟨h, fun j h0 h1 => by omega⟩⟩
theorem alT_s {A : Prop} {p : Int → Prop} {n : Int} (h : 0 ≤ n) : alT A p (n + 1) ↔ alT A p n ∧ p n := by
  constructor
  · intro hf
    exact ⟨⟨hf.1, fun j h0 h1 => hf.2 j h0 (by omega)⟩, hf.2 n h (by omega)⟩
  · intro hf
    refine ⟨hf.1.1, fun j h0 h1 => ?_⟩
    by_cases hj : j = n
    · subst hj; exact hf.2
    · exact hf.1.2 j h0 (by omega)
