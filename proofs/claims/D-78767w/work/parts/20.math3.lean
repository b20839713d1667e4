/-! pages whose nodes agree; a page without a node -/
set_option maxRecDepth 100000
def agN (P Q : Int → Int) : Prop := Q 2 = P 2 ∧ ∀ b : Int, 14 ≤ b → b < 174 → Q b = P b
theorem agN.nd {P Q : Int → Int} (h : agN P Q) {n k : Int} (h0 : 0 ≤ n) (h1 : n < 20) (k0 : 0 ≤ k) (k1 : k < 8) : nd Q n k = nd P n k := h.2 _ (by omega) (by omega)
theorem agN.smF {T : Int} {P Q : Int → Int} (h : agN P Q) (hw : PWF T P) {k : Int} (k0 : 0 ≤ k) (k1 : k < 8) : ∀ (f : Nat) (n : Int), okN P n → sumF Q k f n = sumF P k f n := by
  intro f
  induction f with
  | zero => intro n _; rfl
  | succ f ih =>
    intro n hn
    unfold sumF
    by_cases e : n = -1000
    · rw [if_pos e, if_pos e]
    · have hn' := hn.resolve_left e
      have hA := hw.A
      rw [if_neg e, if_neg e, h.nd hn'.1 (by omega) k0 k1, h.nd hn'.1 (by omega) (by decide) (by decide), ih _ (okN.parent hw hn'.1 hn'.2)]
theorem agN.sum {T : Int} {P Q : Int → Int} (h : agN P Q) (hw : PWF T P) {k n : Int} (k0 : 0 ≤ k) (k1 : k < 8) (hn : okN P n) : sumO Q n k = sumO P n k := h.smF hw k0 k1 21 n hn
theorem agN.fits {T : Int} {P Q : Int → Int} (h : agN P Q) (hw : PWF T P) (g q lo hi : Int) : fitsG Q g q lo hi ↔ fitsG P g q lo hi := by
  have hA := hw.A
  unfold fitsG
  constructor
  · intro H n h0 h1 hb
    have := H n h0 (by rw [h.1]; exact h1) (by rw [h.nd h0 (by omega) (by decide) (by decide)]; exact hb)
    rwa [h.sum hw (by decide) (by decide) (Or.inr ⟨h0, h1⟩)] at this
  · intro H n h0 h1 hb
    rw [h.1] at h1
    rw [h.nd h0 (by omega) (by decide) (by decide)] at hb
    rw [h.sum hw (by decide) (by decide) (Or.inr ⟨h0, h1⟩)]
    exact H n h0 h1 hb
theorem agN.plc {T : Int} {st : Ms} {Q : Int → Int} (h : agN (st 0) Q) (hw : PWF T (st 0)) (hp : PLC st) : PLC (sp st Q) := by
  intro n h0 h1
  rw [sp_0] at h1 ⊢
  rw [h.1] at h1
  rw [sp_k _ _ (by decide), sp_k _ _ (by decide), sp_k _ _ (by decide), h.sum hw (by decide) (by decide) (Or.inr ⟨h0, h1⟩), h.sum hw (by decide) (by decide) (Or.inr ⟨h0, h1⟩), h.sum hw (by decide) (by decide) (Or.inr ⟨h0, h1⟩)]
  exact hp n h0 h1
theorem upz_u {f : Int → Int} {k a b : Int} : upz (upz f k a) k b = upz f k b := by
  funext j
  unfold upz
  by_cases h : j = k
  · rw [if_pos h, if_pos h]
  · rw [if_neg h, if_neg h, if_neg h]
theorem upz_self {f : Int → Int} {k : Int} : upz f k (f k) = f := by
  funext j
  unfold upz
  by_cases h : j = k
  · rw [if_pos h, h]
  · rw [if_neg h]
theorem agN_gain (P : Int → Int) (v : Int) : agN P (upz P 7 v) := ⟨upz_n (by decide), fun b h0 h1 => upz_n (by omega)⟩
theorem PWF.gain {T : Int} {P : Int → Int} (h : PWF T P) {v : Int} (hv : 0 ≤ v ∧ v ≤ 100) : PWF T (upz P 7 v) := by
  have ea := agN_gain P v
  have hA := h.A
  have hB := h.B
  refine ⟨?_, ?_, ?_, ?_, ?_⟩
  · rw [upz_n (by decide), upz_n (by decide), upz_n (by decide), upz_n (by decide), upz_n (by decide)]; exact h.A
  · rw [upz_s, upz_n (by decide), upz_n (by decide), upz_n (by decide), upz_n (by decide), upz_n (by decide)]; exact ⟨hB.1, hB.2.1, hv, hB.2.2.2⟩
  · rw [upz_n (by decide), upz_n (by decide), upz_n (by decide)]; exact h.C
  · intro n h0 h1
    rw [ea.1] at h1
    have hN := h.N h0 h1
    rw [ea.nd h0 (by omega) (by decide) (by decide), ea.nd h0 (by omega) (by decide) (by decide), ea.nd h0 (by omega) (by decide) (by decide), ea.nd h0 (by omega) (by decide) (by decide), ea.nd h0 (by omega) (by decide) (by decide), ea.nd h0 (by omega) (by decide) (by decide), ea.nd h0 (by omega) (by decide) (by decide)]
    rcases hN.1 with q | q
    · exact ⟨Or.inl q, hN.2⟩
    · rw [ea.nd q.1 (by omega) (by decide) (by decide)]
      exact hN
  · intro s h0 h1
    rw [upz_n (by decide)] at h1
    have e : ∀ k : Int, 0 ≤ k → sc (upz P 7 v) s k = sc P s k := fun k hk => upz_n (by omega)
    rw [e 0 (by decide), e 1 (by decide), e 2 (by decide)]
    exact h.S h0 h1
theorem tickO_k {P : Int → Int} {b : Int} (h4 : b ≠ 4) (h5 : b ≠ 5) (h6 : b ≠ 6) : tickO P b = P b := by
  unfold tickO
  split
  · exact upz_n h4
  · rw [upz_n h6, upz_n h5, upz_n h4]
theorem ticksO_k {P : Int → Int} {b : Int} (h4 : b ≠ 4) (h5 : b ≠ 5) (h6 : b ≠ 6) : ∀ k : Nat, ticksO P k b = P b
  | 0 => rfl
  | k + 1 => by
    simp only [ticksO]
    rw [tickO_k h4 h5 h6]
    exact ticksO_k h4 h5 h6 k
theorem agN_ticks (P : Int → Int) (k : Nat) : agN P (ticksO P k) := ⟨ticksO_k (by decide) (by decide) (by decide) k, fun b h0 h1 => ticksO_k (by omega) (by omega) (by omega) k⟩
def fulP (P : Int → Int) (t : Int) : Prop := fitsG P (P 7) 100 (ticksO P t.toNat 5) (ticksO P t.toNat 6)
/-- the first number of ticks, at most n, after which all shifts fit in full; -1000 -/
noncomputable def fulO (P : Int → Int) (n : Int) : Int := if upF (fulP P) (n + 1).toNat 0 = -1 then -1000 else upF (fulP P) (n + 1).toNat 0
/-! the page without the node x -/
theorem lfF_y {P : Int → Int} {x : Int} {k : Nat} (h : wiO P (k : Int) x) : lfF P x (k + 1) = lfF P x k := by simp only [lfF]; exact pI_t h
theorem lfF_n {P : Int → Int} {x : Int} {k : Nat} (h : ¬ wiO P (k : Int) x) : lfF P x (k + 1) = lfF P x k + 1 := by simp only [lfF]; exact pI_f h
theorem lfF_step (P : Int → Int) (x : Int) (k : Nat) : lfF P x k ≤ lfF P x (k + 1) := by
  by_cases h : wiO P (k : Int) x
  · rw [lfF_y h]; omega
  · rw [lfF_n h]; omega
theorem lfF_mono (P : Int → Int) (x : Int) (a : Nat) : ∀ d : Nat, lfF P x a ≤ lfF P x (a + d)
  | 0 => by simp
  | d + 1 => Int.le_trans (lfF_mono P x a d) (lfF_step P x (a + d))
theorem lfF_lt {P : Int → Int} {x : Int} {a b : Nat} (h : a < b) (hn : ¬ wiO P (a : Int) x) : lfF P x a < lfF P x b := by
  have h1 := lfF_mono P x (a + 1) (b - (a + 1))
  rw [show a + 1 + (b - (a + 1)) = b by omega, lfF_n hn] at h1
  omega
theorem lfF_onto (P : Int → Int) (x : Int) : ∀ (K : Nat) (q : Int), 0 ≤ q → q < lfF P x K → ∃ k : Nat, k < K ∧ ¬ wiO P (k : Int) x ∧ lfF P x k = q := by
  intro K
  induction K with
  | zero => intro q h0 h1; simp [lfF] at h1; omega
  | succ K ih =>
    intro q h0 h1
    by_cases h : wiO P (K : Int) x
    · rw [lfF_y h] at h1
      obtain ⟨k, h2, h3⟩ := ih q h0 h1
      exact ⟨k, by omega, h3⟩
    · rw [lfF_n h] at h1
      by_cases hq : q = lfF P x K
      · exact ⟨K, by omega, h, hq.symm⟩
      · obtain ⟨k, h2, h3⟩ := ih q h0 (by omega)
        exact ⟨k, by omega, h3⟩
theorem rmF_kept (P : Int → Int) (x : Int) : ∀ (K k : Nat), k < K → ¬ wiO P (k : Int) x → ∀ i : Int, 0 ≤ i → i < 8 → rmF P x K (14 + 8 * lfF P x k + i) = if i = 0 then (if nd P (k : Int) 0 = -1000 then -1000 else nnO P x (nd P (k : Int) 0)) else nd P (k : Int) i := by
  intro K
  induction K with
  | zero => intro k hk; omega
  | succ K ih =>
    intro k hk hn i h0 h1
    have e : ((K : Int) + 1).toNat = K + 1 := by omega
    by_cases hw : wiO P (K : Int) x
    · have h2 := rmF_y (P := P) (x := x) (k := (K : Int)) (by omega) hw
      rw [e] at h2
      rw [h2, show ((K : Int)).toNat = K by omega]
      have hk2 : k ≠ K := fun q => hn (q ▸ hw)
      exact ih k (by omega) hn i h0 h1
    · have h2 := rmF_n (P := P) (x := x) (k := (K : Int)) (by omega) hw
      rw [e] at h2
      rw [h2, show ((K : Int)).toNat = K by omega]
      by_cases hk2 : k = K
      · subst hk2
        by_cases hi : i = 0
        · subst hi
          rw [if_pos rfl, Int.add_zero, upz_s]
        · rw [if_neg hi, upz_n (by omega)]
          unfold rcp
          rw [if_pos (by omega)]
          unfold nd
          congr 1; omega
      · have h3 := lfF_lt (P := P) (x := x) (a := k) (b := K) (by omega) hn
        rw [upz_n (by omega)]
        unfold rcp
        rw [if_neg (by omega)]
        exact ih k (by omega) hn i h0 h1
theorem remP_kept {T : Int} {P : Int → Int} (h : PWF T P) {x k : Int} (h0 : 0 ≤ k) (h1 : k < P 2) (hn : ¬ wiO P k x) {i : Int} (i0 : 0 ≤ i) (i1 : i < 8) : nd (remP P x) (lfF P x k.toNat) i = if i = 0 then (if nd P k 0 = -1000 then -1000 else nnO P x (nd P k 0)) else nd P k i := by
  have e : ((k.toNat : Nat) : Int) = k := by omega
  have hl := lfF_b P x k.toNat
  have h2 := rmF_kept P x (P 2).toNat k.toNat (by omega) (by rw [e]; exact hn) i i0 i1
  rw [e] at h2
  unfold remP
  rw [← h2]
  exact upz_n (by omega)
theorem remP_2 (P : Int → Int) (x : Int) : remP P x 2 = lfF P x (P 2).toNat := upz_s
theorem remP_out {T : Int} {P : Int → Int} (h : PWF T P) {x b : Int} (hb : b ≠ 2) (h2 : b < 14 ∨ 174 ≤ b) : remP P x b = P b := by
  have hA := h.A
  unfold remP
  rw [upz_n hb]
  exact rmF_out P x _ b (by omega)
theorem kept_parent {T : Int} {P : Int → Int} (h : PWF T P) {x k : Int} (hx : 0 ≤ x) (h0 : 0 ≤ k) (h1 : k < P 2) (hn : ¬ wiO P k x) : nd P k 0 = -1000 ∨ (0 ≤ nd P k 0 ∧ nd P k 0 < k ∧ nd P (nd P k 0) 4 = 0 ∧ ¬ wiO P (nd P k 0) x ∧ nnO P x (nd P k 0) = lfF P x (nd P k 0).toNat ∧ lfF P x (nd P k 0).toNat < lfF P x k.toNat) := by
  rcases (h.N h0 h1).1 with q | q
  · exact Or.inl q
  · have hw : ¬ wiO P (nd P k 0) x := fun z => hn ((wiO_step h (by omega) h0 h1).mpr (Or.inr z))
    refine Or.inr ⟨q.1, q.2.1, q.2.2, hw, pI_f hw, lfF_lt (by omega) ?_⟩
    rw [show (((nd P k 0).toNat : Nat) : Int) = nd P k 0 by omega]
    exact hw
theorem PWF.rem {T : Int} {P : Int → Int} (h : PWF T P) {x : Int} (hx : 0 ≤ x) : PWF T (remP P x) := by
  have hA := h.A
  have hl := lfF_b P x (P 2).toNat
  have o : ∀ b : Int, b ≠ 2 → (b < 14 ∨ 174 ≤ b) → remP P x b = P b := fun b h1 h2 => remP_out h h1 h2
  refine ⟨?_, ?_, ?_, ?_, ?_⟩
  · rw [remP_2, o 0 (by decide) (by decide), o 1 (by decide) (by decide), o 3 (by decide) (by decide), o 4 (by decide) (by decide)]
    omega
  · rw [o 5 (by decide) (by decide), o 6 (by decide) (by decide), o 7 (by decide) (by decide), o 8 (by decide) (by decide), o 9 (by decide) (by decide), o 10 (by decide) (by decide)]
    exact h.B
  · rw [o 11 (by decide) (by decide), o 12 (by decide) (by decide), o 13 (by decide) (by decide)]
    exact h.C
  · intro q h0 h1
    rw [remP_2] at h1
    obtain ⟨k, hk, hn, hq⟩ := lfF_onto P x (P 2).toNat q h0 h1
    have hk1 : (k : Int) < P 2 := by omega
    have hN := h.N (n := (k : Int)) (by omega) hk1
    have hc : ∀ i : Int, 0 ≤ i → i < 8 → nd (remP P x) q i = if i = 0 then (if nd P (k : Int) 0 = -1000 then -1000 else nnO P x (nd P (k : Int) 0)) else nd P (k : Int) i := by
      intro i i0 i1
      have := remP_kept h (x := x) (k := (k : Int)) (by omega) hk1 hn i0 i1
      rw [show ((k : Int)).toNat = k by omega, hq] at this
      exact this
    rw [hc 0 (by decide) (by decide), hc 1 (by decide) (by decide), hc 2 (by decide) (by decide), hc 3 (by decide) (by decide), hc 4 (by decide) (by decide), hc 5 (by decide) (by decide), hc 6 (by decide) (by decide)]
    refine ⟨?_, hN.2⟩
    rw [if_pos rfl]
    rcases kept_parent h hx (by omega) hk1 hn with e | e
    · rw [if_pos e]; exact Or.inl rfl
    · rw [if_neg (by omega), e.2.2.2.2.1]
      have hlp := lfF_b P x (nd P (k : Int) 0).toNat
      have hp := remP_kept h (x := x) (k := nd P (k : Int) 0) e.1 (by omega) e.2.2.2.1 (i := 4) (by decide) (by decide)
      rw [hp, if_neg (by decide)]
      have hlt := e.2.2.2.2.2
      rw [show ((k : Int)).toNat = k by omega, hq] at hlt
      exact Or.inr ⟨hlp.1, hlt, e.2.2.1⟩
  · intro s h0 h1
    rw [o 3 (by decide) (by decide)] at h1
    have e : ∀ k : Int, 0 ≤ k → sc (remP P x) s k = sc P s k := fun k hk => o _ (by omega) (by omega)
    rw [e 0 (by decide), e 1 (by decide), e 2 (by decide)]
    exact h.S h0 h1
