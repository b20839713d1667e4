/-! pages that writers leave are pages that can come up; a command's page -/
set_option maxRecDepth 100000
/-- cells that may be set by themselves -/
def cellOK (b v : Int) : Prop := (b = 7 ∧ 0 ≤ v ∧ v ≤ 100) ∨ (b = 8 ∧ 1 ≤ v ∧ v ≤ 5) ∨ (b = 9 ∧ 0 ≤ v ∧ v ≤ 15) ∨ (b = 10 ∧ 0 ≤ v ∧ v ≤ 100) ∨ (b = 11 ∧ 0 ≤ v ∧ v ≤ 199) ∨ (b = 12 ∧ 0 ≤ v ∧ v ≤ 119) ∨ (b = 13 ∧ 0 ≤ v ∧ v ≤ 40) ∨ (∃ n k : Int, 0 ≤ n ∧ n < 20 ∧ b = 14 + 8 * n + k ∧ (((k = 1 ∨ k = 2 ∨ k = 3) ∧ -200 ≤ v ∧ v ≤ 200) ∨ (k = 6 ∧ 0 ≤ v ∧ v ≤ 15)))
theorem PWF.up1 {T : Int} {P : Int → Int} (h : PWF T P) {b v : Int} (hc : cellOK b v) : PWF T (upz P b v) := by
  have hA := h.A
  have hB := h.B
  have hC := h.C
  have hb : 7 ≤ b ∧ b < 174 := by
    rcases hc with q | q | q | q | q | q | q | ⟨n, k, q⟩ <;> omega
  have hx : ∀ c : Int, (c < 7 ∨ 174 ≤ c) → upz P b v c = P c := fun c hc => upz_n (by omega)
  have hu : ∀ c : Int, (upz P b v c = v ∧ c = b) ∨ (upz P b v c = P c ∧ c ≠ b) := by
    intro c
    by_cases e : c = b
    · subst e; exact Or.inl ⟨upz_s, rfl⟩
    · exact Or.inr ⟨upz_n e, e⟩
  refine ⟨?_, ?_, ?_, ?_, ?_⟩
  · rw [hx 0 (by decide), hx 1 (by decide), hx 2 (by decide), hx 3 (by decide), hx 4 (by decide)]; exact hA
  · rw [hx 5 (by decide), hx 6 (by decide)]
    have h7 := hu 7
    have h8 := hu 8
    have h9 := hu 9
    have h10 := hu 10
    rcases hc with q | q | q | q | q | q | q | ⟨n, k, q⟩ <;> omega
  · have h11 := hu 11
    have h12 := hu 12
    have h13 := hu 13
    rcases hc with q | q | q | q | q | q | q | ⟨n, k, q⟩ <;> omega
  · intro n h0 h1
    rw [hx 2 (by decide)] at h1
    have hN := h.N h0 h1
    have e : ∀ m k : Int, 0 ≤ m → (k = 0 ∨ k = 4 ∨ k = 5) → nd (upz P b v) m k = nd P m k := by
      intro m k hm hk
      have := hu (14 + 8 * m + k)
      unfold nd
      rcases hc with q | q | q | q | q | q | q | ⟨n', k', q⟩ <;> omega
    have e1 := hu (14 + 8 * n + 1)
    have e2 := hu (14 + 8 * n + 2)
    have e3 := hu (14 + 8 * n + 3)
    have e6 := hu (14 + 8 * n + 6)
    rw [e n 0 h0 (by omega), e n 4 h0 (by omega), e n 5 h0 (by omega)]
    refine ⟨?_, ?_, ?_, ?_, hN.2.2.2.2.1, hN.2.2.2.2.2.1, ?_⟩
    · rcases hN.1 with q | q
      · exact Or.inl q
      · rw [e _ 4 q.1 (by omega)]; exact Or.inr q
    · have := hN.2.1
      unfold nd at this ⊢
      rcases hc with q | q | q | q | q | q | q | ⟨n', k', q⟩ <;> omega
    · have := hN.2.2.1
      unfold nd at this ⊢
      rcases hc with q | q | q | q | q | q | q | ⟨n', k', q⟩ <;> omega
    · have := hN.2.2.2.1
      unfold nd at this ⊢
      rcases hc with q | q | q | q | q | q | q | ⟨n', k', q⟩ <;> omega
    · have := hN.2.2.2.2.2.2
      unfold nd at this ⊢
      rcases hc with q | q | q | q | q | q | q | ⟨n', k', q⟩ <;> omega
  · intro s h0 h1
    rw [hx 3 (by decide)] at h1
    have e : ∀ k : Int, 0 ≤ k → sc (upz P b v) s k = sc P s k := fun k hk => hx _ (by omega)
    rw [e 0 (by decide), e 1 (by decide), e 2 (by decide)]
    exact h.S h0 h1
theorem PWF.mov {T : Int} {P : Int → Int} (h : PWF T P) {n dx dy dz : Int} (hm : nMove P n dx dy dz = 0) : PWF T (movP P n dx dy dz) := by
  have hA := h.A
  have hc : (0 ≤ n ∧ n < P 2) ∧ (-200 ≤ dx ∧ dx ≤ 200) ∧ (-200 ≤ dy ∧ dy ≤ 200) ∧ (-200 ≤ dz ∧ dz ≤ 200) := by
    unfold nMove at hm
    split at hm
    · split at hm
      · rename_i h1 h2; exact ⟨h1, h2⟩
      · omega
    · omega
  unfold movP
  refine ((h.up1 ?_).up1 ?_).up1 ?_
  · exact Or.inr (Or.inr (Or.inr (Or.inr (Or.inr (Or.inr (Or.inr ⟨n, 1, by omega, by omega, rfl, by omega⟩))))))
  · exact Or.inr (Or.inr (Or.inr (Or.inr (Or.inr (Or.inr (Or.inr ⟨n, 2, by omega, by omega, rfl, by omega⟩))))))
  · exact Or.inr (Or.inr (Or.inr (Or.inr (Or.inr (Or.inr (Or.inr ⟨n, 3, by omega, by omega, rfl, by omega⟩))))))
theorem PWF.shd {T : Int} {P : Int → Int} (h : PWF T P) {n x : Int} (hm : nShd P n x = 0) : PWF T (shdP P n x) := by
  have hA := h.A
  have hc : (0 ≤ n ∧ n < P 2) ∧ 0 ≤ x ∧ x ≤ 15 := by
    unfold nShd at hm
    split at hm
    · split at hm <;> omega
    · omega
  exact h.up1 (Or.inr (Or.inr (Or.inr (Or.inr (Or.inr (Or.inr (Or.inr ⟨n, 6, by omega, by omega, rfl, by omega⟩)))))))
theorem PWF.set {T : Int} {P : Int → Int} (h : PWF T P) {w v : Int} (hm : nSet w v = 0) : PWF T (setP P w v) := by
  refine h.up1 ?_
  unfold nSet at hm
  unfold cellOK
  split at hm <;> omega
theorem PWF.ttl {T : Int} {P : Int → Int} (h : PWF T P) {a b t : Int} (hm : nTtl P a b t = 0 ∨ (a = 0 ∧ b = 0 ∧ t = 0)) : PWF T (ttlP P a b t) := by
  have hA := h.A
  have hc : (0 ≤ a ∧ a ≤ 199) ∧ (0 ≤ b ∧ b ≤ 119) ∧ 0 ≤ t ∧ t ≤ 40 := by
    rcases hm with hm | hm
    · unfold nTtl at hm
      split at hm <;> omega
    · omega
  unfold ttlP
  refine ((h.up1 ?_).up1 ?_).up1 ?_
  · unfold cellOK; omega
  · unfold cellOK; omega
  · unfold cellOK; omega
theorem PWF.anw {T : Int} {P : Int → Int} (h : PWF T P) {w v : Int} (hm : nBegin w v = 0) (hT : 0 ≤ T) : PWF T (anwP P w v) := by
  have hc : (20 ≤ w ∧ w ≤ 200) ∧ 10 ≤ v ∧ v ≤ 120 := by
    unfold nBegin at hm
    split at hm <;> omega
  have hB := h.B
  have hC := h.C
  have e : ∀ b c : Int, anwP P w v b = c → anwP P w v b = c := fun _ _ q => q
  refine ⟨?_, ?_, ?_, ?_, ?_⟩
  · rw [e 0 w rfl, e 1 v rfl, e 2 0 rfl, e 3 0 rfl, e 4 0 rfl]; omega
  · rw [e 5 (-5) rfl, e 6 5 rfl, e 7 (P 7) rfl, e 8 (P 8) rfl, e 9 (P 9) rfl, e 10 (P 10) rfl]; omega
  · rw [e 11 (P 11) rfl, e 12 (P 12) rfl, e 13 0 rfl]; omega
  · intro n h0 h1
    rw [e 2 0 rfl] at h1; omega
  · intro n h0 h1
    rw [e 3 0 rfl] at h1; omega
theorem PWF.scn {T : Int} {P : Int → Int} (h : PWF T P) {a b t : Int} (hm : nScn P a b t = 0) : PWF T (scnP P a b t) := by
  have hA := h.A
  have hc : ((-20 ≤ a ∧ a ≤ 0) ∧ (0 ≤ b ∧ b ≤ 20) ∧ 1 ≤ t ∧ t ≤ 50) ∧ P 3 ≠ 8 := by
    unfold nScn at hm
    split at hm
    · split at hm
      · omega
      · exact ⟨by assumption, by assumption⟩
    · omega
  have o : ∀ b' : Int, b' < 174 → b' ≠ 3 → scnP P a b t b' = P b' := by
    intro b' h1 h2
    unfold scnP
    rw [upz_n h2, upz_n (by omega), upz_n (by omega), upz_n (by omega)]
  have o3 : scnP P a b t 3 = P 3 + 1 := by unfold scnP; exact upz_s
  refine ⟨?_, ?_, ?_, ?_, ?_⟩
  · rw [o 0 (by decide) (by decide), o 1 (by decide) (by decide), o 2 (by decide) (by decide), o 4 (by decide) (by decide), o3]; omega
  · rw [o 5 (by decide) (by decide), o 6 (by decide) (by decide), o 7 (by decide) (by decide), o 8 (by decide) (by decide), o 9 (by decide) (by decide), o 10 (by decide) (by decide)]; exact h.B
  · rw [o 11 (by decide) (by decide), o 12 (by decide) (by decide), o 13 (by decide) (by decide)]; exact h.C
  · intro n h0 h1
    rw [o 2 (by decide) (by decide)] at h1
    have e : ∀ m k : Int, 0 ≤ m → m < 20 → 0 ≤ k → k < 8 → nd (scnP P a b t) m k = nd P m k := fun m k q0 q1 q2 q3 => o _ (by omega) (by omega)
    have hN := h.N h0 h1
    rw [e n 0 h0 (by omega) (by decide) (by decide), e n 1 h0 (by omega) (by decide) (by decide), e n 2 h0 (by omega) (by decide) (by decide), e n 3 h0 (by omega) (by decide) (by decide), e n 4 h0 (by omega) (by decide) (by decide), e n 5 h0 (by omega) (by decide) (by decide), e n 6 h0 (by omega) (by decide) (by decide)]
    rcases hN.1 with q | q
    · exact ⟨Or.inl q, hN.2⟩
    · rw [e _ 4 q.1 (by omega) (by decide) (by decide)]; exact hN
  · intro s h0 h1
    rw [o3] at h1
    by_cases hs : s = P 3
    · have e0 : sc (scnP P a b t) s 0 = a := by
        subst hs
        unfold sc scnP
        rw [upz_n (by omega), upz_n (by omega), upz_n (by omega), Int.add_zero]; exact upz_s
      have e1 : sc (scnP P a b t) s 1 = b := by
        subst hs
        unfold sc scnP
        rw [upz_n (by omega), upz_n (by omega)]; exact upz_s
      have e2 : sc (scnP P a b t) s 2 = t := by
        subst hs
        unfold sc scnP
        rw [upz_n (by omega)]; exact upz_s
      rw [e0, e1, e2]; exact hc.1
    · have e : ∀ k : Int, 0 ≤ k → k < 3 → sc (scnP P a b t) s k = sc P s k := by
        intro k q0 q1
        unfold sc scnP
        rw [upz_n (by omega), upz_n (by omega), upz_n (by omega), upz_n (by omega)]
      rw [e 0 (by decide) (by decide), e 1 (by decide) (by decide), e 2 (by decide) (by decide)]
      exact h.S h0 (by omega)
theorem addP_old {P : Int → Int} {pa dx dy dz w v m k : Int} (h0 : 0 ≤ m) (h1 : m < P 2) (k0 : 0 ≤ k) (k1 : k < 8) : nd (addP P pa dx dy dz w v) m k = nd P m k := by
  unfold nd addP
  rw [upz_n (by omega), upz_n (by omega), upz_n (by omega), upz_n (by omega), upz_n (by omega), upz_n (by omega), upz_n (by omega), upz_n (by omega)]
theorem addP_out {P : Int → Int} {pa dx dy dz w v b : Int} (hP : 0 ≤ P 2 ∧ P 2 < 20) (h : (b < 14 ∧ b ≠ 2) ∨ 174 ≤ b) : addP P pa dx dy dz w v b = P b := by
  unfold addP
  rw [upz_n (by omega), upz_n (by omega), upz_n (by omega), upz_n (by omega), upz_n (by omega), upz_n (by omega), upz_n (by omega), upz_n (by omega)]
theorem addP_new {P : Int → Int} {pa dx dy dz w v : Int} (hP : 0 ≤ P 2) : nd (addP P pa dx dy dz w v) (P 2) 0 = pa ∧ nd (addP P pa dx dy dz w v) (P 2) 1 = dx ∧ nd (addP P pa dx dy dz w v) (P 2) 2 = dy ∧ nd (addP P pa dx dy dz w v) (P 2) 3 = dz ∧ nd (addP P pa dx dy dz w v) (P 2) 4 = w ∧ nd (addP P pa dx dy dz w v) (P 2) 5 = v ∧ nd (addP P pa dx dy dz w v) (P 2) 6 = 8 := by
  unfold nd addP
  refine ⟨?_, ?_, ?_, ?_, ?_, ?_, ?_⟩
  · rw [Int.add_zero, upz_n (by omega), upz_n (by omega), upz_n (by omega), upz_n (by omega), upz_n (by omega), upz_n (by omega), upz_n (by omega), upz_s]
  · rw [upz_n (by omega), upz_n (by omega), upz_n (by omega), upz_n (by omega), upz_n (by omega), upz_n (by omega), upz_s]
  · rw [upz_n (by omega), upz_n (by omega), upz_n (by omega), upz_n (by omega), upz_n (by omega), upz_s]
  · rw [upz_n (by omega), upz_n (by omega), upz_n (by omega), upz_n (by omega), upz_s]
  · rw [upz_n (by omega), upz_n (by omega), upz_n (by omega), upz_s]
  · rw [upz_n (by omega), upz_n (by omega), upz_s]
  · rw [upz_n (by omega), upz_s]
theorem PWF.add {T : Int} {P : Int → Int} (h : PWF T P) {pa dx dy dz w v : Int} (hm : nAdd P pa dx dy dz = 0) (hs : (0 ≤ w ∧ w ≤ 100) ∧ 0 ≤ v ∧ v ≤ 100) : PWF T (addP P pa dx dy dz w v) := by
  have hA := h.A
  have hor := nAdd_or P pa dx dy dz
  have hP : 0 ≤ P 2 ∧ P 2 < 20 := by omega
  have o : ∀ b : Int, ((b < 14 ∧ b ≠ 2) ∨ 174 ≤ b) → addP P pa dx dy dz w v b = P b := fun b q => addP_out hP q
  have o2 : addP P pa dx dy dz w v 2 = P 2 + 1 := by unfold addP; exact upz_s
  refine ⟨?_, ?_, ?_, ?_, ?_⟩
  · rw [o 0 (by decide), o 1 (by decide), o 3 (by decide), o 4 (by decide), o2]; omega
  · rw [o 5 (by decide), o 6 (by decide), o 7 (by decide), o 8 (by decide), o 9 (by decide), o 10 (by decide)]; exact h.B
  · rw [o 11 (by decide), o 12 (by decide), o 13 (by decide)]; exact h.C
  · intro n h0 h1
    rw [o2] at h1
    by_cases hn : n = P 2
    · have ne := addP_new (P := P) (pa := pa) (dx := dx) (dy := dy) (dz := dz) (w := w) (v := v) hP.1
      rw [hn, ne.1, ne.2.1, ne.2.2.1, ne.2.2.2.1, ne.2.2.2.2.1, ne.2.2.2.2.2.1, ne.2.2.2.2.2.2]
      refine ⟨?_, by omega, by omega, by omega, hs.1, hs.2, by decide⟩
      by_cases hpa : pa = -1000
      · exact Or.inl hpa
      · have hp2 : 0 ≤ pa ∧ pa < P 2 := by omega
        have hNp := h.N hp2.1 hp2.2
        rw [addP_old hp2.1 hp2.2 (by decide) (by decide)]
        exact Or.inr ⟨hp2.1, hp2.2, by omega⟩
    · have h2 : n < P 2 := by omega
      have hN := h.N h0 h2
      rw [addP_old h0 h2 (by decide) (by decide), addP_old h0 h2 (by decide) (by decide), addP_old h0 h2 (by decide) (by decide), addP_old h0 h2 (by decide) (by decide), addP_old h0 h2 (by decide) (by decide), addP_old h0 h2 (by decide) (by decide), addP_old h0 h2 (by decide) (by decide)]
      rcases hN.1 with q | q
      · exact ⟨Or.inl q, hN.2⟩
      · rw [addP_old q.1 (by omega) (by decide) (by decide)]; exact hN
  · intro s h0 h1
    rw [o 3 (by decide)] at h1
    have e : ∀ k : Int, 0 ≤ k → sc (addP P pa dx dy dz w v) s k = sc P s k := fun k hk => o _ (by omega)
    rw [e 0 (by decide), e 1 (by decide), e 2 (by decide)]
    exact h.S h0 h1
/-! commands -/
noncomputable def whyO (P : Int → Int) (c : Int) (nm : Int → Int) : Int := if c = 0 then nBegin (nm 0) (nm 1) else if c = 1 then nAdd P (-1000) (nm 0) (nm 1) (nm 2) else if c = 2 then nBox P (nm 0) (nm 1) (nm 2) (nm 3) (nm 4) (nm 5) else if c = 3 then nMove P (nm 0) (nm 1) (nm 2) (-(nm 3)) else if c = 4 then nScn P (-(nm 0)) (nm 1) (nm 2) else if c = 5 then nSet (nm 0) (nm 1) else if c = 6 then nTtl P (nm 0) (nm 1) (nm 2) else if c = 7 then nRem P (nm 0) else nTick (nm 0)
noncomputable def exP (P : Int → Int) (c : Int) (nm : Int → Int) : Int → Int := if c = 0 then anwP P (nm 0) (nm 1) else if c = 1 then addP P (-1000) (nm 0) (nm 1) (nm 2) 0 0 else if c = 2 then addP P (nm 0) (nm 1) (nm 2) (nm 3) (nm 4) (nm 5) else if c = 3 then movP P (nm 0) (nm 1) (nm 2) (-(nm 3)) else if c = 4 then scnP P (-(nm 0)) (nm 1) (nm 2) else if c = 5 then setP P (nm 0) (nm 1) else if c = 6 then ttlP P (nm 0) (nm 1) (nm 2) else if c = 7 then remP P (nm 0) else ticksO P (nm 0).toNat
theorem nBox_0 {P : Int → Int} {pa dx dy dz w v : Int} (h : nBox P pa dx dy dz w v = 0) : nAdd P pa dx dy dz = 0 ∧ (1 ≤ w ∧ w ≤ 100) ∧ 1 ≤ v ∧ v ≤ 100 := by
  unfold nBox at h
  split at h
  · omega
  · rename_i q
    refine ⟨h, ?_⟩
    rw [h] at q
    omega
theorem PWF.ex {T : Int} {P : Int → Int} (h : PWF T P) {c : Int} {nm : Int → Int} (hy : whyO P c nm = 0) (hT : 0 ≤ T) : PWF (T + 200) (exP P c nm) := by
  unfold whyO at hy
  unfold exP
  by_cases h0 : c = 0
  · rw [if_pos h0] at hy ⊢; exact (h.anw hy hT).mono (by omega)
  rw [if_neg h0] at hy ⊢
  by_cases h1 : c = 1
  · rw [if_pos h1] at hy ⊢; exact (h.add hy ⟨by decide, by decide⟩).mono (by omega)
  rw [if_neg h1] at hy ⊢
  by_cases h2 : c = 2
  · rw [if_pos h2] at hy ⊢
    have := nBox_0 hy
    exact (h.add this.1 (by omega)).mono (by omega)
  rw [if_neg h2] at hy ⊢
  by_cases h3 : c = 3
  · rw [if_pos h3] at hy ⊢; exact (h.mov hy).mono (by omega)
  rw [if_neg h3] at hy ⊢
  by_cases h4 : c = 4
  · rw [if_pos h4] at hy ⊢; exact (h.scn hy).mono (by omega)
  rw [if_neg h4] at hy ⊢
  by_cases h5 : c = 5
  · rw [if_pos h5] at hy ⊢; exact (h.set hy).mono (by omega)
  rw [if_neg h5] at hy ⊢
  by_cases h6 : c = 6
  · rw [if_pos h6] at hy ⊢; exact (h.ttl (Or.inl hy)).mono (by omega)
  rw [if_neg h6] at hy ⊢
  by_cases h7 : c = 7
  · rw [if_pos h7] at hy ⊢
    refine (h.rem ?_).mono (by omega)
    unfold nRem at hy
    split at hy <;> omega
  rw [if_neg h7] at hy ⊢
  refine (h.ticks (nm 0).toNat).mono ?_
  unfold nTick at hy
  split at hy <;> omega
theorem whyO_c {P : Int → Int} {c : Int} {f g : Int → Int} (h : ∀ j : Int, 0 ≤ j → j < manO c → f j = g j) (hc : 0 ≤ c ∧ c ≤ 8) : whyO P c f = whyO P c g := by
  rcases (by omega : c = 0 ∨ c = 1 ∨ c = 2 ∨ c = 3 ∨ c = 4 ∨ c = 5 ∨ c = 6 ∨ c = 7 ∨ c = 8) with q | q | q | q | q | q | q | q | q <;> subst q <;> unfold whyO
  · rw [h 0 (by decide) (by decide), h 1 (by decide) (by decide)]; try rfl
  · rw [h 0 (by decide) (by decide), h 1 (by decide) (by decide), h 2 (by decide) (by decide)]; try rfl
  · rw [h 0 (by decide) (by decide), h 1 (by decide) (by decide), h 2 (by decide) (by decide), h 3 (by decide) (by decide), h 4 (by decide) (by decide), h 5 (by decide) (by decide)]; try rfl
  · rw [h 0 (by decide) (by decide), h 1 (by decide) (by decide), h 2 (by decide) (by decide), h 3 (by decide) (by decide)]; try rfl
  · rw [h 0 (by decide) (by decide), h 1 (by decide) (by decide), h 2 (by decide) (by decide)]; try rfl
  · rw [h 0 (by decide) (by decide), h 1 (by decide) (by decide)]; try rfl
  · rw [h 0 (by decide) (by decide), h 1 (by decide) (by decide), h 2 (by decide) (by decide)]; try rfl
  · rw [h 0 (by decide) (by decide)]; try rfl
  · rw [h 0 (by decide) (by decide)]; try rfl
theorem exP_c {P : Int → Int} {c : Int} {f g : Int → Int} (h : ∀ j : Int, 0 ≤ j → j < manO c → f j = g j) (hc : 0 ≤ c ∧ c ≤ 8) : exP P c f = exP P c g := by
  rcases (by omega : c = 0 ∨ c = 1 ∨ c = 2 ∨ c = 3 ∨ c = 4 ∨ c = 5 ∨ c = 6 ∨ c = 7 ∨ c = 8) with q | q | q | q | q | q | q | q | q <;> subst q <;> unfold exP
  · rw [h 0 (by decide) (by decide), h 1 (by decide) (by decide)]; try rfl
  · rw [h 0 (by decide) (by decide), h 1 (by decide) (by decide), h 2 (by decide) (by decide)]; try rfl
  · rw [h 0 (by decide) (by decide), h 1 (by decide) (by decide), h 2 (by decide) (by decide), h 3 (by decide) (by decide), h 4 (by decide) (by decide), h 5 (by decide) (by decide)]; try rfl
  · rw [h 0 (by decide) (by decide), h 1 (by decide) (by decide), h 2 (by decide) (by decide), h 3 (by decide) (by decide)]; try rfl
  · rw [h 0 (by decide) (by decide), h 1 (by decide) (by decide), h 2 (by decide) (by decide)]; try rfl
  · rw [h 0 (by decide) (by decide), h 1 (by decide) (by decide)]; try rfl
  · rw [h 0 (by decide) (by decide), h 1 (by decide) (by decide), h 2 (by decide) (by decide)]; try rfl
  · rw [h 0 (by decide) (by decide)]; try rfl
  · rw [h 0 (by decide) (by decide)]; try rfl
/-- the numbers of a command at p -/
noncomputable def nmsO (t : Int → Int) (L p : Int) : Int → Int := fun j => nvO t L (leO t L p) j.toNat
/-- commands carried out from p, n before them: how many in all, and the page -/
noncomputable def rnF (t : Int → Int) (L : Int) : Nat → (Int → Int) → Int → Int → Int × (Int → Int)
  | 0, P, _, n => (n, P)
  | f + 1, P, p, n => if p < L ∧ (rcO t L p).1 = 1 then (if whyO P (wdO t L p) (nmsO t L p) = 0 then rnF t L f (exP P (wdO t L p) (nmsO t L p)) (skO t L (rcO t L p).2) (n + 1) else (n, P)) else (n, P)
noncomputable def rnO (t : Int → Int) (L : Int) (P : Int → Int) : Int × (Int → Int) := rnF t L 151 P (skO t L 0) 0
theorem rcO_wd {t : Int → Int} {L p : Int} (h : (rcO t L p).1 = 1) : 0 ≤ wdO t L p ∧ wdO t L p ≤ 8 := by
  have hb := wdO_b t L p
  rcases hb with q | q
  · rw [rcO_w q] at h
    exact absurd (show (0 : Int) = 1 from h) (by decide)
  · exact q
