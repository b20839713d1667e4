/-! THE SYSTEM's METHODS: the tree -/
set_option maxRecDepth 100000
theorem lw_U {own C owner : String} {idx : Nat} {x y : MethodName} {b : ByteArray} {L : Nat} {r : Option FieldType} (h1 : Cond.methodLink own idx x ∈ lw_all) (h2 : Cond.sameMethod x.cls owner x.name x.desc ∈ lw_all) (h3 : Cond.selects C x y ∈ lw_all) (h4 : Cond.instanceMethod y ∈ lw_all) (h5 : Cond.initialized y.cls ∈ lw_all) (h6 : Cond.code y b L r ∈ lw_all) : GoodIn lw_all (va_wsU own idx C owner x y (ws_ y b L r)) := by
  refine lw_app ?_ (lw_meth h6)
  intro w hw
  simp only [List.mem_cons, List.not_mem_nil, or_false] at hw
  rcases hw with e | e | e | e | e
  · rw [e]; exact h1
  · rw [e]; exact h2
  · rw [e]; exact h3
  · rw [e]; exact h4
  · rw [e]; exact h5
/-- the node that a node lies in -/
def paO (P : Int → Int) (f : Int → Nat) (n : Int) : Option Nat := if nd P n 0 = -1000 then none else some (f (nd P n 0))
/-- what the heap holds for a node -/
def ndB (P : Int → Int) (f : Int → Nat) (sh : Int → Int) (n : Int) : va_E := .inr (3, [.int (iI n), va_rf (paO P f n), .int (iI (nd P n 1)), .int (iI (nd P n 2)), .int (iI (nd P n 3)), .int (iI (nd P n 4)), .int (iI (nd P n 5)), .int (iI (nd P n 6)), .int (iI (sh n))])
def ndG (P : Int → Int) (f : Int → Nat) (n : Int) : va_E := .inr (4, [.int (iI n), va_rf (paO P f n), .int (iI (nd P n 1)), .int (iI (nd P n 2)), .int (iI (nd P n 3))])
/-- the tree of a page in the heap -/
def TRE (w : Wl) (t : Nat) (P : Int → Int) (f : Int → Nat) (sh : Int → Int) : Prop := ∀ n : Int, 0 ≤ n → n < P 2 → (0 < nd P n 4 → w (f n) = some (t, ndB P f sh n)) ∧ (¬ 0 < nd P n 4 → w (f n) = some (t, ndG P f n))
theorem paO_n {P : Int → Int} {f : Int → Nat} {n : Int} (h : nd P n 0 = -1000) : va_rf (paO P f n) = .null := by unfold paO; rw [if_pos h]; rfl
theorem paO_s {P : Int → Int} {f : Int → Nat} {n : Int} (h : nd P n 0 ≠ -1000) : va_rf (paO P f n) = .ref (f (nd P n 0)) := by unfold paO; rw [if_neg h]; rfl
theorem cwU_X4_x {R : Room} {s : State} {args : Array Value} {k : Nat} (hts : ∀ w ∈ lw_all, w.before args s = true) (hR1 : k + 1 ≤ R.frames) (hR2 : 8 + (1 + 11) + 96 * k ≤ R.locals) : va_CU R s args "EyeStage$Part" RX6 "EyeStage$Part" 23 ⟨"EyeStage$Group", "x", "()I"⟩ yX4_x cX4_x 1 (some .int) (ws_ yX4_x cX4_x 1 (some .int)) (rmL k 0 0) 0 0 0 :=
  va_cwU 0 hts (lw_U q1832 q1833 q1834 q1830 q131 q1831) rfl rfl rfl rfl (by decide +kernel) ⟨hR1, hR2⟩
set_option maxHeartbeats 4000000 in
theorem m_X4_x {E : jE} (l : Launch) {w : Wl} {t : Nat} {T : Int} {P : Int → Int} {f : Int → Nat} {sh : Int → Int} (h1 : PWF T P) (hT : TRE w t P f sh) : ∀ (k : Nat) (n : Int), 0 ≤ n → n < P 2 → n < (k : Int) → Met l yX4_x (ws_ yX4_x cX4_x 1 (some .int)) (rmL k 0 0) (va_Pc [.ref (f n)] (jP E w)) (jQi E (fun _ : Unit => w) (fun z _ => z = sumO P n 1)) 0 0 (jA E) := by
  intro k
  induction k with
  | zero => intro n h0 hn hk; omega
  | succ k ih =>
    intro n h0 hn hk
    have hN := h1.N h0 hn
    have hstep := sumO_step h1 1 h0 hn
    have hsb := sumO_b h1 (k := 1) (by omega) (okN.parent h1 h0 hn)
    have hcell := hT n h0 hn
    have hpar : nd P n 0 ≠ -1000 → (0 ≤ nd P n 0 ∧ nd P n 0 < n) ∧ w (f (nd P n 0)) = some (t, ndG P f (nd P n 0)) := by
      intro q
      have h4 := hN.1.resolve_left q
      exact ⟨⟨h4.1, h4.2.1⟩, (hT _ h4.1 (by omega)).2 (by omega)⟩
    by_cases hbx : 0 < nd P n 4
    · have hw := hcell.1 hbx
      refine j_metI (by decide) (Nat.le_of_ble_eq_true rfl) ?_
      intro p e s m args below meth c Q hx hb hml hown hnm hts hV hH hret ls hl
      have hl : lv_has ls 1 [(0, .ref (f n))] := hl
      refine lv_aload_n hx hb dX4_x_0 rfl (lv_at hl 0 rfl) ?_
      refine j_get hx hb hts hown hV hH hw rfl in_X5 2 (Nat.le_of_ble_eq_true rfl) q416 (fun _ h => h) rfl dX4_x_1 ?_
      refine lv_aload_n hx hb dX4_x_4 rfl (lv_at hl 0 rfl) ?_
      refine j_get hx hb hts hown hV hH hw rfl in_X5 1 (Nat.le_of_ble_eq_true rfl) q413 (fun _ h => h) rfl dX4_x_5 ?_
      by_cases hp : nd P n 0 = -1000
      · rw [paO_n hp]
        refine lv_ifnonnullN hx hb dX4_x_8 ?_
        refine j_iconst hx hb dX4_x_11 ?_
        refine lv_goto (tgt := 22) hx hb dX4_x_12 (by decide) ?_
        refine j_iadd hx hb dX4_x_22 ?_
        exact hret () hH dX4_x_23 (Nat.le_of_ble_eq_true rfl) (Nat.le_of_ble_eq_true rfl) (by rw [hstep, hp, sumO_none])
      · have hp2 := hpar hp
        rw [paO_s hp]
        refine lv_ifnonnull (tgt := 15) hx hb dX4_x_8 (by decide) ?_
        refine lv_aload_n hx hb dX4_x_15 rfl (lv_at hl 0 rfl) ?_
        refine j_get hx hb hts hown hV hH hw rfl in_X5 1 (Nat.le_of_ble_eq_true rfl) q413 (fun _ h => h) rfl dX4_x_16 ?_
        rw [paO_s hp]
        refine j_callip (va_runU (As := []) (rest := [.int (iI (nd P n 1))]) ⟨hx, hb, hml, hown, hts⟩ (ih (nd P n 0) (by omega) (by omega) (by omega)) (cwU_X4_x hts (Nat.le_refl _) (by show 8 + (1 + 11) + 96 * k ≤ 96 * (k + 1); omega)) (j_preV hV hH hp2.2 rfl) rfl rfl hl.1 rfl (lv_room (Nat.le_of_ble_eq_true rfl)) dX4_x_19 ⟨Nat.le_of_ble_eq_true rfl, Nat.le_of_ble_eq_true rfl⟩) hH (fun H locs hH => ?_)
        refine j_iadd hx hb dX4_x_22 ?_
        exact hret () hH dX4_x_23 (Nat.le_of_ble_eq_true rfl) (Nat.le_of_ble_eq_true rfl) (by rw [hstep])
    · have hw := hcell.2 hbx
      refine j_metI (by decide) (Nat.le_of_ble_eq_true rfl) ?_
      intro p e s m args below meth c Q hx hb hml hown hnm hts hV hH hret ls hl
      have hl : lv_has ls 1 [(0, .ref (f n))] := hl
      refine lv_aload_n hx hb dX4_x_0 rfl (lv_at hl 0 rfl) ?_
      refine j_get hx hb hts hown hV hH hw rfl in_X6 2 (Nat.le_of_ble_eq_true rfl) q416 (fun _ h => h) rfl dX4_x_1 ?_
      refine lv_aload_n hx hb dX4_x_4 rfl (lv_at hl 0 rfl) ?_
      refine j_get hx hb hts hown hV hH hw rfl in_X6 1 (Nat.le_of_ble_eq_true rfl) q413 (fun _ h => h) rfl dX4_x_5 ?_
      by_cases hp : nd P n 0 = -1000
      · rw [paO_n hp]
        refine lv_ifnonnullN hx hb dX4_x_8 ?_
        refine j_iconst hx hb dX4_x_11 ?_
        refine lv_goto (tgt := 22) hx hb dX4_x_12 (by decide) ?_
        refine j_iadd hx hb dX4_x_22 ?_
        exact hret () hH dX4_x_23 (Nat.le_of_ble_eq_true rfl) (Nat.le_of_ble_eq_true rfl) (by rw [hstep, hp, sumO_none])
      · have hp2 := hpar hp
        rw [paO_s hp]
        refine lv_ifnonnull (tgt := 15) hx hb dX4_x_8 (by decide) ?_
        refine lv_aload_n hx hb dX4_x_15 rfl (lv_at hl 0 rfl) ?_
        refine j_get hx hb hts hown hV hH hw rfl in_X6 1 (Nat.le_of_ble_eq_true rfl) q413 (fun _ h => h) rfl dX4_x_16 ?_
        rw [paO_s hp]
        refine j_callip (va_runU (As := []) (rest := [.int (iI (nd P n 1))]) ⟨hx, hb, hml, hown, hts⟩ (ih (nd P n 0) (by omega) (by omega) (by omega)) (cwU_X4_x hts (Nat.le_refl _) (by show 8 + (1 + 11) + 96 * k ≤ 96 * (k + 1); omega)) (j_preV hV hH hp2.2 rfl) rfl rfl hl.1 rfl (lv_room (Nat.le_of_ble_eq_true rfl)) dX4_x_19 ⟨Nat.le_of_ble_eq_true rfl, Nat.le_of_ble_eq_true rfl⟩) hH (fun H locs hH => ?_)
        refine j_iadd hx hb dX4_x_22 ?_
        exact hret () hH dX4_x_23 (Nat.le_of_ble_eq_true rfl) (Nat.le_of_ble_eq_true rfl) (by rw [hstep])
theorem cwU_X4_y {R : Room} {s : State} {args : Array Value} {k : Nat} (hts : ∀ w ∈ lw_all, w.before args s = true) (hR1 : k + 1 ≤ R.frames) (hR2 : 8 + (1 + 11) + 96 * k ≤ R.locals) : va_CU R s args "EyeStage$Part" RX6 "EyeStage$Part" 29 ⟨"EyeStage$Group", "y", "()I"⟩ yX4_y cX4_y 1 (some .int) (ws_ yX4_y cX4_y 1 (some .int)) (rmL k 0 0) 0 0 0 :=
  va_cwU 0 hts (lw_U q1846 q1847 q1848 q1844 q131 q1845) rfl rfl rfl rfl (by decide +kernel) ⟨hR1, hR2⟩
set_option maxHeartbeats 4000000 in
theorem m_X4_y {E : jE} (l : Launch) {w : Wl} {t : Nat} {T : Int} {P : Int → Int} {f : Int → Nat} {sh : Int → Int} (h1 : PWF T P) (hT : TRE w t P f sh) : ∀ (k : Nat) (n : Int), 0 ≤ n → n < P 2 → n < (k : Int) → Met l yX4_y (ws_ yX4_y cX4_y 1 (some .int)) (rmL k 0 0) (va_Pc [.ref (f n)] (jP E w)) (jQi E (fun _ : Unit => w) (fun z _ => z = sumO P n 2)) 0 0 (jA E) := by
  intro k
  induction k with
  | zero => intro n h0 hn hk; omega
  | succ k ih =>
    intro n h0 hn hk
    have hN := h1.N h0 hn
    have hstep := sumO_step h1 2 h0 hn
    have hsb := sumO_b h1 (k := 2) (by omega) (okN.parent h1 h0 hn)
    have hcell := hT n h0 hn
    have hpar : nd P n 0 ≠ -1000 → (0 ≤ nd P n 0 ∧ nd P n 0 < n) ∧ w (f (nd P n 0)) = some (t, ndG P f (nd P n 0)) := by
      intro q
      have h4 := hN.1.resolve_left q
      exact ⟨⟨h4.1, h4.2.1⟩, (hT _ h4.1 (by omega)).2 (by omega)⟩
    by_cases hbx : 0 < nd P n 4
    · have hw := hcell.1 hbx
      refine j_metI (by decide) (Nat.le_of_ble_eq_true rfl) ?_
      intro p e s m args below meth c Q hx hb hml hown hnm hts hV hH hret ls hl
      have hl : lv_has ls 1 [(0, .ref (f n))] := hl
      refine lv_aload_n hx hb dX4_y_0 rfl (lv_at hl 0 rfl) ?_
      refine j_get hx hb hts hown hV hH hw rfl in_X5 3 (Nat.le_of_ble_eq_true rfl) q418 (fun _ h => h) rfl dX4_y_1 ?_
      refine lv_aload_n hx hb dX4_y_4 rfl (lv_at hl 0 rfl) ?_
      refine j_get hx hb hts hown hV hH hw rfl in_X5 1 (Nat.le_of_ble_eq_true rfl) q413 (fun _ h => h) rfl dX4_y_5 ?_
      by_cases hp : nd P n 0 = -1000
      · rw [paO_n hp]
        refine lv_ifnonnullN hx hb dX4_y_8 ?_
        refine j_iconst hx hb dX4_y_11 ?_
        refine lv_goto (tgt := 22) hx hb dX4_y_12 (by decide) ?_
        refine j_iadd hx hb dX4_y_22 ?_
        exact hret () hH dX4_y_23 (Nat.le_of_ble_eq_true rfl) (Nat.le_of_ble_eq_true rfl) (by rw [hstep, hp, sumO_none])
      · have hp2 := hpar hp
        rw [paO_s hp]
        refine lv_ifnonnull (tgt := 15) hx hb dX4_y_8 (by decide) ?_
        refine lv_aload_n hx hb dX4_y_15 rfl (lv_at hl 0 rfl) ?_
        refine j_get hx hb hts hown hV hH hw rfl in_X5 1 (Nat.le_of_ble_eq_true rfl) q413 (fun _ h => h) rfl dX4_y_16 ?_
        rw [paO_s hp]
        refine j_callip (va_runU (As := []) (rest := [.int (iI (nd P n 2))]) ⟨hx, hb, hml, hown, hts⟩ (ih (nd P n 0) (by omega) (by omega) (by omega)) (cwU_X4_y hts (Nat.le_refl _) (by show 8 + (1 + 11) + 96 * k ≤ 96 * (k + 1); omega)) (j_preV hV hH hp2.2 rfl) rfl rfl hl.1 rfl (lv_room (Nat.le_of_ble_eq_true rfl)) dX4_y_19 ⟨Nat.le_of_ble_eq_true rfl, Nat.le_of_ble_eq_true rfl⟩) hH (fun H locs hH => ?_)
        refine j_iadd hx hb dX4_y_22 ?_
        exact hret () hH dX4_y_23 (Nat.le_of_ble_eq_true rfl) (Nat.le_of_ble_eq_true rfl) (by rw [hstep])
    · have hw := hcell.2 hbx
      refine j_metI (by decide) (Nat.le_of_ble_eq_true rfl) ?_
      intro p e s m args below meth c Q hx hb hml hown hnm hts hV hH hret ls hl
      have hl : lv_has ls 1 [(0, .ref (f n))] := hl
      refine lv_aload_n hx hb dX4_y_0 rfl (lv_at hl 0 rfl) ?_
      refine j_get hx hb hts hown hV hH hw rfl in_X6 3 (Nat.le_of_ble_eq_true rfl) q418 (fun _ h => h) rfl dX4_y_1 ?_
      refine lv_aload_n hx hb dX4_y_4 rfl (lv_at hl 0 rfl) ?_
      refine j_get hx hb hts hown hV hH hw rfl in_X6 1 (Nat.le_of_ble_eq_true rfl) q413 (fun _ h => h) rfl dX4_y_5 ?_
      by_cases hp : nd P n 0 = -1000
      · rw [paO_n hp]
        refine lv_ifnonnullN hx hb dX4_y_8 ?_
        refine j_iconst hx hb dX4_y_11 ?_
        refine lv_goto (tgt := 22) hx hb dX4_y_12 (by decide) ?_
        refine j_iadd hx hb dX4_y_22 ?_
        exact hret () hH dX4_y_23 (Nat.le_of_ble_eq_true rfl) (Nat.le_of_ble_eq_true rfl) (by rw [hstep, hp, sumO_none])
      · have hp2 := hpar hp
        rw [paO_s hp]
        refine lv_ifnonnull (tgt := 15) hx hb dX4_y_8 (by decide) ?_
        refine lv_aload_n hx hb dX4_y_15 rfl (lv_at hl 0 rfl) ?_
        refine j_get hx hb hts hown hV hH hw rfl in_X6 1 (Nat.le_of_ble_eq_true rfl) q413 (fun _ h => h) rfl dX4_y_16 ?_
        rw [paO_s hp]
        refine j_callip (va_runU (As := []) (rest := [.int (iI (nd P n 2))]) ⟨hx, hb, hml, hown, hts⟩ (ih (nd P n 0) (by omega) (by omega) (by omega)) (cwU_X4_y hts (Nat.le_refl _) (by show 8 + (1 + 11) + 96 * k ≤ 96 * (k + 1); omega)) (j_preV hV hH hp2.2 rfl) rfl rfl hl.1 rfl (lv_room (Nat.le_of_ble_eq_true rfl)) dX4_y_19 ⟨Nat.le_of_ble_eq_true rfl, Nat.le_of_ble_eq_true rfl⟩) hH (fun H locs hH => ?_)
        refine j_iadd hx hb dX4_y_22 ?_
        exact hret () hH dX4_y_23 (Nat.le_of_ble_eq_true rfl) (Nat.le_of_ble_eq_true rfl) (by rw [hstep])
theorem cwU_X4_z {R : Room} {s : State} {args : Array Value} {k : Nat} (hts : ∀ w ∈ lw_all, w.before args s = true) (hR1 : k + 1 ≤ R.frames) (hR2 : 8 + (1 + 11) + 96 * k ≤ R.locals) : va_CU R s args "EyeStage$Part" RX6 "EyeStage$Part" 32 ⟨"EyeStage$Group", "z", "()I"⟩ yX4_z cX4_z 1 (some .int) (ws_ yX4_z cX4_z 1 (some .int)) (rmL k 0 0) 0 0 0 :=
  va_cwU 0 hts (lw_U q1020 q1021 q1023 q1015 q131 q1019) rfl rfl rfl rfl (by decide +kernel) ⟨hR1, hR2⟩
set_option maxHeartbeats 4000000 in
theorem m_X4_z {E : jE} (l : Launch) {w : Wl} {t : Nat} {T : Int} {P : Int → Int} {f : Int → Nat} {sh : Int → Int} (h1 : PWF T P) (hT : TRE w t P f sh) : ∀ (k : Nat) (n : Int), 0 ≤ n → n < P 2 → n < (k : Int) → Met l yX4_z (ws_ yX4_z cX4_z 1 (some .int)) (rmL k 0 0) (va_Pc [.ref (f n)] (jP E w)) (jQi E (fun _ : Unit => w) (fun z _ => z = sumO P n 3)) 0 0 (jA E) := by
  intro k
  induction k with
  | zero => intro n h0 hn hk; omega
  | succ k ih =>
    intro n h0 hn hk
    have hN := h1.N h0 hn
    have hstep := sumO_step h1 3 h0 hn
    have hsb := sumO_b h1 (k := 3) (by omega) (okN.parent h1 h0 hn)
    have hcell := hT n h0 hn
    have hpar : nd P n 0 ≠ -1000 → (0 ≤ nd P n 0 ∧ nd P n 0 < n) ∧ w (f (nd P n 0)) = some (t, ndG P f (nd P n 0)) := by
      intro q
      have h4 := hN.1.resolve_left q
      exact ⟨⟨h4.1, h4.2.1⟩, (hT _ h4.1 (by omega)).2 (by omega)⟩
    by_cases hbx : 0 < nd P n 4
    · have hw := hcell.1 hbx
      refine j_metI (by decide) (Nat.le_of_ble_eq_true rfl) ?_
      intro p e s m args below meth c Q hx hb hml hown hnm hts hV hH hret ls hl
      have hl : lv_has ls 1 [(0, .ref (f n))] := hl
      refine lv_aload_n hx hb dX4_z_0 rfl (lv_at hl 0 rfl) ?_
      refine j_get hx hb hts hown hV hH hw rfl in_X5 4 (Nat.le_of_ble_eq_true rfl) q420 (fun _ h => h) rfl dX4_z_1 ?_
      refine lv_aload_n hx hb dX4_z_4 rfl (lv_at hl 0 rfl) ?_
      refine j_get hx hb hts hown hV hH hw rfl in_X5 1 (Nat.le_of_ble_eq_true rfl) q413 (fun _ h => h) rfl dX4_z_5 ?_
      by_cases hp : nd P n 0 = -1000
      · rw [paO_n hp]
        refine lv_ifnonnullN hx hb dX4_z_8 ?_
        refine j_iconst hx hb dX4_z_11 ?_
        refine lv_goto (tgt := 22) hx hb dX4_z_12 (by decide) ?_
        refine j_iadd hx hb dX4_z_22 ?_
        exact hret () hH dX4_z_23 (Nat.le_of_ble_eq_true rfl) (Nat.le_of_ble_eq_true rfl) (by rw [hstep, hp, sumO_none])
      · have hp2 := hpar hp
        rw [paO_s hp]
        refine lv_ifnonnull (tgt := 15) hx hb dX4_z_8 (by decide) ?_
        refine lv_aload_n hx hb dX4_z_15 rfl (lv_at hl 0 rfl) ?_
        refine j_get hx hb hts hown hV hH hw rfl in_X5 1 (Nat.le_of_ble_eq_true rfl) q413 (fun _ h => h) rfl dX4_z_16 ?_
        rw [paO_s hp]
        refine j_callip (va_runU (As := []) (rest := [.int (iI (nd P n 3))]) ⟨hx, hb, hml, hown, hts⟩ (ih (nd P n 0) (by omega) (by omega) (by omega)) (cwU_X4_z hts (Nat.le_refl _) (by show 8 + (1 + 11) + 96 * k ≤ 96 * (k + 1); omega)) (j_preV hV hH hp2.2 rfl) rfl rfl hl.1 rfl (lv_room (Nat.le_of_ble_eq_true rfl)) dX4_z_19 ⟨Nat.le_of_ble_eq_true rfl, Nat.le_of_ble_eq_true rfl⟩) hH (fun H locs hH => ?_)
        refine j_iadd hx hb dX4_z_22 ?_
        exact hret () hH dX4_z_23 (Nat.le_of_ble_eq_true rfl) (Nat.le_of_ble_eq_true rfl) (by rw [hstep])
    · have hw := hcell.2 hbx
      refine j_metI (by decide) (Nat.le_of_ble_eq_true rfl) ?_
      intro p e s m args below meth c Q hx hb hml hown hnm hts hV hH hret ls hl
      have hl : lv_has ls 1 [(0, .ref (f n))] := hl
      refine lv_aload_n hx hb dX4_z_0 rfl (lv_at hl 0 rfl) ?_
      refine j_get hx hb hts hown hV hH hw rfl in_X6 4 (Nat.le_of_ble_eq_true rfl) q420 (fun _ h => h) rfl dX4_z_1 ?_
      refine lv_aload_n hx hb dX4_z_4 rfl (lv_at hl 0 rfl) ?_
      refine j_get hx hb hts hown hV hH hw rfl in_X6 1 (Nat.le_of_ble_eq_true rfl) q413 (fun _ h => h) rfl dX4_z_5 ?_
      by_cases hp : nd P n 0 = -1000
      · rw [paO_n hp]
        refine lv_ifnonnullN hx hb dX4_z_8 ?_
        refine j_iconst hx hb dX4_z_11 ?_
        refine lv_goto (tgt := 22) hx hb dX4_z_12 (by decide) ?_
        refine j_iadd hx hb dX4_z_22 ?_
        exact hret () hH dX4_z_23 (Nat.le_of_ble_eq_true rfl) (Nat.le_of_ble_eq_true rfl) (by rw [hstep, hp, sumO_none])
      · have hp2 := hpar hp
        rw [paO_s hp]
        refine lv_ifnonnull (tgt := 15) hx hb dX4_z_8 (by decide) ?_
        refine lv_aload_n hx hb dX4_z_15 rfl (lv_at hl 0 rfl) ?_
        refine j_get hx hb hts hown hV hH hw rfl in_X6 1 (Nat.le_of_ble_eq_true rfl) q413 (fun _ h => h) rfl dX4_z_16 ?_
        rw [paO_s hp]
        refine j_callip (va_runU (As := []) (rest := [.int (iI (nd P n 3))]) ⟨hx, hb, hml, hown, hts⟩ (ih (nd P n 0) (by omega) (by omega) (by omega)) (cwU_X4_z hts (Nat.le_refl _) (by show 8 + (1 + 11) + 96 * k ≤ 96 * (k + 1); omega)) (j_preV hV hH hp2.2 rfl) rfl rfl hl.1 rfl (lv_room (Nat.le_of_ble_eq_true rfl)) dX4_z_19 ⟨Nat.le_of_ble_eq_true rfl, Nat.le_of_ble_eq_true rfl⟩) hH (fun H locs hH => ?_)
        refine j_iadd hx hb dX4_z_22 ?_
        exact hret () hH dX4_z_23 (Nat.le_of_ble_eq_true rfl) (Nat.le_of_ble_eq_true rfl) (by rw [hstep])
theorem cwU_X4_groupsAround {R : Room} {s : State} {args : Array Value} {k : Nat} (hts : ∀ w ∈ lw_all, w.before args s = true) (hR1 : k + 1 ≤ R.frames) (hR2 : 8 + (1 + 11) + 96 * k ≤ R.locals) : va_CU R s args "EyeStage$Part" RX6 "EyeStage$Part" 35 ⟨"EyeStage$Group", "groupsAround", "()I"⟩ yX4_groupsAround cX4_groupsAround 1 (some .int) (ws_ yX4_groupsAround cX4_groupsAround 1 (some .int)) (rmL k 0 0) 0 0 0 :=
  va_cwU 0 hts (lw_U q1286 q1287 q1289 q1281 q131 q1285) rfl rfl rfl rfl (by decide +kernel) ⟨hR1, hR2⟩
set_option maxHeartbeats 4000000 in
theorem m_X4_groupsAround {E : jE} (l : Launch) {w : Wl} {t : Nat} {T : Int} {P : Int → Int} {f : Int → Nat} {sh : Int → Int} (h1 : PWF T P) (hT : TRE w t P f sh) : ∀ (k : Nat) (n : Int), 0 ≤ n → n < P 2 → n < (k : Int) → Met l yX4_groupsAround (ws_ yX4_groupsAround cX4_groupsAround 1 (some .int)) (rmL k 0 0) (va_Pc [.ref (f n)] (jP E w)) (jQi E (fun _ : Unit => w) (fun z _ => z = depO P n)) 0 0 (jA E) := by
  intro k
  induction k with
  | zero => intro n h0 hn hk; omega
  | succ k ih =>
    intro n h0 hn hk
    have hN := h1.N h0 hn
    have hstep := depO_step h1 h0 hn
    have hcell := hT n h0 hn
    have hpar : nd P n 0 ≠ -1000 → (0 ≤ nd P n 0 ∧ nd P n 0 < n) ∧ w (f (nd P n 0)) = some (t, ndG P f (nd P n 0)) := by
      intro q
      have h4 := hN.1.resolve_left q
      exact ⟨⟨h4.1, h4.2.1⟩, (hT _ h4.1 (by omega)).2 (by omega)⟩
    by_cases hbx : 0 < nd P n 4
    · have hw := hcell.1 hbx
      refine j_metI (by decide) (Nat.le_of_ble_eq_true rfl) ?_
      intro p e s m args below meth c Q hx hb hml hown hnm hts hV hH hret ls hl
      have hl : lv_has ls 1 [(0, .ref (f n))] := hl
      refine lv_aload_n hx hb dX4_groupsAround_0 rfl (lv_at hl 0 rfl) ?_
      refine j_get hx hb hts hown hV hH hw rfl in_X5 1 (Nat.le_of_ble_eq_true rfl) q413 (fun _ h => h) rfl dX4_groupsAround_1 ?_
      by_cases hp : nd P n 0 = -1000
      · rw [paO_n hp]
        refine lv_ifnonnullN hx hb dX4_groupsAround_4 ?_
        refine j_iconst hx hb dX4_groupsAround_7 ?_
        refine lv_goto (tgt := 20) hx hb dX4_groupsAround_8 (by decide) ?_
        exact hret () hH dX4_groupsAround_20 (Nat.le_of_ble_eq_true rfl) (Nat.le_of_ble_eq_true rfl) (by rw [hstep, if_pos hp])
      · have hp2 := hpar hp
        rw [paO_s hp]
        refine lv_ifnonnull (tgt := 11) hx hb dX4_groupsAround_4 (by decide) ?_
        refine j_iconst hx hb dX4_groupsAround_11 ?_
        refine lv_aload_n hx hb dX4_groupsAround_12 rfl (lv_at hl 0 rfl) ?_
        refine j_get hx hb hts hown hV hH hw rfl in_X5 1 (Nat.le_of_ble_eq_true rfl) q413 (fun _ h => h) rfl dX4_groupsAround_13 ?_
        rw [paO_s hp]
        refine j_callip (va_runU (As := []) (rest := [.int (iI 1)]) ⟨hx, hb, hml, hown, hts⟩ (ih (nd P n 0) (by omega) (by omega) (by omega)) (cwU_X4_groupsAround hts (Nat.le_refl _) (by show 8 + (1 + 11) + 96 * k ≤ 96 * (k + 1); omega)) (j_preV hV hH hp2.2 rfl) rfl rfl hl.1 rfl (lv_room (Nat.le_of_ble_eq_true rfl)) dX4_groupsAround_16 ⟨Nat.le_of_ble_eq_true rfl, Nat.le_of_ble_eq_true rfl⟩) hH (fun H locs hH => ?_)
        refine j_iadd hx hb dX4_groupsAround_19 ?_
        exact hret () hH dX4_groupsAround_20 (Nat.le_of_ble_eq_true rfl) (Nat.le_of_ble_eq_true rfl) (by rw [hstep, if_neg hp])
    · have hw := hcell.2 hbx
      refine j_metI (by decide) (Nat.le_of_ble_eq_true rfl) ?_
      intro p e s m args below meth c Q hx hb hml hown hnm hts hV hH hret ls hl
      have hl : lv_has ls 1 [(0, .ref (f n))] := hl
      refine lv_aload_n hx hb dX4_groupsAround_0 rfl (lv_at hl 0 rfl) ?_
      refine j_get hx hb hts hown hV hH hw rfl in_X6 1 (Nat.le_of_ble_eq_true rfl) q413 (fun _ h => h) rfl dX4_groupsAround_1 ?_
      by_cases hp : nd P n 0 = -1000
      · rw [paO_n hp]
        refine lv_ifnonnullN hx hb dX4_groupsAround_4 ?_
        refine j_iconst hx hb dX4_groupsAround_7 ?_
        refine lv_goto (tgt := 20) hx hb dX4_groupsAround_8 (by decide) ?_
        exact hret () hH dX4_groupsAround_20 (Nat.le_of_ble_eq_true rfl) (Nat.le_of_ble_eq_true rfl) (by rw [hstep, if_pos hp])
      · have hp2 := hpar hp
        rw [paO_s hp]
        refine lv_ifnonnull (tgt := 11) hx hb dX4_groupsAround_4 (by decide) ?_
        refine j_iconst hx hb dX4_groupsAround_11 ?_
        refine lv_aload_n hx hb dX4_groupsAround_12 rfl (lv_at hl 0 rfl) ?_
        refine j_get hx hb hts hown hV hH hw rfl in_X6 1 (Nat.le_of_ble_eq_true rfl) q413 (fun _ h => h) rfl dX4_groupsAround_13 ?_
        rw [paO_s hp]
        refine j_callip (va_runU (As := []) (rest := [.int (iI 1)]) ⟨hx, hb, hml, hown, hts⟩ (ih (nd P n 0) (by omega) (by omega) (by omega)) (cwU_X4_groupsAround hts (Nat.le_refl _) (by show 8 + (1 + 11) + 96 * k ≤ 96 * (k + 1); omega)) (j_preV hV hH hp2.2 rfl) rfl rfl hl.1 rfl (lv_room (Nat.le_of_ble_eq_true rfl)) dX4_groupsAround_16 ⟨Nat.le_of_ble_eq_true rfl, Nat.le_of_ble_eq_true rfl⟩) hH (fun H locs hH => ?_)
        refine j_iadd hx hb dX4_groupsAround_19 ?_
        exact hret () hH dX4_groupsAround_20 (Nat.le_of_ble_eq_true rfl) (Nat.le_of_ble_eq_true rfl) (by rw [hstep, if_neg hp])
