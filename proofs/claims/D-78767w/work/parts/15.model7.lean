/-! THE REFERENCE's METHODS: the public queries -/
set_option maxRecDepth 100000
def cdN (P : Int → Int) (n what : Int) : Int := if 0 ≤ n ∧ n < P 2 then if 0 ≤ what ∧ what ≤ 15 then 0 else 2 else 1
def cdB (a b x : Int) : Int := if a ≤ x ∧ x ≤ b then 0 else 1
def cdP (k : Int) : Int := if k < 0 then 1 else 0
def cdS (P : Int → Int) (n what : Int) : Int := if 0 ≤ n ∧ n < P 3 then if 0 ≤ what ∧ what ≤ 3 then 0 else 2 else 1
def cdC (P : Int → Int) (col row : Int) : Int := if (0 ≤ col ∧ col < P 0) ∧ 0 ≤ row ∧ row < P 1 then 0 else 1
def cdU (a b : Int) : Int := if (-20 ≤ a ∧ a ≤ 0) ∧ 0 ≤ b ∧ b ≤ 20 then 0 else 1
theorem cdN_or (P : Int → Int) (n what : Int) : (cdN P n what = 0 ∧ (0 ≤ n ∧ n < P 2) ∧ 0 ≤ what ∧ what ≤ 15) ∨ (cdN P n what = 1 ∧ ¬ (0 ≤ n ∧ n < P 2)) ∨ (cdN P n what = 2 ∧ (0 ≤ n ∧ n < P 2) ∧ ¬ (0 ≤ what ∧ what ≤ 15)) := by
  unfold cdN; split <;> (try split) <;> omega
theorem cdS_or (P : Int → Int) (n what : Int) : (cdS P n what = 0 ∧ (0 ≤ n ∧ n < P 3) ∧ 0 ≤ what ∧ what ≤ 3) ∨ (cdS P n what = 1 ∧ ¬ (0 ≤ n ∧ n < P 3)) ∨ (cdS P n what = 2 ∧ (0 ≤ n ∧ n < P 3) ∧ ¬ (0 ≤ what ∧ what ≤ 3)) := by
  unfold cdS; split <;> (try split) <;> omega
theorem cdB_or (a b x : Int) : (cdB a b x = 0 ∧ a ≤ x ∧ x ≤ b) ∨ (cdB a b x = 1 ∧ ¬ (a ≤ x ∧ x ≤ b)) := by
  unfold cdB; split <;> omega
theorem cdP_or (k : Int) : (cdP k = 0 ∧ 0 ≤ k) ∨ (cdP k = 1 ∧ k < 0) := by
  unfold cdP; split <;> omega
theorem cdC_or (P : Int → Int) (c r : Int) : (cdC P c r = 0 ∧ (0 ≤ c ∧ c < P 0) ∧ 0 ≤ r ∧ r < P 1) ∨ (cdC P c r = 1 ∧ ¬ ((0 ≤ c ∧ c < P 0) ∧ 0 ≤ r ∧ r < P 1)) := by
  unfold cdC; split <;> omega
theorem cdU_or (a b : Int) : (cdU a b = 0 ∧ (-20 ≤ a ∧ a ≤ 0) ∧ 0 ≤ b ∧ b ≤ 20) ∨ (cdU a b = 1 ∧ ¬ ((-20 ≤ a ∧ a ≤ 0) ∧ 0 ≤ b ∧ b ≤ 20)) := by
  unfold cdU; split <;> omega
theorem svO_self (st : Ms) : svO st st = st := svO_mk fun _ _ => rfl
theorem div_lt' {k a b : Int} (ha : 0 < a) (hk : 0 ≤ k) (h : k < a * b) : 0 ≤ k % a ∧ k % a < a ∧ 0 ≤ k / a ∧ k / a < b := ⟨Int.emod_nonneg _ (by omega), Int.emod_lt_of_pos _ ha, Int.ediv_nonneg hk (by omega), Int.ediv_lt_of_lt_mul ha (by rw [Int.mul_comm]; exact h)⟩
theorem cw_X3_ghostOf {R : Room} {s : State} {args : Array Value} {own : String} {index lev mc ms : Nat} (hts : ∀ w ∈ lw_all, w.before args s = true) (hl : Cond.methodLink own index yX3_ghostOf ∈ lw_all) (hR1 : (rmL lev mc ms).frames + 1 ≤ R.frames) (hR2 : 8 + (4 + 11) + (rmL lev mc ms).locals ≤ R.locals) : CallW R s args own RX3 index yX3_ghostOf cX3_ghostOf 4 (some .int) (ws_ yX3_ghostOf cX3_ghostOf 4 (some .int)) (rmL lev mc ms) mc ms 2 :=
  cwV 2 hts (lw_V hl q2602 qs94 q116 q2603) rfl rfl rfl (by decide +kernel) ⟨hR1, hR2⟩
set_option maxHeartbeats 4000000 in
theorem m_X3_ghostOf {E : jE} (l : Launch) (o : Nat) (st : Ms) (w0 : Wl) (T : Int) (col : Int) (row : Int) (h1 : PWF T (st 0)) (h2 : SVC st) (h3 : -1 ≤ col ∧ col ≤ 200) (h4 : -1 ≤ row ∧ row ≤ 200) : Met l yX3_ghostOf (ws_ yX3_ghostOf cX3_ghostOf 4 (some .int)) (rmL 6 0 0) (va_Pc [.ref o, .int (iI col), .int (iI row)] (jP E (wM E o st w0))) (jQi E (fun u : Ms => wM E o u w0) (fun z u => z = ghoO (st 0) col row ∧ u = st)) 0 0 (jA E) := by
  refine j_metI (by decide) (Nat.le_of_ble_eq_true rfl) ?_
  intro p e s m args below meth c Q hx hb hml hown hnm hts hV hH hret ls hl
  have hl : lv_has ls 4 [(0, .ref o), (1, .int (iI col)), (2, .int (iI row))] := hl
  have hA := h1.A
  have hB := h1.B
  have hC := h1.C
  obtain ⟨hPL, hSH, hOR, hMK, hTI, hPC⟩ := id h2
  have hsT := shadO_b h1 True col row
  have hsF := shadO_b h1 False col row
  refine lv_aload_n hx hb dX3_ghostOf_0 rfl (lv_at hl 0 rfl) ?_
  refine j_iconst hx hb dX3_ghostOf_1 ?_
  refine lv_iload_n hx hb dX3_ghostOf_2 rfl (lv_at hl 1 rfl) ?_
  refine lv_iload_n hx hb dX3_ghostOf_3 rfl (lv_at hl 2 rfl) ?_
  refine j_callif (va_runV (As := [.int (iI (bI True)), .int (iI col), .int (iI row)]) (rest := []) ⟨hx, hb, hml, hown, hts⟩ (m_X3_shadeOf l o st w0 _ True col row (h1) (h2) (by omega) (by omega)) (cw_X3_shadeOf hts q2580 (Nat.le_of_ble_eq_true rfl) (Nat.le_of_ble_eq_true rfl)) (j_preV hV hH wM_o rfl) rfl rfl hl.1 (by simp only [bI_T, bI_F]; rfl) (lv_room (Nat.le_of_ble_eq_true rfl)) dX3_ghostOf_4 ⟨Nat.le_of_ble_eq_true rfl, Nat.le_of_ble_eq_true rfl⟩) hH (fun H locs hH => ?_)
  refine lv_aload_n hx hb dX3_ghostOf_7 rfl (lv_at hl 0 rfl) ?_
  refine j_iconst hx hb dX3_ghostOf_8 ?_
  refine lv_iload_n hx hb dX3_ghostOf_9 rfl (lv_at hl 1 rfl) ?_
  refine lv_iload_n hx hb dX3_ghostOf_10 rfl (lv_at hl 2 rfl) ?_
  refine j_callif (va_runV (As := [.int (iI (bI False)), .int (iI col), .int (iI row)]) (rest := [.int (iI (shadO (st 0) True col row))]) ⟨hx, hb, hml, hown, hts⟩ (m_X3_shadeOf l o st w0 _ False col row (h1) (h2) (by omega) (by omega)) (cw_X3_shadeOf hts q2580 (Nat.le_of_ble_eq_true rfl) (Nat.le_of_ble_eq_true rfl)) (j_preV hV hH wM_o rfl) rfl rfl hl.1 (by simp only [bI_T, bI_F]; rfl) (lv_room (Nat.le_of_ble_eq_true rfl)) dX3_ghostOf_11 ⟨Nat.le_of_ble_eq_true rfl, Nat.le_of_ble_eq_true rfl⟩) hH (fun H locs hH => ?_)
  refine j_isub hx hb dX3_ghostOf_14 ?_
  refine j_istore_n (lv' := fun x1 => [(3, .int (iI x1)), (0, .ref o), (1, .int (iI col)), (2, .int (iI row))]) hx hb dX3_ghostOf_15 rfl hl (by decide) (fun _ => rfl) (fun x1 ex1 ls hl => ?_)
  refine lv_aload_n hx hb dX3_ghostOf_16 rfl (lv_at hl 1 rfl) ?_
  refine j_get hx hb hts hown hV hH wM_o rfl in_X3 0 (Nat.le_of_ble_eq_true rfl) q2229 (fun _ h => h) rfl dX3_ghostOf_17 ?_
  refine j_bipush hx hb dX3_ghostOf_20 (by decide) ?_
  refine j_iald (n := 198) hx hb hV hH wM_0 (by omega) (by omega) dX3_ghostOf_22 ?_
  refine lv_iload_n hx hb dX3_ghostOf_23 rfl (lv_at hl 0 rfl) ?_
  refine j_if_ge (tgt := 32) hx hb dX3_ghostOf_24 (by decide) (by omega) (fun c24 => ?_) (fun c24 => ?_)
  · refine lv_iload_n hx hb dX3_ghostOf_32 rfl (lv_at hl 0 rfl) ?_
    have hmb := mul_b (a := st 0 10) (b := x1) (A := 100) (B := 15) (by omega) (by omega)
    have hmn := Int.mul_nonneg hB.2.2.2.2.2.1 (show 0 ≤ x1 by omega)
    refine j_imul hx hb dX3_ghostOf_33 ?_
    refine j_bipush hx hb dX3_ghostOf_34 (by decide) ?_
    refine j_idiv hx hb dX3_ghostOf_36 (by omega) (by omega) ?_
    exact hret st hH dX3_ghostOf_37 (Nat.le_of_ble_eq_true rfl) (Nat.le_of_ble_eq_true rfl) (⟨by unfold ghoO; rw [← ex1]; first | rw [if_pos c24] | rw [if_neg (by omega)], rfl⟩)
  · refine lv_iload_n hx hb dX3_ghostOf_27 rfl (lv_at hl 0 rfl) ?_
    refine j_ineg hx hb dX3_ghostOf_28 ?_
    refine lv_goto (tgt := 33) hx hb dX3_ghostOf_29 (by decide) ?_
    have hmb := mul_b (a := st 0 10) (b := (-x1)) (A := 100) (B := 15) (by omega) (by omega)
    have hmn := Int.mul_nonneg hB.2.2.2.2.2.1 (show 0 ≤ (-x1) by omega)
    refine j_imul hx hb dX3_ghostOf_33 ?_
    refine j_bipush hx hb dX3_ghostOf_34 (by decide) ?_
    refine j_idiv hx hb dX3_ghostOf_36 (by omega) (by omega) ?_
    exact hret st hH dX3_ghostOf_37 (Nat.le_of_ble_eq_true rfl) (Nat.le_of_ble_eq_true rfl) (⟨by unfold ghoO; rw [← ex1]; first | rw [if_pos c24] | rw [if_neg (by omega)], rfl⟩)
theorem cw_X3_boxOf {R : Room} {s : State} {args : Array Value} {own : String} {index lev mc ms : Nat} (hts : ∀ w ∈ lw_all, w.before args s = true) (hl : Cond.methodLink own index yX3_boxOf ∈ lw_all) (hR1 : (rmL lev mc ms).frames + 1 ≤ R.frames) (hR2 : 8 + (3 + 11) + (rmL lev mc ms).locals ≤ R.locals) : CallW R s args own RX3 index yX3_boxOf cX3_boxOf 3 (some .int) (ws_ yX3_boxOf cX3_boxOf 3 (some .int)) (rmL lev mc ms) mc ms 2 :=
  cwV 2 hts (lw_V hl q2542 qs86 q116 q2543) rfl rfl rfl (by decide +kernel) ⟨hR1, hR2⟩
set_option maxHeartbeats 4000000 in
theorem m_X3_boxOf {E : jE} (l : Launch) (o : Nat) (st : Ms) (w0 : Wl) (T : Int) (n : Int) (what : Int) (h1 : PWF T (st 0)) (h2 : SVC st) (h3 : 0 ≤ n) (h4 : n < st 0 2) (h5 : 9 ≤ what ∧ what ≤ 15) : Met l yX3_boxOf (ws_ yX3_boxOf cX3_boxOf 3 (some .int)) (rmL 4 0 0) (va_Pc [.ref o, .int (iI n), .int (iI what)] (jP E (wM E o st w0))) (jQi E (fun u : Ms => wM E o u w0) (fun z u => z = boxV (st 0) n what ∧ u = st)) 0 0 (jA E) := by
  refine j_metI (by decide) (Nat.le_of_ble_eq_true rfl) ?_
  intro p e s m args below meth c Q hx hb hml hown hnm hts hV hH hret ls hl
  have hl : lv_has ls 3 [(0, .ref o), (1, .int (iI n)), (2, .int (iI what))] := hl
  have hA := h1.A
  have hB := h1.B
  have hC := h1.C
  obtain ⟨hPL, hSH, hOR, hMK, hTI, hPC⟩ := id h2
  refine lv_iload_n hx hb dX3_boxOf_0 rfl (lv_at hl 2 rfl) ?_
  have hsw : (what < 9 ∨ 13 < what) ∨ what = 9 ∨ what = 10 ∨ what = 11 ∨ what = 12 ∨ what = 13 := by omega
  rcases hsw with c1 | c1 | c1 | c1 | c1 | c1
  · refine j_tableOut (tgt := 58) hx hb dX3_boxOf_1 (by omega) c1 (by decide) ?_
    refine lv_aload_n hx hb dX3_boxOf_58 rfl (lv_at hl 0 rfl) ?_
    refine lv_iload_n hx hb dX3_boxOf_59 rfl (lv_at hl 1 rfl) ?_
    refine lv_iload_n hx hb dX3_boxOf_60 rfl (lv_at hl 2 rfl) ?_
    refine j_bipush hx hb dX3_boxOf_61 (by decide) ?_
    refine j_icmp_ne (tgt := 70) hx hb dX3_boxOf_63 (by decide) (by omega) (by omega) (fun c63 => ?_) (fun c63 => ?_)
    · refine j_iconst hx hb dX3_boxOf_70 ?_
      refine j_callif (va_runV (As := [.int (iI n), .int (iI (bI False))]) (rest := []) ⟨hx, hb, hml, hown, hts⟩ (m_X3_columnOf l o st w0 _ n False (h1) (by omega) (by omega) (hPL) (hSH)) (cw_X3_columnOf hts q2506 (Nat.le_of_ble_eq_true rfl) (Nat.le_of_ble_eq_true rfl)) (j_preV hV hH wM_o rfl) rfl rfl hl.1 (by simp only [bI_T, bI_F]; rfl) (lv_room (Nat.le_of_ble_eq_true rfl)) dX3_boxOf_71 ⟨Nat.le_of_ble_eq_true rfl, Nat.le_of_ble_eq_true rfl⟩) hH (fun H locs hH => ?_)
      exact hret st hH dX3_boxOf_74 (Nat.le_of_ble_eq_true rfl) (Nat.le_of_ble_eq_true rfl) (⟨by rw [boxV_c (by omega)]; first | rw [show (what = 14) = True from eq_true (by omega)] | rw [show (what = 14) = False from eq_false (by omega)], rfl⟩)
    · refine j_iconst hx hb dX3_boxOf_66 ?_
      refine lv_goto (tgt := 71) hx hb dX3_boxOf_67 (by decide) ?_
      refine j_callif (va_runV (As := [.int (iI n), .int (iI (bI True))]) (rest := []) ⟨hx, hb, hml, hown, hts⟩ (m_X3_columnOf l o st w0 _ n True (h1) (by omega) (by omega) (hPL) (hSH)) (cw_X3_columnOf hts q2506 (Nat.le_of_ble_eq_true rfl) (Nat.le_of_ble_eq_true rfl)) (j_preV hV hH wM_o rfl) rfl rfl hl.1 (by simp only [bI_T, bI_F]; rfl) (lv_room (Nat.le_of_ble_eq_true rfl)) dX3_boxOf_71 ⟨Nat.le_of_ble_eq_true rfl, Nat.le_of_ble_eq_true rfl⟩) hH (fun H locs hH => ?_)
      exact hret st hH dX3_boxOf_74 (Nat.le_of_ble_eq_true rfl) (Nat.le_of_ble_eq_true rfl) (⟨by rw [boxV_c (by omega)]; first | rw [show (what = 14) = True from eq_true (by omega)] | rw [show (what = 14) = False from eq_false (by omega)], rfl⟩)
  · refine j_tableIn (tgt := 36) hx hb 0 dX3_boxOf_1 c1 (by decide) (by decide) rfl (by decide) ?_
    refine lv_aload_n hx hb dX3_boxOf_36 rfl (lv_at hl 0 rfl) ?_
    refine lv_iload_n hx hb dX3_boxOf_37 rfl (lv_at hl 1 rfl) ?_
    refine lv_iload_n hx hb dX3_boxOf_38 rfl (lv_at hl 2 rfl) ?_
    refine j_iconst hx hb dX3_boxOf_39 ?_
    refine j_isub hx hb dX3_boxOf_40 ?_
    refine j_callif (va_runV (As := [.int (iI n), .int (iI (what - 5))]) (rest := []) ⟨hx, hb, hml, hown, hts⟩ (m_X3_of l o st w0 n (what - 5) (by omega)) (cw_X3_of hts q2343 (Nat.le_of_ble_eq_true rfl) (Nat.le_of_ble_eq_true rfl)) (j_preV hV hH wM_o rfl) rfl rfl hl.1 rfl (lv_room (Nat.le_of_ble_eq_true rfl)) dX3_boxOf_41 ⟨Nat.le_of_ble_eq_true rfl, Nat.le_of_ble_eq_true rfl⟩) hH (fun H locs hH => ?_)
    exact hret st hH dX3_boxOf_44 (Nat.le_of_ble_eq_true rfl) (Nat.le_of_ble_eq_true rfl) (⟨by rw [c1]; rfl, rfl⟩)
  · refine j_tableIn (tgt := 36) hx hb 1 dX3_boxOf_1 c1 (by decide) (by decide) rfl (by decide) ?_
    refine lv_aload_n hx hb dX3_boxOf_36 rfl (lv_at hl 0 rfl) ?_
    refine lv_iload_n hx hb dX3_boxOf_37 rfl (lv_at hl 1 rfl) ?_
    refine lv_iload_n hx hb dX3_boxOf_38 rfl (lv_at hl 2 rfl) ?_
    refine j_iconst hx hb dX3_boxOf_39 ?_
    refine j_isub hx hb dX3_boxOf_40 ?_
    refine j_callif (va_runV (As := [.int (iI n), .int (iI (what - 5))]) (rest := []) ⟨hx, hb, hml, hown, hts⟩ (m_X3_of l o st w0 n (what - 5) (by omega)) (cw_X3_of hts q2343 (Nat.le_of_ble_eq_true rfl) (Nat.le_of_ble_eq_true rfl)) (j_preV hV hH wM_o rfl) rfl rfl hl.1 rfl (lv_room (Nat.le_of_ble_eq_true rfl)) dX3_boxOf_41 ⟨Nat.le_of_ble_eq_true rfl, Nat.le_of_ble_eq_true rfl⟩) hH (fun H locs hH => ?_)
    exact hret st hH dX3_boxOf_44 (Nat.le_of_ble_eq_true rfl) (Nat.le_of_ble_eq_true rfl) (⟨by rw [c1]; rfl, rfl⟩)
  · refine j_tableIn (tgt := 36) hx hb 2 dX3_boxOf_1 c1 (by decide) (by decide) rfl (by decide) ?_
    refine lv_aload_n hx hb dX3_boxOf_36 rfl (lv_at hl 0 rfl) ?_
    refine lv_iload_n hx hb dX3_boxOf_37 rfl (lv_at hl 1 rfl) ?_
    refine lv_iload_n hx hb dX3_boxOf_38 rfl (lv_at hl 2 rfl) ?_
    refine j_iconst hx hb dX3_boxOf_39 ?_
    refine j_isub hx hb dX3_boxOf_40 ?_
    refine j_callif (va_runV (As := [.int (iI n), .int (iI (what - 5))]) (rest := []) ⟨hx, hb, hml, hown, hts⟩ (m_X3_of l o st w0 n (what - 5) (by omega)) (cw_X3_of hts q2343 (Nat.le_of_ble_eq_true rfl) (Nat.le_of_ble_eq_true rfl)) (j_preV hV hH wM_o rfl) rfl rfl hl.1 rfl (lv_room (Nat.le_of_ble_eq_true rfl)) dX3_boxOf_41 ⟨Nat.le_of_ble_eq_true rfl, Nat.le_of_ble_eq_true rfl⟩) hH (fun H locs hH => ?_)
    exact hret st hH dX3_boxOf_44 (Nat.le_of_ble_eq_true rfl) (Nat.le_of_ble_eq_true rfl) (⟨by rw [c1]; rfl, rfl⟩)
  · refine j_tableIn (tgt := 45) hx hb 3 dX3_boxOf_1 c1 (by decide) (by decide) rfl (by decide) ?_
    refine lv_aload_n hx hb dX3_boxOf_45 rfl (lv_at hl 0 rfl) ?_
    refine lv_iload_n hx hb dX3_boxOf_46 rfl (lv_at hl 1 rfl) ?_
    refine j_callif (va_runV (As := [.int (iI n)]) (rest := []) ⟨hx, hb, hml, hown, hts⟩ (m_X3_raw l o st w0 _ n (h1) (by omega) (by omega) ((hPL _ h3 h4).2.2)) (cw_X3_raw hts q2483 (Nat.le_of_ble_eq_true rfl) (Nat.le_of_ble_eq_true rfl)) (j_preV hV hH wM_o rfl) rfl rfl hl.1 rfl (lv_room (Nat.le_of_ble_eq_true rfl)) dX3_boxOf_47 ⟨Nat.le_of_ble_eq_true rfl, Nat.le_of_ble_eq_true rfl⟩) hH (fun H locs hH => ?_)
    exact hret st hH dX3_boxOf_50 (Nat.le_of_ble_eq_true rfl) (Nat.le_of_ble_eq_true rfl) (⟨by rw [c1]; rfl, rfl⟩)
  · refine j_tableIn (tgt := 51) hx hb 4 dX3_boxOf_1 c1 (by decide) (by decide) rfl (by decide) ?_
    refine lv_aload_n hx hb dX3_boxOf_51 rfl (lv_at hl 0 rfl) ?_
    refine j_get hx hb hts hown hV hH wM_o rfl in_X3 11 (Nat.le_of_ble_eq_true rfl) q2240 (fun _ h => h) rfl dX3_boxOf_52 ?_
    refine lv_iload_n hx hb dX3_boxOf_55 rfl (lv_at hl 1 rfl) ?_
    refine j_iald (n := 20) hx hb hV hH wM_11 (by omega) (by omega) dX3_boxOf_56 ?_
    refine j_top (b := shO (st 0) n) (hSH _ h3 h4) ?_
    exact hret st hH dX3_boxOf_57 (Nat.le_of_ble_eq_true rfl) (Nat.le_of_ble_eq_true rfl) (⟨by rw [c1]; rfl, rfl⟩)
theorem cw_X3_nodeOf {R : Room} {s : State} {args : Array Value} {own : String} {index lev mc ms : Nat} (hts : ∀ w ∈ lw_all, w.before args s = true) (hl : Cond.methodLink own index yX3_nodeOf ∈ lw_all) (hR1 : (rmL lev mc ms).frames + 1 ≤ R.frames) (hR2 : 8 + (3 + 11) + (rmL lev mc ms).locals ≤ R.locals) : CallW R s args own RX3 index yX3_nodeOf cX3_nodeOf 3 (some .int) (ws_ yX3_nodeOf cX3_nodeOf 3 (some .int)) (rmL lev mc ms) mc ms 2 :=
  cwV 2 hts (lw_V hl q2534 qs84 q116 q2535) rfl rfl rfl (by decide +kernel) ⟨hR1, hR2⟩
set_option maxHeartbeats 4000000 in
theorem m_X3_nodeOf {E : jE} (l : Launch) (o : Nat) (st : Ms) (w0 : Wl) (T : Int) (n : Int) (what : Int) (h1 : PWF T (st 0)) (h2 : SVC st) (h3 : 0 ≤ n) (h4 : n < st 0 2) (h5 : 0 ≤ what ∧ what ≤ 15) : Met l yX3_nodeOf (ws_ yX3_nodeOf cX3_nodeOf 3 (some .int)) (rmL 5 0 0) (va_Pc [.ref o, .int (iI n), .int (iI what)] (jP E (wM E o st w0))) (jQi E (fun u : Ms => wM E o u w0) (fun z u => z = nodV (st 0) n what ∧ u = st)) 0 0 (jA E) := by
  refine j_metI (by decide) (Nat.le_of_ble_eq_true rfl) ?_
  intro p e s m args below meth c Q hx hb hml hown hnm hts hV hH hret ls hl
  have hl : lv_has ls 3 [(0, .ref o), (1, .int (iI n)), (2, .int (iI what))] := hl
  have hA := h1.A
  have hB := h1.B
  have hC := h1.C
  obtain ⟨hPL, hSH, hOR, hMK, hTI, hPC⟩ := id h2
  refine lv_iload_n hx hb dX3_nodeOf_0 rfl (lv_at hl 2 rfl) ?_
  have hsw : (what < 0 ∨ 8 < what) ∨ what = 0 ∨ what = 1 ∨ what = 2 ∨ what = 3 ∨ what = 4 ∨ what = 5 ∨ what = 6 ∨ what = 7 ∨ what = 8 := by omega
  rcases hsw with c1 | c1 | c1 | c1 | c1 | c1 | c1 | c1 | c1 | c1
  · refine j_tableOut (tgt := 92) hx hb dX3_nodeOf_1 (by omega) c1 (by decide) ?_
    refine lv_aload_n hx hb dX3_nodeOf_92 rfl (lv_at hl 0 rfl) ?_
    refine lv_iload_n hx hb dX3_nodeOf_93 rfl (lv_at hl 1 rfl) ?_
    refine j_callif (va_runV (As := [.int (iI n)]) (rest := []) ⟨hx, hb, hml, hown, hts⟩ (m_X3_isBox l o st w0 _ n (h1) (by omega) (by omega)) (cw_X3_isBox hts q2339 (Nat.le_of_ble_eq_true rfl) (Nat.le_of_ble_eq_true rfl)) (j_preV hV hH wM_o rfl) rfl rfl hl.1 rfl (lv_room (Nat.le_of_ble_eq_true rfl)) dX3_nodeOf_94 ⟨Nat.le_of_ble_eq_true rfl, Nat.le_of_ble_eq_true rfl⟩) hH (fun H locs hH => ?_)
    refine j_ifeq_b (tgt := 109) hx hb dX3_nodeOf_97 (by decide) (fun c97 => ?_) (fun c97 => ?_)
    · refine j_sipush hx hb dX3_nodeOf_109 (by decide) ?_
      exact hret st hH dX3_nodeOf_112 (Nat.le_of_ble_eq_true rfl) (Nat.le_of_ble_eq_true rfl) (⟨by rw [nodV_b c1]; first | rw [if_pos c97] | rw [if_neg c97], rfl⟩)
    · refine lv_aload_n hx hb dX3_nodeOf_100 rfl (lv_at hl 0 rfl) ?_
      refine lv_iload_n hx hb dX3_nodeOf_101 rfl (lv_at hl 1 rfl) ?_
      refine lv_iload_n hx hb dX3_nodeOf_102 rfl (lv_at hl 2 rfl) ?_
      refine j_callif (va_runV (As := [.int (iI n), .int (iI what)]) (rest := []) ⟨hx, hb, hml, hown, hts⟩ (m_X3_boxOf l o st w0 _ n what (h1) (h2) (by omega) (by omega) (by omega)) (cw_X3_boxOf hts q2540 (Nat.le_of_ble_eq_true rfl) (Nat.le_of_ble_eq_true rfl)) (j_preV hV hH wM_o rfl) rfl rfl hl.1 rfl (lv_room (Nat.le_of_ble_eq_true rfl)) dX3_nodeOf_103 ⟨Nat.le_of_ble_eq_true rfl, Nat.le_of_ble_eq_true rfl⟩) hH (fun H locs hH => ?_)
      refine lv_goto (tgt := 112) hx hb dX3_nodeOf_106 (by decide) ?_
      exact hret st hH dX3_nodeOf_112 (Nat.le_of_ble_eq_true rfl) (Nat.le_of_ble_eq_true rfl) (⟨by rw [nodV_b c1]; first | rw [if_pos c97] | rw [if_neg c97], rfl⟩)
  · refine j_tableIn (tgt := 52) hx hb 0 dX3_nodeOf_1 c1 (by decide) (by decide) rfl (by decide) ?_
    refine lv_aload_n hx hb dX3_nodeOf_52 rfl (lv_at hl 0 rfl) ?_
    refine lv_iload_n hx hb dX3_nodeOf_53 rfl (lv_at hl 1 rfl) ?_
    refine lv_iload_n hx hb dX3_nodeOf_54 rfl (lv_at hl 2 rfl) ?_
    refine j_callif (va_runV (As := [.int (iI n), .int (iI what)]) (rest := []) ⟨hx, hb, hml, hown, hts⟩ (m_X3_of l o st w0 n what (by omega)) (cw_X3_of hts q2343 (Nat.le_of_ble_eq_true rfl) (Nat.le_of_ble_eq_true rfl)) (j_preV hV hH wM_o rfl) rfl rfl hl.1 rfl (lv_room (Nat.le_of_ble_eq_true rfl)) dX3_nodeOf_55 ⟨Nat.le_of_ble_eq_true rfl, Nat.le_of_ble_eq_true rfl⟩) hH (fun H locs hH => ?_)
    exact hret st hH dX3_nodeOf_58 (Nat.le_of_ble_eq_true rfl) (Nat.le_of_ble_eq_true rfl) (⟨by rw [c1]; rfl, rfl⟩)
  · refine j_tableIn (tgt := 52) hx hb 1 dX3_nodeOf_1 c1 (by decide) (by decide) rfl (by decide) ?_
    refine lv_aload_n hx hb dX3_nodeOf_52 rfl (lv_at hl 0 rfl) ?_
    refine lv_iload_n hx hb dX3_nodeOf_53 rfl (lv_at hl 1 rfl) ?_
    refine lv_iload_n hx hb dX3_nodeOf_54 rfl (lv_at hl 2 rfl) ?_
    refine j_callif (va_runV (As := [.int (iI n), .int (iI what)]) (rest := []) ⟨hx, hb, hml, hown, hts⟩ (m_X3_of l o st w0 n what (by omega)) (cw_X3_of hts q2343 (Nat.le_of_ble_eq_true rfl) (Nat.le_of_ble_eq_true rfl)) (j_preV hV hH wM_o rfl) rfl rfl hl.1 rfl (lv_room (Nat.le_of_ble_eq_true rfl)) dX3_nodeOf_55 ⟨Nat.le_of_ble_eq_true rfl, Nat.le_of_ble_eq_true rfl⟩) hH (fun H locs hH => ?_)
    exact hret st hH dX3_nodeOf_58 (Nat.le_of_ble_eq_true rfl) (Nat.le_of_ble_eq_true rfl) (⟨by rw [c1]; rfl, rfl⟩)
  · refine j_tableIn (tgt := 52) hx hb 2 dX3_nodeOf_1 c1 (by decide) (by decide) rfl (by decide) ?_
    refine lv_aload_n hx hb dX3_nodeOf_52 rfl (lv_at hl 0 rfl) ?_
    refine lv_iload_n hx hb dX3_nodeOf_53 rfl (lv_at hl 1 rfl) ?_
    refine lv_iload_n hx hb dX3_nodeOf_54 rfl (lv_at hl 2 rfl) ?_
    refine j_callif (va_runV (As := [.int (iI n), .int (iI what)]) (rest := []) ⟨hx, hb, hml, hown, hts⟩ (m_X3_of l o st w0 n what (by omega)) (cw_X3_of hts q2343 (Nat.le_of_ble_eq_true rfl) (Nat.le_of_ble_eq_true rfl)) (j_preV hV hH wM_o rfl) rfl rfl hl.1 rfl (lv_room (Nat.le_of_ble_eq_true rfl)) dX3_nodeOf_55 ⟨Nat.le_of_ble_eq_true rfl, Nat.le_of_ble_eq_true rfl⟩) hH (fun H locs hH => ?_)
    exact hret st hH dX3_nodeOf_58 (Nat.le_of_ble_eq_true rfl) (Nat.le_of_ble_eq_true rfl) (⟨by rw [c1]; rfl, rfl⟩)
  · refine j_tableIn (tgt := 52) hx hb 3 dX3_nodeOf_1 c1 (by decide) (by decide) rfl (by decide) ?_
    refine lv_aload_n hx hb dX3_nodeOf_52 rfl (lv_at hl 0 rfl) ?_
    refine lv_iload_n hx hb dX3_nodeOf_53 rfl (lv_at hl 1 rfl) ?_
    refine lv_iload_n hx hb dX3_nodeOf_54 rfl (lv_at hl 2 rfl) ?_
    refine j_callif (va_runV (As := [.int (iI n), .int (iI what)]) (rest := []) ⟨hx, hb, hml, hown, hts⟩ (m_X3_of l o st w0 n what (by omega)) (cw_X3_of hts q2343 (Nat.le_of_ble_eq_true rfl) (Nat.le_of_ble_eq_true rfl)) (j_preV hV hH wM_o rfl) rfl rfl hl.1 rfl (lv_room (Nat.le_of_ble_eq_true rfl)) dX3_nodeOf_55 ⟨Nat.le_of_ble_eq_true rfl, Nat.le_of_ble_eq_true rfl⟩) hH (fun H locs hH => ?_)
    exact hret st hH dX3_nodeOf_58 (Nat.le_of_ble_eq_true rfl) (Nat.le_of_ble_eq_true rfl) (⟨by rw [c1]; rfl, rfl⟩)
  · refine j_tableIn (tgt := 59) hx hb 4 dX3_nodeOf_1 c1 (by decide) (by decide) rfl (by decide) ?_
    refine lv_aload_n hx hb dX3_nodeOf_59 rfl (lv_at hl 0 rfl) ?_
    refine j_get hx hb hts hown hV hH wM_o rfl in_X3 8 (Nat.le_of_ble_eq_true rfl) q2237 (fun _ h => h) rfl dX3_nodeOf_60 ?_
    refine lv_iload_n hx hb dX3_nodeOf_63 rfl (lv_at hl 1 rfl) ?_
    refine j_iald (n := 20) hx hb hV hH wM_8 (by omega) (by omega) dX3_nodeOf_64 ?_
    refine j_top (b := sumO (st 0) n 1) ((hPL _ h3 h4).1) ?_
    exact hret st hH dX3_nodeOf_65 (Nat.le_of_ble_eq_true rfl) (Nat.le_of_ble_eq_true rfl) (⟨by rw [c1]; rfl, rfl⟩)
  · refine j_tableIn (tgt := 66) hx hb 5 dX3_nodeOf_1 c1 (by decide) (by decide) rfl (by decide) ?_
    refine lv_aload_n hx hb dX3_nodeOf_66 rfl (lv_at hl 0 rfl) ?_
    refine j_get hx hb hts hown hV hH wM_o rfl in_X3 9 (Nat.le_of_ble_eq_true rfl) q2238 (fun _ h => h) rfl dX3_nodeOf_67 ?_
    refine lv_iload_n hx hb dX3_nodeOf_70 rfl (lv_at hl 1 rfl) ?_
    refine j_iald (n := 20) hx hb hV hH wM_9 (by omega) (by omega) dX3_nodeOf_71 ?_
    refine j_top (b := sumO (st 0) n 2) ((hPL _ h3 h4).2.1) ?_
    exact hret st hH dX3_nodeOf_72 (Nat.le_of_ble_eq_true rfl) (Nat.le_of_ble_eq_true rfl) (⟨by rw [c1]; rfl, rfl⟩)
  · refine j_tableIn (tgt := 73) hx hb 6 dX3_nodeOf_1 c1 (by decide) (by decide) rfl (by decide) ?_
    refine lv_aload_n hx hb dX3_nodeOf_73 rfl (lv_at hl 0 rfl) ?_
    refine j_get hx hb hts hown hV hH wM_o rfl in_X3 10 (Nat.le_of_ble_eq_true rfl) q2239 (fun _ h => h) rfl dX3_nodeOf_74 ?_
    refine lv_iload_n hx hb dX3_nodeOf_77 rfl (lv_at hl 1 rfl) ?_
    refine j_iald (n := 20) hx hb hV hH wM_10 (by omega) (by omega) dX3_nodeOf_78 ?_
    refine j_top (b := sumO (st 0) n 3) ((hPL _ h3 h4).2.2) ?_
    exact hret st hH dX3_nodeOf_79 (Nat.le_of_ble_eq_true rfl) (Nat.le_of_ble_eq_true rfl) (⟨by rw [c1]; rfl, rfl⟩)
  · refine j_tableIn (tgt := 80) hx hb 7 dX3_nodeOf_1 c1 (by decide) (by decide) rfl (by decide) ?_
    refine lv_aload_n hx hb dX3_nodeOf_80 rfl (lv_at hl 0 rfl) ?_
    refine lv_iload_n hx hb dX3_nodeOf_81 rfl (lv_at hl 1 rfl) ?_
    refine j_callif (va_runV (As := [.int (iI n)]) (rest := []) ⟨hx, hb, hml, hown, hts⟩ (m_X3_groupsAround l o st w0 _ n (h1) (by omega) (by omega)) (cw_X3_groupsAround hts q2350 (Nat.le_of_ble_eq_true rfl) (Nat.le_of_ble_eq_true rfl)) (j_preV hV hH wM_o rfl) rfl rfl hl.1 rfl (lv_room (Nat.le_of_ble_eq_true rfl)) dX3_nodeOf_82 ⟨Nat.le_of_ble_eq_true rfl, Nat.le_of_ble_eq_true rfl⟩) hH (fun H locs hH => ?_)
    exact hret st hH dX3_nodeOf_85 (Nat.le_of_ble_eq_true rfl) (Nat.le_of_ble_eq_true rfl) (⟨by rw [c1]; rfl, rfl⟩)
  · refine j_tableIn (tgt := 86) hx hb 8 dX3_nodeOf_1 c1 (by decide) (by decide) rfl (by decide) ?_
    refine lv_aload_n hx hb dX3_nodeOf_86 rfl (lv_at hl 0 rfl) ?_
    refine lv_iload_n hx hb dX3_nodeOf_87 rfl (lv_at hl 1 rfl) ?_
    refine j_callif (va_runV (As := [.int (iI n)]) (rest := []) ⟨hx, hb, hml, hown, hts⟩ (m_X3_inside l o st w0 _ n (h1) (by omega) (by omega)) (cw_X3_inside hts q2536 (Nat.le_of_ble_eq_true rfl) (Nat.le_of_ble_eq_true rfl)) (j_preV hV hH wM_o rfl) rfl rfl hl.1 rfl (lv_room (Nat.le_of_ble_eq_true rfl)) dX3_nodeOf_88 ⟨Nat.le_of_ble_eq_true rfl, Nat.le_of_ble_eq_true rfl⟩) hH (fun H locs hH => ?_)
    exact hret st hH dX3_nodeOf_91 (Nat.le_of_ble_eq_true rfl) (Nat.le_of_ble_eq_true rfl) (⟨by rw [c1]; rfl, rfl⟩)
theorem cw_X3_titleOf {R : Room} {s : State} {args : Array Value} {own : String} {index lev mc ms : Nat} (hts : ∀ w ∈ lw_all, w.before args s = true) (hl : Cond.methodLink own index yX3_titleOf ∈ lw_all) (hR1 : (rmL lev mc ms).frames + 1 ≤ R.frames) (hR2 : 8 + (2 + 11) + (rmL lev mc ms).locals ≤ R.locals) : CallW R s args own RX3 index yX3_titleOf cX3_titleOf 2 (some .int) (ws_ yX3_titleOf cX3_titleOf 2 (some .int)) (rmL lev mc ms) mc ms 1 :=
  cwV 1 hts (lw_V hl q2562 qs88 q116 q2563) rfl rfl rfl (by decide +kernel) ⟨hR1, hR2⟩
set_option maxHeartbeats 4000000 in
theorem m_X3_titleOf {E : jE} (l : Launch) (o : Nat) (st : Ms) (w0 : Wl) (T : Int) (what : Int) (h1 : PWF T (st 0)) (h2 : SVC st) (h3 : 0 ≤ what ∧ what ≤ 6) : Met l yX3_titleOf (ws_ yX3_titleOf cX3_titleOf 2 (some .int)) (rmL 4 0 0) (va_Pc [.ref o, .int (iI what)] (jP E (wM E o st w0))) (jQi E (fun u : Ms => wM E o u w0) (fun z u => z = titV (st 0) what ∧ u = st)) 0 0 (jA E) := by
  refine j_metI (by decide) (Nat.le_of_ble_eq_true rfl) ?_
  intro p e s m args below meth c Q hx hb hml hown hnm hts hV hH hret ls hl
  have hl : lv_has ls 2 [(0, .ref o), (1, .int (iI what))] := hl
  have hA := h1.A
  have hB := h1.B
  have hC := h1.C
  obtain ⟨hPL, hSH, hOR, hMK, hTI, hPC⟩ := id h2
  have hti := tic_or h1 hTI
  refine lv_aload_n hx hb dX3_titleOf_0 rfl (lv_at hl 0 rfl) ?_
  refine j_get hx hb hts hown hV hH wM_o rfl in_X3 0 (Nat.le_of_ble_eq_true rfl) q2229 (fun _ h => h) rfl dX3_titleOf_1 ?_
  refine j_bipush hx hb dX3_titleOf_4 (by decide) ?_
  refine j_iald (n := 198) hx hb hV hH wM_0 (by omega) (by omega) dX3_titleOf_6 ?_
  refine j_if_eq (tgt := 22) hx hb dX3_titleOf_7 (by decide) (by omega) (fun c7 => ?_) (fun c7 => ?_)
  · refine j_sipush hx hb dX3_titleOf_22 (by decide) ?_
    exact hret st hH dX3_titleOf_25 (Nat.le_of_ble_eq_true rfl) (Nat.le_of_ble_eq_true rfl) (⟨by unfold titV; rw [if_pos (by omega)], rfl⟩)
  · refine lv_iload_n hx hb dX3_titleOf_10 rfl (lv_at hl 1 rfl) ?_
    refine j_iconst hx hb dX3_titleOf_11 ?_
    refine j_icmp_le (tgt := 26) hx hb dX3_titleOf_12 (by decide) (by omega) (by omega) (fun c12 => ?_) (fun c12 => ?_)
    · refine lv_iload_n hx hb dX3_titleOf_26 rfl (lv_at hl 1 rfl) ?_
      refine j_iconst hx hb dX3_titleOf_27 ?_
      refine j_icmp_ge (tgt := 43) hx hb dX3_titleOf_28 (by decide) (by omega) (by omega) (fun c28 => ?_) (fun c28 => ?_)
      · refine lv_iload_n hx hb dX3_titleOf_43 rfl (lv_at hl 1 rfl) ?_
        refine j_iconst hx hb dX3_titleOf_44 ?_
        refine j_icmp_ne (tgt := 55) hx hb dX3_titleOf_45 (by decide) (by omega) (by omega) (fun c45 => ?_) (fun c45 => ?_)
        · refine lv_iload_n hx hb dX3_titleOf_55 rfl (lv_at hl 1 rfl) ?_
          refine j_iconst hx hb dX3_titleOf_56 ?_
          refine j_icmp_ne (tgt := 67) hx hb dX3_titleOf_57 (by decide) (by omega) (by omega) (fun c57 => ?_) (fun c57 => ?_)
          · refine lv_aload_n hx hb dX3_titleOf_67 rfl (lv_at hl 0 rfl) ?_
            refine j_get hx hb hts hown hV hH wM_o rfl in_X3 0 (Nat.le_of_ble_eq_true rfl) q2229 (fun _ h => h) rfl dX3_titleOf_68 ?_
            refine j_bipush hx hb dX3_titleOf_71 (by decide) ?_
            refine j_iald (n := 198) hx hb hV hH wM_0 (by omega) (by omega) dX3_titleOf_73 ?_
            refine lv_aload_n hx hb dX3_titleOf_74 rfl (lv_at hl 0 rfl) ?_
            refine j_get hx hb hts hown hV hH wM_o rfl in_X3 19 (Nat.le_of_ble_eq_true rfl) q2248 (fun _ h => h) rfl dX3_titleOf_75 ?_
            refine j_top (b := tsO (st 0)) (by omega) ?_
            refine lv_iload_n hx hb dX3_titleOf_78 rfl (lv_at hl 1 rfl) ?_
            refine j_iconst hx hb dX3_titleOf_79 ?_
            refine j_icmp_ne (tgt := 87) hx hb dX3_titleOf_80 (by decide) (by omega) (by omega) (fun c80 => ?_) (fun c80 => ?_)
            · refine j_iconst hx hb dX3_titleOf_87 ?_
              refine j_callip (va_runS (As := [.int (iI (st 0 11)), .int (iI (tsO (st 0))), .int (iI (bI False))]) (rest := []) ⟨hx, hb, hml, hown, hts⟩ (m_X3_column l _ (st 0 11) (tsO (st 0)) False (by omega) (by omega)) (cw_X3_column hts q2510 (Nat.le_of_ble_eq_true rfl) (Nat.le_of_ble_eq_true rfl)) (j_preS hV hH) rfl rfl hl.1 (by simp only [bI_T, bI_F]; rfl) (lv_room (Nat.le_of_ble_eq_true rfl)) dX3_titleOf_88 ⟨Nat.le_of_ble_eq_true rfl, Nat.le_of_ble_eq_true rfl⟩) hH (fun H locs hH => ?_)
              exact hret st hH dX3_titleOf_91 (Nat.le_of_ble_eq_true rfl) (Nat.le_of_ble_eq_true rfl) (⟨by first | (rw [titV_s (by omega) (by omega) (by omega)]; done) | (rw [show what = 3 by omega]; unfold titV; rw [if_neg (by omega)]; rfl) | (rw [show what = 4 by omega]; unfold titV; rw [if_neg (by omega)]; rfl) | (rw [titV_c (by omega) (by omega) (by omega)]; first | (rw [show (what = 5) = True from eq_true (by omega)]; done) | rw [show (what = 5) = False from eq_false (by omega)]), rfl⟩)
            · refine j_iconst hx hb dX3_titleOf_83 ?_
              refine lv_goto (tgt := 88) hx hb dX3_titleOf_84 (by decide) ?_
              refine j_callip (va_runS (As := [.int (iI (st 0 11)), .int (iI (tsO (st 0))), .int (iI (bI True))]) (rest := []) ⟨hx, hb, hml, hown, hts⟩ (m_X3_column l _ (st 0 11) (tsO (st 0)) True (by omega) (by omega)) (cw_X3_column hts q2510 (Nat.le_of_ble_eq_true rfl) (Nat.le_of_ble_eq_true rfl)) (j_preS hV hH) rfl rfl hl.1 (by simp only [bI_T, bI_F]; rfl) (lv_room (Nat.le_of_ble_eq_true rfl)) dX3_titleOf_88 ⟨Nat.le_of_ble_eq_true rfl, Nat.le_of_ble_eq_true rfl⟩) hH (fun H locs hH => ?_)
              exact hret st hH dX3_titleOf_91 (Nat.le_of_ble_eq_true rfl) (Nat.le_of_ble_eq_true rfl) (⟨by first | (rw [titV_s (by omega) (by omega) (by omega)]; done) | (rw [show what = 3 by omega]; unfold titV; rw [if_neg (by omega)]; rfl) | (rw [show what = 4 by omega]; unfold titV; rw [if_neg (by omega)]; rfl) | (rw [titV_c (by omega) (by omega) (by omega)]; first | (rw [show (what = 5) = True from eq_true (by omega)]; done) | rw [show (what = 5) = False from eq_false (by omega)]), rfl⟩)
          · refine lv_aload_n hx hb dX3_titleOf_60 rfl (lv_at hl 0 rfl) ?_
            refine j_get hx hb hts hown hV hH wM_o rfl in_X3 19 (Nat.le_of_ble_eq_true rfl) q2248 (fun _ h => h) rfl dX3_titleOf_61 ?_
            refine j_top (b := tsO (st 0)) (by omega) ?_
            refine lv_goto (tgt := 91) hx hb dX3_titleOf_64 (by decide) ?_
            exact hret st hH dX3_titleOf_91 (Nat.le_of_ble_eq_true rfl) (Nat.le_of_ble_eq_true rfl) (⟨by first | (rw [titV_s (by omega) (by omega) (by omega)]; done) | (rw [show what = 3 by omega]; unfold titV; rw [if_neg (by omega)]; rfl) | (rw [show what = 4 by omega]; unfold titV; rw [if_neg (by omega)]; rfl) | (rw [titV_c (by omega) (by omega) (by omega)]; first | (rw [show (what = 5) = True from eq_true (by omega)]; done) | rw [show (what = 5) = False from eq_false (by omega)]), rfl⟩)
        · refine lv_aload_n hx hb dX3_titleOf_48 rfl (lv_at hl 0 rfl) ?_
          refine j_get hx hb hts hown hV hH wM_o rfl in_X3 18 (Nat.le_of_ble_eq_true rfl) q2247 (fun _ h => h) rfl dX3_titleOf_49 ?_
          refine j_top (b := trO (st 0)) (by omega) ?_
          refine lv_goto (tgt := 91) hx hb dX3_titleOf_52 (by decide) ?_
          exact hret st hH dX3_titleOf_91 (Nat.le_of_ble_eq_true rfl) (Nat.le_of_ble_eq_true rfl) (⟨by first | (rw [titV_s (by omega) (by omega) (by omega)]; done) | (rw [show what = 3 by omega]; unfold titV; rw [if_neg (by omega)]; rfl) | (rw [show what = 4 by omega]; unfold titV; rw [if_neg (by omega)]; rfl) | (rw [titV_c (by omega) (by omega) (by omega)]; first | (rw [show (what = 5) = True from eq_true (by omega)]; done) | rw [show (what = 5) = False from eq_false (by omega)]), rfl⟩)
      · refine lv_aload_n hx hb dX3_titleOf_31 rfl (lv_at hl 0 rfl) ?_
        refine j_get hx hb hts hown hV hH wM_o rfl in_X3 0 (Nat.le_of_ble_eq_true rfl) q2229 (fun _ h => h) rfl dX3_titleOf_32 ?_
        refine j_bipush hx hb dX3_titleOf_35 (by decide) ?_
        refine lv_iload_n hx hb dX3_titleOf_37 rfl (lv_at hl 1 rfl) ?_
        refine j_iadd hx hb dX3_titleOf_38 ?_
        refine j_iald (n := 198) hx hb hV hH wM_0 (by omega) (by omega) dX3_titleOf_39 ?_
        refine lv_goto (tgt := 91) hx hb dX3_titleOf_40 (by decide) ?_
        exact hret st hH dX3_titleOf_91 (Nat.le_of_ble_eq_true rfl) (Nat.le_of_ble_eq_true rfl) (⟨by first | (rw [titV_s (by omega) (by omega) (by omega)]; done) | (rw [show what = 3 by omega]; unfold titV; rw [if_neg (by omega)]; rfl) | (rw [show what = 4 by omega]; unfold titV; rw [if_neg (by omega)]; rfl) | (rw [titV_c (by omega) (by omega) (by omega)]; first | (rw [show (what = 5) = True from eq_true (by omega)]; done) | rw [show (what = 5) = False from eq_false (by omega)]), rfl⟩)
    · refine lv_aload_n hx hb dX3_titleOf_15 rfl (lv_at hl 0 rfl) ?_
      refine j_get hx hb hts hown hV hH wM_o rfl in_X3 17 (Nat.le_of_ble_eq_true rfl) q2246 (fun _ h => h) rfl dX3_titleOf_16 ?_
      refine j_if_ne (tgt := 26) hx hb dX3_titleOf_19 (by decide) (by omega) (fun c19 => ?_) (fun c19 => ?_)
      · refine lv_iload_n hx hb dX3_titleOf_26 rfl (lv_at hl 1 rfl) ?_
        refine j_iconst hx hb dX3_titleOf_27 ?_
        refine j_icmp_ge (tgt := 43) hx hb dX3_titleOf_28 (by decide) (by omega) (by omega) (fun c28 => ?_) (fun c28 => ?_)
        · refine lv_iload_n hx hb dX3_titleOf_43 rfl (lv_at hl 1 rfl) ?_
          refine j_iconst hx hb dX3_titleOf_44 ?_
          refine j_icmp_ne (tgt := 55) hx hb dX3_titleOf_45 (by decide) (by omega) (by omega) (fun c45 => ?_) (fun c45 => ?_)
          · refine lv_iload_n hx hb dX3_titleOf_55 rfl (lv_at hl 1 rfl) ?_
            refine j_iconst hx hb dX3_titleOf_56 ?_
            refine j_icmp_ne (tgt := 67) hx hb dX3_titleOf_57 (by decide) (by omega) (by omega) (fun c57 => ?_) (fun c57 => ?_)
            · refine lv_aload_n hx hb dX3_titleOf_67 rfl (lv_at hl 0 rfl) ?_
              refine j_get hx hb hts hown hV hH wM_o rfl in_X3 0 (Nat.le_of_ble_eq_true rfl) q2229 (fun _ h => h) rfl dX3_titleOf_68 ?_
              refine j_bipush hx hb dX3_titleOf_71 (by decide) ?_
              refine j_iald (n := 198) hx hb hV hH wM_0 (by omega) (by omega) dX3_titleOf_73 ?_
              refine lv_aload_n hx hb dX3_titleOf_74 rfl (lv_at hl 0 rfl) ?_
              refine j_get hx hb hts hown hV hH wM_o rfl in_X3 19 (Nat.le_of_ble_eq_true rfl) q2248 (fun _ h => h) rfl dX3_titleOf_75 ?_
              refine j_top (b := tsO (st 0)) (by omega) ?_
              refine lv_iload_n hx hb dX3_titleOf_78 rfl (lv_at hl 1 rfl) ?_
              refine j_iconst hx hb dX3_titleOf_79 ?_
              refine j_icmp_ne (tgt := 87) hx hb dX3_titleOf_80 (by decide) (by omega) (by omega) (fun c80 => ?_) (fun c80 => ?_)
              · refine j_iconst hx hb dX3_titleOf_87 ?_
                refine j_callip (va_runS (As := [.int (iI (st 0 11)), .int (iI (tsO (st 0))), .int (iI (bI False))]) (rest := []) ⟨hx, hb, hml, hown, hts⟩ (m_X3_column l _ (st 0 11) (tsO (st 0)) False (by omega) (by omega)) (cw_X3_column hts q2510 (Nat.le_of_ble_eq_true rfl) (Nat.le_of_ble_eq_true rfl)) (j_preS hV hH) rfl rfl hl.1 (by simp only [bI_T, bI_F]; rfl) (lv_room (Nat.le_of_ble_eq_true rfl)) dX3_titleOf_88 ⟨Nat.le_of_ble_eq_true rfl, Nat.le_of_ble_eq_true rfl⟩) hH (fun H locs hH => ?_)
                exact hret st hH dX3_titleOf_91 (Nat.le_of_ble_eq_true rfl) (Nat.le_of_ble_eq_true rfl) (⟨by first | (rw [titV_s (by omega) (by omega) (by omega)]; done) | (rw [show what = 3 by omega]; unfold titV; rw [if_neg (by omega)]; rfl) | (rw [show what = 4 by omega]; unfold titV; rw [if_neg (by omega)]; rfl) | (rw [titV_c (by omega) (by omega) (by omega)]; first | (rw [show (what = 5) = True from eq_true (by omega)]; done) | rw [show (what = 5) = False from eq_false (by omega)]), rfl⟩)
              · refine j_iconst hx hb dX3_titleOf_83 ?_
                refine lv_goto (tgt := 88) hx hb dX3_titleOf_84 (by decide) ?_
                refine j_callip (va_runS (As := [.int (iI (st 0 11)), .int (iI (tsO (st 0))), .int (iI (bI True))]) (rest := []) ⟨hx, hb, hml, hown, hts⟩ (m_X3_column l _ (st 0 11) (tsO (st 0)) True (by omega) (by omega)) (cw_X3_column hts q2510 (Nat.le_of_ble_eq_true rfl) (Nat.le_of_ble_eq_true rfl)) (j_preS hV hH) rfl rfl hl.1 (by simp only [bI_T, bI_F]; rfl) (lv_room (Nat.le_of_ble_eq_true rfl)) dX3_titleOf_88 ⟨Nat.le_of_ble_eq_true rfl, Nat.le_of_ble_eq_true rfl⟩) hH (fun H locs hH => ?_)
                exact hret st hH dX3_titleOf_91 (Nat.le_of_ble_eq_true rfl) (Nat.le_of_ble_eq_true rfl) (⟨by first | (rw [titV_s (by omega) (by omega) (by omega)]; done) | (rw [show what = 3 by omega]; unfold titV; rw [if_neg (by omega)]; rfl) | (rw [show what = 4 by omega]; unfold titV; rw [if_neg (by omega)]; rfl) | (rw [titV_c (by omega) (by omega) (by omega)]; first | (rw [show (what = 5) = True from eq_true (by omega)]; done) | rw [show (what = 5) = False from eq_false (by omega)]), rfl⟩)
            · refine lv_aload_n hx hb dX3_titleOf_60 rfl (lv_at hl 0 rfl) ?_
              refine j_get hx hb hts hown hV hH wM_o rfl in_X3 19 (Nat.le_of_ble_eq_true rfl) q2248 (fun _ h => h) rfl dX3_titleOf_61 ?_
              refine j_top (b := tsO (st 0)) (by omega) ?_
              refine lv_goto (tgt := 91) hx hb dX3_titleOf_64 (by decide) ?_
              exact hret st hH dX3_titleOf_91 (Nat.le_of_ble_eq_true rfl) (Nat.le_of_ble_eq_true rfl) (⟨by first | (rw [titV_s (by omega) (by omega) (by omega)]; done) | (rw [show what = 3 by omega]; unfold titV; rw [if_neg (by omega)]; rfl) | (rw [show what = 4 by omega]; unfold titV; rw [if_neg (by omega)]; rfl) | (rw [titV_c (by omega) (by omega) (by omega)]; first | (rw [show (what = 5) = True from eq_true (by omega)]; done) | rw [show (what = 5) = False from eq_false (by omega)]), rfl⟩)
          · refine lv_aload_n hx hb dX3_titleOf_48 rfl (lv_at hl 0 rfl) ?_
            refine j_get hx hb hts hown hV hH wM_o rfl in_X3 18 (Nat.le_of_ble_eq_true rfl) q2247 (fun _ h => h) rfl dX3_titleOf_49 ?_
            refine j_top (b := trO (st 0)) (by omega) ?_
            refine lv_goto (tgt := 91) hx hb dX3_titleOf_52 (by decide) ?_
            exact hret st hH dX3_titleOf_91 (Nat.le_of_ble_eq_true rfl) (Nat.le_of_ble_eq_true rfl) (⟨by first | (rw [titV_s (by omega) (by omega) (by omega)]; done) | (rw [show what = 3 by omega]; unfold titV; rw [if_neg (by omega)]; rfl) | (rw [show what = 4 by omega]; unfold titV; rw [if_neg (by omega)]; rfl) | (rw [titV_c (by omega) (by omega) (by omega)]; first | (rw [show (what = 5) = True from eq_true (by omega)]; done) | rw [show (what = 5) = False from eq_false (by omega)]), rfl⟩)
        · refine lv_aload_n hx hb dX3_titleOf_31 rfl (lv_at hl 0 rfl) ?_
          refine j_get hx hb hts hown hV hH wM_o rfl in_X3 0 (Nat.le_of_ble_eq_true rfl) q2229 (fun _ h => h) rfl dX3_titleOf_32 ?_
          refine j_bipush hx hb dX3_titleOf_35 (by decide) ?_
          refine lv_iload_n hx hb dX3_titleOf_37 rfl (lv_at hl 1 rfl) ?_
          refine j_iadd hx hb dX3_titleOf_38 ?_
          refine j_iald (n := 198) hx hb hV hH wM_0 (by omega) (by omega) dX3_titleOf_39 ?_
          refine lv_goto (tgt := 91) hx hb dX3_titleOf_40 (by decide) ?_
          exact hret st hH dX3_titleOf_91 (Nat.le_of_ble_eq_true rfl) (Nat.le_of_ble_eq_true rfl) (⟨by first | (rw [titV_s (by omega) (by omega) (by omega)]; done) | (rw [show what = 3 by omega]; unfold titV; rw [if_neg (by omega)]; rfl) | (rw [show what = 4 by omega]; unfold titV; rw [if_neg (by omega)]; rfl) | (rw [titV_c (by omega) (by omega) (by omega)]; first | (rw [show (what = 5) = True from eq_true (by omega)]; done) | rw [show (what = 5) = False from eq_false (by omega)]), rfl⟩)
      · refine j_sipush hx hb dX3_titleOf_22 (by decide) ?_
        exact hret st hH dX3_titleOf_25 (Nat.le_of_ble_eq_true rfl) (Nat.le_of_ble_eq_true rfl) (⟨by unfold titV; rw [if_pos (by omega)], rfl⟩)
theorem cw_X3_wholeOf {R : Room} {s : State} {args : Array Value} {own : String} {index lev mc ms : Nat} (hts : ∀ w ∈ lw_all, w.before args s = true) (hl : Cond.methodLink own index yX3_wholeOf ∈ lw_all) (hR1 : (rmL lev mc ms).frames + 1 ≤ R.frames) (hR2 : 8 + (2 + 11) + (rmL lev mc ms).locals ≤ R.locals) : CallW R s args own RX3 index yX3_wholeOf cX3_wholeOf 2 (some .int) (ws_ yX3_wholeOf cX3_wholeOf 2 (some .int)) (rmL lev mc ms) mc ms 1 :=
  cwV 1 hts (lw_V hl q2570 qs89 q116 q2571) rfl rfl rfl (by decide +kernel) ⟨hR1, hR2⟩
set_option maxHeartbeats 4000000 in
theorem m_X3_wholeOf {E : jE} (l : Launch) (o : Nat) (st : Ms) (w0 : Wl) (T : Int) (what : Int) (h1 : PWF T (st 0)) (h2 : SVC st) (h3 : 0 ≤ what ∧ what ≤ 15) (h4 : T ≤ 1000000000) : Met l yX3_wholeOf (ws_ yX3_wholeOf cX3_wholeOf 2 (some .int)) (rmL 4 0 0) (va_Pc [.ref o, .int (iI what)] (jP E (wM E o st w0))) (jQi E (fun u : Ms => wM E o u w0) (fun z u => z = whoV (st 0) what ∧ u = st)) 0 0 (jA E) := by
  refine j_metI (by decide) (Nat.le_of_ble_eq_true rfl) ?_
  intro p e s m args below meth c Q hx hb hml hown hnm hts hV hH hret ls hl
  have hl : lv_has ls 2 [(0, .ref o), (1, .int (iI what))] := hl
  have hA := h1.A
  have hB := h1.B
  have hC := h1.C
  obtain ⟨hPL, hSH, hOR, hMK, hTI, hPC⟩ := id h2
  refine lv_iload_n hx hb dX3_wholeOf_0 rfl (lv_at hl 1 rfl) ?_
  have hsw : (what < 3 ∨ 11 < what) ∨ what = 3 ∨ what = 4 ∨ what = 5 ∨ what = 6 ∨ what = 7 ∨ what = 8 ∨ what = 9 ∨ what = 10 ∨ what = 11 := by omega
  rcases hsw with c1 | c1 | c1 | c1 | c1 | c1 | c1 | c1 | c1 | c1
  · refine j_tableOut (tgt := 106) hx hb dX3_wholeOf_1 (by omega) c1 (by decide) ?_
    refine lv_iload_n hx hb dX3_wholeOf_106 rfl (lv_at hl 1 rfl) ?_
    refine j_iconst hx hb dX3_wholeOf_107 ?_
    refine j_icmp_ge (tgt := 120) hx hb dX3_wholeOf_108 (by decide) (by omega) (by omega) (fun c108 => ?_) (fun c108 => ?_)
    · refine lv_aload_n hx hb dX3_wholeOf_120 rfl (lv_at hl 0 rfl) ?_
      refine j_get hx hb hts hown hV hH wM_o rfl in_X3 0 (Nat.le_of_ble_eq_true rfl) q2229 (fun _ h => h) rfl dX3_wholeOf_121 ?_
      refine j_bipush hx hb dX3_wholeOf_124 (by decide) ?_
      refine lv_iload_n hx hb dX3_wholeOf_126 rfl (lv_at hl 1 rfl) ?_
      refine j_iadd hx hb dX3_wholeOf_127 ?_
      refine j_bipush hx hb dX3_wholeOf_128 (by decide) ?_
      refine j_isub hx hb dX3_wholeOf_130 ?_
      refine j_iald (n := 198) hx hb hV hH wM_0 (by omega) (by omega) dX3_wholeOf_131 ?_
      exact hret st hH dX3_wholeOf_132 (Nat.le_of_ble_eq_true rfl) (Nat.le_of_ble_eq_true rfl) (⟨by first | (rw [whoV_s (by omega) (by omega)]; done) | (rw [whoV_c (by omega)]; congr 1; omega), rfl⟩)
    · refine lv_aload_n hx hb dX3_wholeOf_111 rfl (lv_at hl 0 rfl) ?_
      refine j_get hx hb hts hown hV hH wM_o rfl in_X3 0 (Nat.le_of_ble_eq_true rfl) q2229 (fun _ h => h) rfl dX3_wholeOf_112 ?_
      refine lv_iload_n hx hb dX3_wholeOf_115 rfl (lv_at hl 1 rfl) ?_
      refine j_iald (n := 198) hx hb hV hH wM_0 (by omega) (by omega) dX3_wholeOf_116 ?_
      refine lv_goto (tgt := 132) hx hb dX3_wholeOf_117 (by decide) ?_
      exact hret st hH dX3_wholeOf_132 (Nat.le_of_ble_eq_true rfl) (Nat.le_of_ble_eq_true rfl) (⟨by first | (rw [whoV_s (by omega) (by omega)]; done) | (rw [whoV_c (by omega)]; congr 1; omega), rfl⟩)
  · refine j_tableIn (tgt := 52) hx hb 0 dX3_wholeOf_1 c1 (by decide) (by decide) rfl (by decide) ?_
    refine lv_aload_n hx hb dX3_wholeOf_52 rfl (lv_at hl 0 rfl) ?_
    refine j_get hx hb hts hown hV hH wM_o rfl in_X3 14 (Nat.le_of_ble_eq_true rfl) q2243 (fun _ h => h) rfl dX3_wholeOf_53 ?_
    refine j_top (b := cntO (st 0)) (hOR.1) ?_
    exact hret st hH dX3_wholeOf_56 (Nat.le_of_ble_eq_true rfl) (Nat.le_of_ble_eq_true rfl) (⟨by rw [c1]; rfl, rfl⟩)
  · refine j_tableIn (tgt := 57) hx hb 1 dX3_wholeOf_1 c1 (by decide) (by decide) rfl (by decide) ?_
    refine lv_aload_n hx hb dX3_wholeOf_57 rfl (lv_at hl 0 rfl) ?_
    refine j_get hx hb hts hown hV hH wM_o rfl in_X3 0 (Nat.le_of_ble_eq_true rfl) q2229 (fun _ h => h) rfl dX3_wholeOf_58 ?_
    refine j_iconst hx hb dX3_wholeOf_61 ?_
    refine j_iald (n := 198) hx hb hV hH wM_0 (by omega) (by omega) dX3_wholeOf_62 ?_
    exact hret st hH dX3_wholeOf_63 (Nat.le_of_ble_eq_true rfl) (Nat.le_of_ble_eq_true rfl) (⟨by rw [c1]; rfl, rfl⟩)
  · refine j_tableIn (tgt := 64) hx hb 2 dX3_wholeOf_1 c1 (by decide) (by decide) rfl (by decide) ?_
    refine lv_aload_n hx hb dX3_wholeOf_64 rfl (lv_at hl 0 rfl) ?_
    refine j_get hx hb hts hown hV hH wM_o rfl in_X3 0 (Nat.le_of_ble_eq_true rfl) q2229 (fun _ h => h) rfl dX3_wholeOf_65 ?_
    refine j_iconst hx hb dX3_wholeOf_68 ?_
    refine j_iald (n := 198) hx hb hV hH wM_0 (by omega) (by omega) dX3_wholeOf_69 ?_
    exact hret st hH dX3_wholeOf_70 (Nat.le_of_ble_eq_true rfl) (Nat.le_of_ble_eq_true rfl) (⟨by rw [c1]; rfl, rfl⟩)
  · refine j_tableIn (tgt := 71) hx hb 3 dX3_wholeOf_1 c1 (by decide) (by decide) rfl (by decide) ?_
    refine lv_aload_n hx hb dX3_wholeOf_71 rfl (lv_at hl 0 rfl) ?_
    refine j_callif (va_runV (As := []) (rest := []) ⟨hx, hb, hml, hown, hts⟩ (m_X3_sceneNow l o st w0 _ (h1) (by omega)) (cw_X3_sceneNow hts q2452 (Nat.le_of_ble_eq_true rfl) (Nat.le_of_ble_eq_true rfl)) (j_preV hV hH wM_o rfl) rfl rfl hl.1 rfl (lv_room (Nat.le_of_ble_eq_true rfl)) dX3_wholeOf_72 ⟨Nat.le_of_ble_eq_true rfl, Nat.le_of_ble_eq_true rfl⟩) hH (fun H locs hH => ?_)
    exact hret st hH dX3_wholeOf_75 (Nat.le_of_ble_eq_true rfl) (Nat.le_of_ble_eq_true rfl) (⟨by rw [c1]; rfl, rfl⟩)
  · refine j_tableIn (tgt := 76) hx hb 4 dX3_wholeOf_1 c1 (by decide) (by decide) rfl (by decide) ?_
    refine lv_aload_n hx hb dX3_wholeOf_76 rfl (lv_at hl 0 rfl) ?_
    refine j_get hx hb hts hown hV hH wM_o rfl in_X3 0 (Nat.le_of_ble_eq_true rfl) q2229 (fun _ h => h) rfl dX3_wholeOf_77 ?_
    refine j_iconst hx hb dX3_wholeOf_80 ?_
    refine j_iald (n := 198) hx hb hV hH wM_0 (by omega) (by omega) dX3_wholeOf_81 ?_
    exact hret st hH dX3_wholeOf_82 (Nat.le_of_ble_eq_true rfl) (Nat.le_of_ble_eq_true rfl) (⟨by rw [c1]; rfl, rfl⟩)
  · refine j_tableIn (tgt := 83) hx hb 5 dX3_wholeOf_1 c1 (by decide) (by decide) rfl (by decide) ?_
    refine lv_aload_n hx hb dX3_wholeOf_83 rfl (lv_at hl 0 rfl) ?_
    refine j_get hx hb hts hown hV hH wM_o rfl in_X3 0 (Nat.le_of_ble_eq_true rfl) q2229 (fun _ h => h) rfl dX3_wholeOf_84 ?_
    refine j_bipush hx hb dX3_wholeOf_87 (by decide) ?_
    refine j_iald (n := 198) hx hb hV hH wM_0 (by omega) (by omega) dX3_wholeOf_89 ?_
    exact hret st hH dX3_wholeOf_90 (Nat.le_of_ble_eq_true rfl) (Nat.le_of_ble_eq_true rfl) (⟨by rw [c1]; rfl, rfl⟩)
  · refine j_tableIn (tgt := 91) hx hb 6 dX3_wholeOf_1 c1 (by decide) (by decide) rfl (by decide) ?_
    refine lv_aload_n hx hb dX3_wholeOf_91 rfl (lv_at hl 0 rfl) ?_
    refine j_get hx hb hts hown hV hH wM_o rfl in_X3 12 (Nat.le_of_ble_eq_true rfl) q2241 (fun _ h => h) rfl dX3_wholeOf_92 ?_
    refine j_top (b := pctO (st 0) (st 0 5) (st 0 6)) (hPC) ?_
    exact hret st hH dX3_wholeOf_95 (Nat.le_of_ble_eq_true rfl) (Nat.le_of_ble_eq_true rfl) (⟨by rw [c1]; rfl, rfl⟩)
  · refine j_tableIn (tgt := 96) hx hb 7 dX3_wholeOf_1 c1 (by decide) (by decide) rfl (by decide) ?_
    refine lv_aload_n hx hb dX3_wholeOf_96 rfl (lv_at hl 0 rfl) ?_
    refine j_get hx hb hts hown hV hH wM_o rfl in_X3 15 (Nat.le_of_ble_eq_true rfl) q2244 (fun _ h => h) rfl dX3_wholeOf_97 ?_
    refine j_top (b := mlO (st 0)) (hMK.1) ?_
    exact hret st hH dX3_wholeOf_100 (Nat.le_of_ble_eq_true rfl) (Nat.le_of_ble_eq_true rfl) (⟨by rw [c1]; rfl, rfl⟩)
  · refine j_tableIn (tgt := 101) hx hb 8 dX3_wholeOf_1 c1 (by decide) (by decide) rfl (by decide) ?_
    refine lv_aload_n hx hb dX3_wholeOf_101 rfl (lv_at hl 0 rfl) ?_
    refine j_get hx hb hts hown hV hH wM_o rfl in_X3 16 (Nat.le_of_ble_eq_true rfl) q2245 (fun _ h => h) rfl dX3_wholeOf_102 ?_
    refine j_top (b := mrO (st 0)) (hMK.2) ?_
    exact hret st hH dX3_wholeOf_105 (Nat.le_of_ble_eq_true rfl) (Nat.le_of_ble_eq_true rfl) (⟨by rw [c1]; rfl, rfl⟩)
theorem cw_X3_ghostsNow {R : Room} {s : State} {args : Array Value} {own : String} {index lev mc ms : Nat} (hts : ∀ w ∈ lw_all, w.before args s = true) (hl : Cond.methodLink own index yX3_ghostsNow ∈ lw_all) (hR1 : (rmL lev mc ms).frames + 1 ≤ R.frames) (hR2 : 8 + (4 + 11) + (rmL lev mc ms).locals ≤ R.locals) : CallW R s args own RX3 index yX3_ghostsNow cX3_ghostsNow 4 (some .int) (ws_ yX3_ghostsNow cX3_ghostsNow 4 (some .int)) (rmL lev mc ms) mc ms 1 :=
  cwV 1 hts (lw_V hl q2610 qs95 q116 q2611) rfl rfl rfl (by decide +kernel) ⟨hR1, hR2⟩
set_option maxHeartbeats 4000000 in
theorem m_X3_ghostsNow {E : jE} (l : Launch) (o : Nat) (st : Ms) (w0 : Wl) (T : Int) (least : Int) (h1 : PWF T (st 0)) (h2 : -2147483648 ≤ least ∧ least ≤ 2147483647) : Met l yX3_ghostsNow (ws_ yX3_ghostsNow cX3_ghostsNow 4 (some .int)) (rmL 8 0 0) (va_Pc [.ref o, .int (iI least)] (jP E (wM E o st w0))) (jQi E (fun u : Ms => wM E o (svO st u) w0) (fun z u => z = ghsO (st 0) least)) 0 0 (jA E) := by
  refine j_metI (by decide) (Nat.le_of_ble_eq_true rfl) ?_
  intro p e s m args below meth c Q hx hb hml hown hnm hts hV hH hret ls hl
  have hl : lv_has ls 4 [(0, .ref o), (1, .int (iI least))] := hl
  have hA := h1.A
  have hB := h1.B
  have hwh := mul_b (a := st 0 0) (b := st 0 1) (A := 200) (B := 120) (by omega) (by omega)
  refine lv_aload_n hx hb dX3_ghostsNow_0 rfl (lv_at hl 0 rfl) ?_
  refine j_callv (va_runV (As := []) (rest := []) ⟨hx, hb, hml, hown, hts⟩ (m_X3_survey l o st w0 _ (h1)) (cw_X3_survey hts q2463 (Nat.le_of_ble_eq_true rfl) (Nat.le_of_ble_eq_true rfl)) (j_preV hV hH wM_o rfl) rfl rfl hl.1 rfl (lv_room (Nat.le_of_ble_eq_true rfl)) dX3_ghostsNow_1 ⟨Nat.le_of_ble_eq_true rfl, Nat.le_of_ble_eq_true rfl⟩) hH (fun u H locs hp hH => ?_)
  obtain ⟨u2, huu2⟩ : ∃ q, q = u := ⟨_, rfl⟩
  subst huu2
  have hH : jH E s.heap (wM E o (svO st u2) w0) H locs := hH
  have hp1 : (fun u => SVC (svO st u)) u2 := hp
  refine j_iconst hx hb dX3_ghostsNow_4 ?_
  refine j_istore_n (lv' := fun x3 => [(2, .int (iI x3)), (0, .ref o), (1, .int (iI least))]) hx hb dX3_ghostsNow_5 rfl hl (by decide) (fun _ => rfl) (fun x3 ex3 ls hl => ?_)
  refine j_iconst hx hb dX3_ghostsNow_6 ?_
  refine j_istore_n (lv' := fun x4 => [(3, .int (iI x4)), (2, .int (iI x3)), (0, .ref o), (1, .int (iI least))]) hx hb dX3_ghostsNow_7 rfl hl (by decide) (fun _ => rfl) (fun x4 ex4 ls hl => ?_)
  have L8 : ∀ (n_ : Nat), ∀ (acc : Int) (it : Int) (hm_ : 24000 - it < (n_ : Int)) (i1 : 0 ≤ it) (i2 : it ≤ st 0 0 * st 0 1 ∨ it = 0) (i3 : acc = ghsF (st 0) least it.toNat) (H : Heap) (locs : List Loc), jH E s.heap (wM E o (svO st u2) w0) H locs → ∀ ls : Array Slot, lv_has ls 4 [(0, .ref o), (1, .int (iI least)), (2, .int (iI acc)), (3, .int (iI it))] → W p l e (rmL 8 0 0) s m args below meth c H locs 0 0 Q (F0 m 8 ls []) := by
    intro n_
    induction n_ with
    | zero =>
      intro acc it hm_ i1 i2 i3 H locs hH ls hl
      exact absurd hm_ (by omega)
    | succ n_ ih_8 =>
      intro acc it hm_ i1 i2 i3 H locs hH ls hl
      have hgb := ghsF_b (st 0) least it.toNat
      refine lv_iload_n hx hb dX3_ghostsNow_8 rfl (lv_at hl 3 rfl) ?_
      refine lv_aload_n hx hb dX3_ghostsNow_9 rfl (lv_at hl 0 rfl) ?_
      refine j_get hx hb hts hown hV hH wM_o rfl in_X3 0 (Nat.le_of_ble_eq_true rfl) q2229 (fun _ h => h) rfl dX3_ghostsNow_10 ?_
      refine j_iconst hx hb dX3_ghostsNow_13 ?_
      refine j_iald (n := 198) hx hb hV hH wM_0 (by omega) (by omega) dX3_ghostsNow_14 ?_
      refine j_top (b := st 0 0) (rfl) ?_
      refine lv_aload_n hx hb dX3_ghostsNow_15 rfl (lv_at hl 0 rfl) ?_
      refine j_get hx hb hts hown hV hH wM_o rfl in_X3 0 (Nat.le_of_ble_eq_true rfl) q2229 (fun _ h => h) rfl dX3_ghostsNow_16 ?_
      refine j_iconst hx hb dX3_ghostsNow_19 ?_
      refine j_iald (n := 198) hx hb hV hH wM_0 (by omega) (by omega) dX3_ghostsNow_20 ?_
      refine j_top (b := st 0 1) (rfl) ?_
      refine j_imul hx hb dX3_ghostsNow_21 ?_
      refine j_icmp_ge (tgt := 63) hx hb dX3_ghostsNow_22 (by decide) (by omega) (by omega) (fun c22 => ?_) (fun c22 => ?_)
      · refine lv_iload_n hx hb dX3_ghostsNow_63 rfl (lv_at hl 2 rfl) ?_
        exact hret u2 hH dX3_ghostsNow_64 (Nat.le_of_ble_eq_true rfl) (Nat.le_of_ble_eq_true rfl) ((by rw [i3]; unfold ghsO; rw [show it.toNat = (st 0 0 * st 0 1).toNat by omega]))
      · have hdv := div_lt' (a := st 0 0) (by omega) i1 c22
        have hgo := ghoO_b h1 (it % st 0 0) (it / st 0 0)
        refine lv_iload_n hx hb dX3_ghostsNow_25 rfl (lv_at hl 2 rfl) ?_
        refine lv_aload_n hx hb dX3_ghostsNow_26 rfl (lv_at hl 0 rfl) ?_
        refine lv_iload_n hx hb dX3_ghostsNow_27 rfl (lv_at hl 3 rfl) ?_
        refine lv_aload_n hx hb dX3_ghostsNow_28 rfl (lv_at hl 0 rfl) ?_
        refine j_get hx hb hts hown hV hH wM_o rfl in_X3 0 (Nat.le_of_ble_eq_true rfl) q2229 (fun _ h => h) rfl dX3_ghostsNow_29 ?_
        refine j_iconst hx hb dX3_ghostsNow_32 ?_
        refine j_iald (n := 198) hx hb hV hH wM_0 (by omega) (by omega) dX3_ghostsNow_33 ?_
        refine j_top (b := st 0 0) (rfl) ?_
        refine j_irem hx hb dX3_ghostsNow_34 (by omega) (by omega) ?_
        refine lv_iload_n hx hb dX3_ghostsNow_35 rfl (lv_at hl 3 rfl) ?_
        refine lv_aload_n hx hb dX3_ghostsNow_36 rfl (lv_at hl 0 rfl) ?_
        refine j_get hx hb hts hown hV hH wM_o rfl in_X3 0 (Nat.le_of_ble_eq_true rfl) q2229 (fun _ h => h) rfl dX3_ghostsNow_37 ?_
        refine j_iconst hx hb dX3_ghostsNow_40 ?_
        refine j_iald (n := 198) hx hb hV hH wM_0 (by omega) (by omega) dX3_ghostsNow_41 ?_
        refine j_top (b := st 0 0) (rfl) ?_
        refine j_idiv hx hb dX3_ghostsNow_42 (by omega) (by omega) ?_
        refine j_callif (va_runV (As := [.int (iI (it % (st 0 0))), .int (iI (it / (st 0 0)))]) (rest := [.int (iI acc)]) ⟨hx, hb, hml, hown, hts⟩ (m_X3_ghostOf l o (svO st u2) w0 _ (it % (st 0 0)) (it / (st 0 0)) (h1) (hp1) (by omega) (by omega)) (cw_X3_ghostOf hts q2600 (Nat.le_of_ble_eq_true rfl) (Nat.le_of_ble_eq_true rfl)) (j_preV hV hH wM_o rfl) rfl rfl hl.1 rfl (lv_room (Nat.le_of_ble_eq_true rfl)) dX3_ghostsNow_43 ⟨Nat.le_of_ble_eq_true rfl, Nat.le_of_ble_eq_true rfl⟩) hH (fun H locs hH => ?_)
        refine j_top (b := ghoO (st 0) (it % (st 0 0)) (it / (st 0 0))) rfl ?_
        refine lv_iload_n hx hb dX3_ghostsNow_46 rfl (lv_at hl 1 rfl) ?_
        refine j_icmp_lt (tgt := 54) hx hb dX3_ghostsNow_47 (by decide) (by omega) (by omega) (fun c47 => ?_) (fun c47 => ?_)
        · refine j_iconst hx hb dX3_ghostsNow_54 ?_
          refine j_iadd hx hb dX3_ghostsNow_55 ?_
          refine j_istore_n (lv' := fun x5 => [(2, .int (iI x5)), (0, .ref o), (1, .int (iI least)), (3, .int (iI it))]) hx hb dX3_ghostsNow_56 rfl hl (by decide) (fun _ => rfl) (fun x5 ex5 ls hl => ?_)
          refine j_iinc (k := 3) (lv' := fun x6 => [(3, .int (iI x6)), (2, .int (iI x5)), (0, .ref o), (1, .int (iI least))]) hx hb dX3_ghostsNow_57 hl rfl (by decide) (fun _ => rfl) (fun x6 ex6 ls hl => ?_)
          refine lv_goto (tgt := 8) hx hb dX3_ghostsNow_60 (by decide) ?_
          exact ih_8 x5 x6 (by omega) (by first | assumption | omega) (by omega) (by rw [ex5, ex6, show (it + 1).toNat = it.toNat + 1 by omega, ghsF, show ((it.toNat : Nat) : Int) = it by omega, ← i3]; first | rw [bI_t (by omega)] | rw [bI_f (by omega)]) _ _ hH ls (lv_sub hl [2, 3, 1, 0] rfl)
        · refine j_iconst hx hb dX3_ghostsNow_50 ?_
          refine lv_goto (tgt := 55) hx hb dX3_ghostsNow_51 (by decide) ?_
          refine j_iadd hx hb dX3_ghostsNow_55 ?_
          refine j_istore_n (lv' := fun x7 => [(2, .int (iI x7)), (0, .ref o), (1, .int (iI least)), (3, .int (iI it))]) hx hb dX3_ghostsNow_56 rfl hl (by decide) (fun _ => rfl) (fun x7 ex7 ls hl => ?_)
          refine j_iinc (k := 3) (lv' := fun x8 => [(3, .int (iI x8)), (2, .int (iI x7)), (0, .ref o), (1, .int (iI least))]) hx hb dX3_ghostsNow_57 hl rfl (by decide) (fun _ => rfl) (fun x8 ex8 ls hl => ?_)
          refine lv_goto (tgt := 8) hx hb dX3_ghostsNow_60 (by decide) ?_
          exact ih_8 x7 x8 (by omega) (by first | assumption | omega) (by omega) (by rw [ex7, ex8, show (it + 1).toNat = it.toNat + 1 by omega, ghsF, show ((it.toNat : Nat) : Int) = it by omega, ← i3]; first | rw [bI_t (by omega)] | rw [bI_f (by omega)]) _ _ hH ls (lv_sub hl [2, 3, 1, 0] rfl)
  exact L8 ((24000 - x4).toNat + 1) x3 x4 (by omega) (by first | assumption | omega) (by omega) (by rw [ex3, ex4]; rfl) _ _ hH ls (lv_sub hl [2, 3, 1, 0] rfl)
