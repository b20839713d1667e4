/-! THE SYSTEM's METHODS: numbers -/
set_option maxRecDepth 100000
theorem cw_J12_max {R : Room} {s : State} {args : Array Value} {own : String} {index lev mc ms : Nat} (hts : ∀ w ∈ lw_all, w.before args s = true) (hl : Cond.methodLink own index yJ12_max ∈ lw_all) (hR1 : (rmL lev mc ms).frames + 1 ≤ R.frames) (hR2 : 8 + (2 + 11) + (rmL lev mc ms).locals ≤ R.locals) : CallB R s args own index yJ12_max cJ12_max 2 (some .int) (ws_ yJ12_max cJ12_max 2 (some .int)) (rmL lev mc ms) mc ms 2 ∧ (Cond.static yJ12_max).before args s = true :=
  va_cwS 2 hts (lw_S hl q496 q123 q497) rfl rfl rfl (by decide +kernel) ⟨hR1, hR2⟩
set_option maxHeartbeats 4000000 in
theorem m_J12_max {E : jE} (l : Launch) (w : Wl) (a : Int) (b : Int) (h1 : -2147483648 ≤ a ∧ a ≤ 2147483647) (h2 : -2147483648 ≤ b ∧ b ≤ 2147483647) : Met l yJ12_max (ws_ yJ12_max cJ12_max 2 (some .int)) (rmL 1 0 0) (va_Pc [.int (iI a), .int (iI b)] (jP E w)) (jQi E (fun _ : Unit => w) (fun z _ => z = max a b)) 0 0 (jA E) := by
  refine j_metIF pf_J12_max (Nat.le_of_ble_eq_true rfl) ?_
  intro p e s m args below meth c Q hx hb hml hown hnm hts hV hH hret ls hl
  have hl : lv_has ls 2 [(0, .int (iI a)), (1, .int (iI b))] := hl
  refine lv_iload_n hx hb dJ12_max_0 rfl (lv_at hl 0 rfl) ?_
  refine lv_iload_n hx hb dJ12_max_1 rfl (lv_at hl 1 rfl) ?_
  refine j_icmp_lt (tgt := 9) hx hb dJ12_max_2 (by decide) (by omega) (by omega) (fun c2 => ?_) (fun c2 => ?_)
  · refine lv_iload_n hx hb dJ12_max_9 rfl (lv_at hl 1 rfl) ?_
    exact hret () hH dJ12_max_10 (Nat.le_of_ble_eq_true rfl) (Nat.le_of_ble_eq_true rfl) (by omega)
  · refine lv_iload_n hx hb dJ12_max_5 rfl (lv_at hl 0 rfl) ?_
    refine lv_goto (tgt := 10) hx hb dJ12_max_6 (by decide) ?_
    exact hret () hH dJ12_max_10 (Nat.le_of_ble_eq_true rfl) (Nat.le_of_ble_eq_true rfl) (by omega)
theorem cw_J12_min {R : Room} {s : State} {args : Array Value} {own : String} {index lev mc ms : Nat} (hts : ∀ w ∈ lw_all, w.before args s = true) (hl : Cond.methodLink own index yJ12_min ∈ lw_all) (hR1 : (rmL lev mc ms).frames + 1 ≤ R.frames) (hR2 : 8 + (2 + 11) + (rmL lev mc ms).locals ≤ R.locals) : CallB R s args own index yJ12_min cJ12_min 2 (some .int) (ws_ yJ12_min cJ12_min 2 (some .int)) (rmL lev mc ms) mc ms 2 ∧ (Cond.static yJ12_min).before args s = true :=
  va_cwS 2 hts (lw_S hl q540 q123 q541) rfl rfl rfl (by decide +kernel) ⟨hR1, hR2⟩
set_option maxHeartbeats 4000000 in
theorem m_J12_min {E : jE} (l : Launch) (w : Wl) (a : Int) (b : Int) (h1 : -2147483648 ≤ a ∧ a ≤ 2147483647) (h2 : -2147483648 ≤ b ∧ b ≤ 2147483647) : Met l yJ12_min (ws_ yJ12_min cJ12_min 2 (some .int)) (rmL 1 0 0) (va_Pc [.int (iI a), .int (iI b)] (jP E w)) (jQi E (fun _ : Unit => w) (fun z _ => z = min a b)) 0 0 (jA E) := by
  refine j_metIF pf_J12_min (Nat.le_of_ble_eq_true rfl) ?_
  intro p e s m args below meth c Q hx hb hml hown hnm hts hV hH hret ls hl
  have hl : lv_has ls 2 [(0, .int (iI a)), (1, .int (iI b))] := hl
  refine lv_iload_n hx hb dJ12_min_0 rfl (lv_at hl 0 rfl) ?_
  refine lv_iload_n hx hb dJ12_min_1 rfl (lv_at hl 1 rfl) ?_
  refine j_icmp_gt (tgt := 9) hx hb dJ12_min_2 (by decide) (by omega) (by omega) (fun c2 => ?_) (fun c2 => ?_)
  · refine lv_iload_n hx hb dJ12_min_9 rfl (lv_at hl 1 rfl) ?_
    exact hret () hH dJ12_min_10 (Nat.le_of_ble_eq_true rfl) (Nat.le_of_ble_eq_true rfl) (by omega)
  · refine lv_iload_n hx hb dJ12_min_5 rfl (lv_at hl 0 rfl) ?_
    refine lv_goto (tgt := 10) hx hb dJ12_min_6 (by decide) ?_
    exact hret () hH dJ12_min_10 (Nat.le_of_ble_eq_true rfl) (Nat.le_of_ble_eq_true rfl) (by omega)
theorem cw_J12_abs {R : Room} {s : State} {args : Array Value} {own : String} {index lev mc ms : Nat} (hts : ∀ w ∈ lw_all, w.before args s = true) (hl : Cond.methodLink own index yJ12_abs ∈ lw_all) (hR1 : (rmL lev mc ms).frames + 1 ≤ R.frames) (hR2 : 8 + (1 + 11) + (rmL lev mc ms).locals ≤ R.locals) : CallB R s args own index yJ12_abs cJ12_abs 1 (some .int) (ws_ yJ12_abs cJ12_abs 1 (some .int)) (rmL lev mc ms) mc ms 1 ∧ (Cond.static yJ12_abs).before args s = true :=
  va_cwS 1 hts (lw_S hl q2122 q123 q2123) rfl rfl rfl (by decide +kernel) ⟨hR1, hR2⟩
set_option maxHeartbeats 4000000 in
theorem m_J12_abs {E : jE} (l : Launch) (w : Wl) (a : Int) (h1 : -2147483648 ≤ a ∧ a ≤ 2147483647) : Met l yJ12_abs (ws_ yJ12_abs cJ12_abs 1 (some .int)) (rmL 1 0 0) (va_Pc [.int (iI a)] (jP E w)) (jQi E (fun _ : Unit => w) (fun z _ => z = (if a < 0 then -a else a))) 0 0 (jA E) := by
  refine j_metIF pf_J12_abs (Nat.le_of_ble_eq_true rfl) ?_
  intro p e s m args below meth c Q hx hb hml hown hnm hts hV hH hret ls hl
  have hl : lv_has ls 1 [(0, .int (iI a))] := hl
  refine lv_iload_n hx hb dJ12_abs_0 rfl (lv_at hl 0 rfl) ?_
  refine j_if_ge (tgt := 9) hx hb dJ12_abs_1 (by decide) (by omega) (fun c1 => ?_) (fun c1 => ?_)
  · refine lv_iload_n hx hb dJ12_abs_9 rfl (lv_at hl 0 rfl) ?_
    exact hret () hH dJ12_abs_10 (Nat.le_of_ble_eq_true rfl) (Nat.le_of_ble_eq_true rfl) (by omega)
  · refine lv_iload_n hx hb dJ12_abs_4 rfl (lv_at hl 0 rfl) ?_
    refine j_ineg hx hb dJ12_abs_5 ?_
    refine lv_goto (tgt := 10) hx hb dJ12_abs_6 (by decide) ?_
    exact hret () hH dJ12_abs_10 (Nat.le_of_ble_eq_true rfl) (Nat.le_of_ble_eq_true rfl) (by omega)
theorem cw_J24_compare {R : Room} {s : State} {args : Array Value} {own : String} {index lev mc ms : Nat} (hts : ∀ w ∈ lw_all, w.before args s = true) (hl : Cond.methodLink own index yJ24_compare ∈ lw_all) (hR1 : (rmL lev mc ms).frames + 1 ≤ R.frames) (hR2 : 8 + (2 + 11) + (rmL lev mc ms).locals ≤ R.locals) : CallB R s args own index yJ24_compare cJ24_compare 2 (some .int) (ws_ yJ24_compare cJ24_compare 2 (some .int)) (rmL lev mc ms) mc ms 2 ∧ (Cond.static yJ24_compare).before args s = true :=
  va_cwS 2 hts (lw_S hl q1600 q140 q1601) rfl rfl rfl (by decide +kernel) ⟨hR1, hR2⟩
set_option maxHeartbeats 4000000 in
theorem m_J24_compare {E : jE} (l : Launch) (w : Wl) (a : Int) (b : Int) (h1 : -2147483648 ≤ a ∧ a ≤ 2147483647) (h2 : -2147483648 ≤ b ∧ b ≤ 2147483647) : Met l yJ24_compare (ws_ yJ24_compare cJ24_compare 2 (some .int)) (rmL 1 0 0) (va_Pc [.int (iI a), .int (iI b)] (jP E w)) (jQi E (fun _ : Unit => w) (fun z _ => z = (if a < b then -1 else if a = b then 0 else 1))) 0 0 (jA E) := by
  refine j_metI (by decide) (Nat.le_of_ble_eq_true rfl) ?_
  intro p e s m args below meth c Q hx hb hml hown hnm hts hV hH hret ls hl
  have hl : lv_has ls 2 [(0, .int (iI a)), (1, .int (iI b))] := hl
  refine lv_iload_n hx hb dJ24_compare_0 rfl (lv_at hl 0 rfl) ?_
  refine lv_iload_n hx hb dJ24_compare_1 rfl (lv_at hl 1 rfl) ?_
  refine j_icmp_ge (tgt := 9) hx hb dJ24_compare_2 (by decide) (by omega) (by omega) (fun c2 => ?_) (fun c2 => ?_)
  · refine lv_iload_n hx hb dJ24_compare_9 rfl (lv_at hl 0 rfl) ?_
    refine lv_iload_n hx hb dJ24_compare_10 rfl (lv_at hl 1 rfl) ?_
    refine j_icmp_ne (tgt := 18) hx hb dJ24_compare_11 (by decide) (by omega) (by omega) (fun c11 => ?_) (fun c11 => ?_)
    · refine j_iconst hx hb dJ24_compare_18 ?_
      exact hret () hH dJ24_compare_19 (Nat.le_of_ble_eq_true rfl) (Nat.le_of_ble_eq_true rfl) (by omega)
    · refine j_iconst hx hb dJ24_compare_14 ?_
      refine lv_goto (tgt := 19) hx hb dJ24_compare_15 (by decide) ?_
      exact hret () hH dJ24_compare_19 (Nat.le_of_ble_eq_true rfl) (Nat.le_of_ble_eq_true rfl) (by omega)
  · refine j_iconst hx hb dJ24_compare_5 ?_
    refine lv_goto (tgt := 19) hx hb dJ24_compare_6 (by decide) ?_
    exact hret () hH dJ24_compare_19 (Nat.le_of_ble_eq_true rfl) (Nat.le_of_ble_eq_true rfl) (by omega)
theorem cw_J12_floorDiv {R : Room} {s : State} {args : Array Value} {own : String} {index lev mc ms : Nat} (hts : ∀ w ∈ lw_all, w.before args s = true) (hl : Cond.methodLink own index yJ12_floorDiv ∈ lw_all) (hR1 : (rmL lev mc ms).frames + 1 ≤ R.frames) (hR2 : 8 + (3 + 11) + (rmL lev mc ms).locals ≤ R.locals) : CallB R s args own index yJ12_floorDiv cJ12_floorDiv 3 (some .int) (ws_ yJ12_floorDiv cJ12_floorDiv 3 (some .int)) (rmL lev mc ms) mc ms 2 ∧ (Cond.static yJ12_floorDiv).before args s = true :=
  va_cwS 2 hts (lw_S hl q1028 q123 q1029) rfl rfl rfl (by decide +kernel) ⟨hR1, hR2⟩
set_option maxHeartbeats 4000000 in
theorem m_J12_floorDiv {E : jE} (l : Launch) (w : Wl) (a : Int) (b : Int) (h1 : -1000000000 ≤ a ∧ a ≤ 1000000000) (h2 : 0 < b ∧ b ≤ 1000) : Met l yJ12_floorDiv (ws_ yJ12_floorDiv cJ12_floorDiv 3 (some .int)) (rmL 1 0 0) (va_Pc [.int (iI a), .int (iI b)] (jP E w)) (jQi E (fun _ : Unit => w) (fun z _ => z = a / b)) 0 0 (jA E) := by
  refine j_metIF pf_J12_floorDiv (Nat.le_of_ble_eq_true rfl) ?_
  intro p e s m args below meth c Q hx hb hml hown hnm hts hV hH hret ls hl
  have hl : lv_has ls 3 [(0, .int (iI a)), (1, .int (iI b))] := hl
  have htb := tdvO_b (a := a) h2.1
  refine lv_iload_n hx hb dJ12_floorDiv_0 rfl (lv_at hl 0 rfl) ?_
  refine lv_iload_n hx hb dJ12_floorDiv_1 rfl (lv_at hl 1 rfl) ?_
  refine j_idivs hx hb dJ12_floorDiv_2 (by omega) (by omega) ?_
  refine j_istore_n (lv' := fun x1 => [(2, .int (iI x1)), (0, .int (iI a)), (1, .int (iI b))]) hx hb dJ12_floorDiv_3 rfl hl (by decide) (fun _ => rfl) (fun x1 ex1 ls hl => ?_)
  refine lv_iload_n hx hb dJ12_floorDiv_4 rfl (lv_at hl 1 rfl) ?_
  refine lv_iload_n hx hb dJ12_floorDiv_5 rfl (lv_at hl 2 rfl) ?_
  refine lv_ixor hx hb dJ12_floorDiv_6 ?_
  refine j_ifx_ge (tgt := 21) hx hb dJ12_floorDiv_7 (by decide) (by omega) (by omega) (fun c7 => ?_) (fun c7 => ?_)
  · refine lv_iload_n hx hb dJ12_floorDiv_21 rfl (lv_at hl 0 rfl) ?_
    exact hret () hH dJ12_floorDiv_22 (Nat.le_of_ble_eq_true rfl) (Nat.le_of_ble_eq_true rfl) (by rw [ex1]; first | exact flo_pos c7 | exact flo_eq h2.1 c7 (by rw [← ex1]; exact c14))
  · have htm := tdv_mul (a := a) h2.1
    rw [← ex1] at htm htb
    refine lv_iload_n hx hb dJ12_floorDiv_10 rfl (lv_at hl 0 rfl) ?_
    refine lv_iload_n hx hb dJ12_floorDiv_11 rfl (lv_at hl 2 rfl) ?_
    refine j_imul hx hb dJ12_floorDiv_12 ?_
    refine lv_iload_n hx hb dJ12_floorDiv_13 rfl (lv_at hl 1 rfl) ?_
    refine j_icmp_eq (tgt := 21) hx hb dJ12_floorDiv_14 (by decide) (by omega) (by omega) (fun c14 => ?_) (fun c14 => ?_)
    · refine lv_iload_n hx hb dJ12_floorDiv_21 rfl (lv_at hl 0 rfl) ?_
      exact hret () hH dJ12_floorDiv_22 (Nat.le_of_ble_eq_true rfl) (Nat.le_of_ble_eq_true rfl) (by rw [ex1]; first | exact flo_pos c7 | exact flo_eq h2.1 c7 (by rw [← ex1]; exact c14))
    · refine lv_iload_n hx hb dJ12_floorDiv_17 rfl (lv_at hl 0 rfl) ?_
      refine j_iconst hx hb dJ12_floorDiv_18 ?_
      refine j_isub hx hb dJ12_floorDiv_19 ?_
      exact hret () hH dJ12_floorDiv_20 (Nat.le_of_ble_eq_true rfl) (Nat.le_of_ble_eq_true rfl) (by rw [ex1]; exact flo_ne h2.1 c7 (by rw [← ex1]; exact c14))
theorem cw_X1_scaled {R : Room} {s : State} {args : Array Value} {own : String} {index lev mc ms : Nat} (hts : ∀ w ∈ lw_all, w.before args s = true) (hl : Cond.methodLink own index yX1_scaled ∈ lw_all) (hR1 : (rmL lev mc ms).frames + 1 ≤ R.frames) (hR2 : 8 + (2 + 11) + (rmL lev mc ms).locals ≤ R.locals) : CallB R s args own index yX1_scaled cX1_scaled 2 (some .int) (ws_ yX1_scaled cX1_scaled 2 (some .int)) (rmL lev mc ms) mc ms 2 ∧ (Cond.static yX1_scaled).before args s = true :=
  va_cwS 2 hts (lw_S hl q1025 q108 q1026) rfl rfl rfl (by decide +kernel) ⟨hR1, hR2⟩
set_option maxHeartbeats 4000000 in
theorem m_X1_scaled {E : jE} (l : Launch) (w : Wl) (v : Int) (q : Int) (h1 : -100000 ≤ v ∧ v ≤ 100000) (h2 : 0 ≤ q ∧ q ≤ 100) : Met l yX1_scaled (ws_ yX1_scaled cX1_scaled 2 (some .int)) (rmL 2 0 0) (va_Pc [.int (iI v), .int (iI q)] (jP E w)) (jQi E (fun _ : Unit => w) (fun z _ => z = v * q / 100)) 0 0 (jA E) := by
  refine j_metI (by decide) (Nat.le_of_ble_eq_true rfl) ?_
  intro p e s m args below meth c Q hx hb hml hown hnm hts hV hH hret ls hl
  have hl : lv_has ls 2 [(0, .int (iI v)), (1, .int (iI q))] := hl
  have hm := mul_b (a := v) (b := q) (A := 100000) (B := 100) (by omega) (by omega)
  refine lv_iload_n hx hb dX1_scaled_0 rfl (lv_at hl 0 rfl) ?_
  refine lv_iload_n hx hb dX1_scaled_1 rfl (lv_at hl 1 rfl) ?_
  refine j_imul hx hb dX1_scaled_2 ?_
  refine j_bipush hx hb dX1_scaled_3 (by decide) ?_
  refine j_callip (va_runS (As := [.int (iI (v * q)), .int (iI 100)]) (rest := []) ⟨hx, hb, hml, hown, hts⟩ (m_J12_floorDiv l _ (v * q) 100 (by omega) (by omega)) (cw_J12_floorDiv hts q1027 (Nat.le_of_ble_eq_true rfl) (Nat.le_of_ble_eq_true rfl)) (j_preS hV hH) rfl rfl hl.1 rfl (lv_room (Nat.le_of_ble_eq_true rfl)) dX1_scaled_5 ⟨Nat.le_of_ble_eq_true rfl, Nat.le_of_ble_eq_true rfl⟩) hH (fun H locs hH => ?_)
  exact hret () hH dX1_scaled_8 (Nat.le_of_ble_eq_true rfl) (Nat.le_of_ble_eq_true rfl) (by first | rfl | omega)
theorem cw_X1_inRange {R : Room} {s : State} {args : Array Value} {own : String} {index lev mc ms : Nat} (hts : ∀ w ∈ lw_all, w.before args s = true) (hl : Cond.methodLink own index yX1_inRange ∈ lw_all) (hR1 : (rmL lev mc ms).frames + 1 ≤ R.frames) (hR2 : 8 + (6 + 11) + (rmL lev mc ms).locals ≤ R.locals) : CallB R s args own index yX1_inRange cX1_inRange 6 (some .boolean) (ws_ yX1_inRange cX1_inRange 6 (some .boolean)) (rmL lev mc ms) mc ms 3 ∧ (Cond.static yX1_inRange).before args s = true :=
  va_cwS 3 hts (lw_S hl q1032 q108 q1033) rfl rfl rfl (by decide +kernel) ⟨hR1, hR2⟩
set_option maxHeartbeats 4000000 in
theorem m_X1_inRange {E : jE} (l : Launch) (w : Wl) (v : Int) (lo : Int) (hi : Int) (h1 : -9223372036854775808 ≤ v ∧ v ≤ 9223372036854775807) (h2 : -9223372036854775808 ≤ lo ∧ lo ≤ 9223372036854775807) (h3 : -9223372036854775808 ≤ hi ∧ hi ≤ 9223372036854775807) : Met l yX1_inRange (ws_ yX1_inRange cX1_inRange 6 (some .boolean)) (rmL 1 0 0) (va_Pc [.long (lL v), .long (lL lo), .long (lL hi)] (jP E w)) (jQi E (fun _ : Unit => w) (fun z _ => z = bI (lo ≤ v ∧ v ≤ hi))) 0 0 (jA E) := by
  refine j_metZ (by decide) (Nat.le_of_ble_eq_true rfl) ?_
  intro p e s m args below meth c Q hx hb hml hown hnm hts hV hH hret ls hl
  have hl : lv_has ls 6 [(0, .long (lL v)), (2, .long (lL lo)), (4, .long (lL hi))] := hl
  refine lv_lload_n hx hb dX1_inRange_0 rfl (lv_at hl 0 rfl) ?_
  refine lv_lload_n hx hb dX1_inRange_1 rfl (lv_at hl 1 rfl) ?_
  refine j_lcmp hx hb dX1_inRange_2 (by omega) (by omega) ?_
  refine j_ifc_lt (tgt := 17) hx hb dX1_inRange_3 (by decide) (fun c3 => ?_) (fun c3 => ?_)
  · refine j_iconst hx hb dX1_inRange_17 ?_
    exact hret () hH dX1_inRange_18 (Nat.le_of_ble_eq_true rfl) (Nat.le_of_ble_eq_true rfl) (by decide) (by first | exact (bI_t (by omega)).symm | exact (bI_f (by omega)).symm)
  · refine lv_lload_n hx hb dX1_inRange_6 rfl (lv_at hl 0 rfl) ?_
    refine lv_lload hx hb dX1_inRange_7 (lv_at hl 2 rfl) ?_
    refine j_lcmp hx hb dX1_inRange_9 (by omega) (by omega) ?_
    refine j_ifc_gt (tgt := 17) hx hb dX1_inRange_10 (by decide) (fun c10 => ?_) (fun c10 => ?_)
    · refine j_iconst hx hb dX1_inRange_17 ?_
      exact hret () hH dX1_inRange_18 (Nat.le_of_ble_eq_true rfl) (Nat.le_of_ble_eq_true rfl) (by decide) (by first | exact (bI_t (by omega)).symm | exact (bI_f (by omega)).symm)
    · refine j_iconst hx hb dX1_inRange_13 ?_
      refine lv_goto (tgt := 18) hx hb dX1_inRange_14 (by decide) ?_
      exact hret () hH dX1_inRange_18 (Nat.le_of_ble_eq_true rfl) (Nat.le_of_ble_eq_true rfl) (by decide) (by first | exact (bI_t (by omega)).symm | exact (bI_f (by omega)).symm)
theorem cw_X1_isPlace {R : Room} {s : State} {args : Array Value} {own : String} {index lev mc ms : Nat} (hts : ∀ w ∈ lw_all, w.before args s = true) (hl : Cond.methodLink own index yX1_isPlace ∈ lw_all) (hR1 : (rmL lev mc ms).frames + 1 ≤ R.frames) (hR2 : 8 + (3 + 11) + (rmL lev mc ms).locals ≤ R.locals) : CallB R s args own index yX1_isPlace cX1_isPlace 3 (some .boolean) (ws_ yX1_isPlace cX1_isPlace 3 (some .boolean)) (rmL lev mc ms) mc ms 3 ∧ (Cond.static yX1_isPlace).before args s = true :=
  va_cwS 3 hts (lw_S hl q1252 q108 q1253) rfl rfl rfl (by decide +kernel) ⟨hR1, hR2⟩
set_option maxHeartbeats 4000000 in
theorem m_X1_isPlace {E : jE} (l : Launch) (w : Wl) (a : Int) (b : Int) (c1 : Int) (h1 : -2147483648 ≤ a ∧ a ≤ 2147483647) (h2 : -2147483648 ≤ b ∧ b ≤ 2147483647) (h3 : -2147483648 ≤ c1 ∧ c1 ≤ 2147483647) : Met l yX1_isPlace (ws_ yX1_isPlace cX1_isPlace 3 (some .boolean)) (rmL 2 0 0) (va_Pc [.int (iI a), .int (iI b), .int (iI c1)] (jP E w)) (jQi E (fun _ : Unit => w) (fun z _ => z = bI ((-200 ≤ a ∧ a ≤ 200) ∧ (-200 ≤ b ∧ b ≤ 200) ∧ -200 ≤ c1 ∧ c1 ≤ 200))) 0 0 (jA E) := by
  refine j_metZ (by decide) (Nat.le_of_ble_eq_true rfl) ?_
  intro p e s m args below meth c Q hx hb hml hown hnm hts hV hH hret ls hl
  have hl : lv_has ls 3 [(0, .int (iI a)), (1, .int (iI b)), (2, .int (iI c1))] := hl
  refine lv_iload_n hx hb dX1_isPlace_0 rfl (lv_at hl 0 rfl) ?_
  refine j_i2l hx hb dX1_isPlace_1 (by omega) ?_
  refine j_ldc2 (z := (-200)) hx hb hts hown q1254 dX1_isPlace_2 (by decide +kernel) ?_
  refine j_ldc2 (z := 200) hx hb hts hown q1232 dX1_isPlace_5 (by decide +kernel) ?_
  refine j_callip (va_runS (As := [.long (lL a), .long (lL (-200)), .long (lL 200)]) (rest := []) ⟨hx, hb, hml, hown, hts⟩ (m_X1_inRange l _ a (-200) 200 (by omega) (by omega) (by omega)) (cw_X1_inRange hts q1233 (Nat.le_of_ble_eq_true rfl) (Nat.le_of_ble_eq_true rfl)) (j_preS hV hH) rfl rfl hl.1 rfl (lv_room (Nat.le_of_ble_eq_true rfl)) dX1_isPlace_8 ⟨Nat.le_of_ble_eq_true rfl, Nat.le_of_ble_eq_true rfl⟩) hH (fun H locs hH => ?_)
  refine j_ifeq_b (tgt := 46) hx hb dX1_isPlace_11 (by decide) (fun c11 => ?_) (fun c11 => ?_)
  · refine j_iconst hx hb dX1_isPlace_46 ?_
    exact hret () hH dX1_isPlace_47 (Nat.le_of_ble_eq_true rfl) (Nat.le_of_ble_eq_true rfl) (by decide) (by first | exact (bI_t (by omega)).symm | exact (bI_f (by omega)).symm)
  · refine lv_iload_n hx hb dX1_isPlace_14 rfl (lv_at hl 1 rfl) ?_
    refine j_i2l hx hb dX1_isPlace_15 (by omega) ?_
    refine j_ldc2 (z := (-200)) hx hb hts hown q1254 dX1_isPlace_16 (by decide +kernel) ?_
    refine j_ldc2 (z := 200) hx hb hts hown q1232 dX1_isPlace_19 (by decide +kernel) ?_
    refine j_callip (va_runS (As := [.long (lL b), .long (lL (-200)), .long (lL 200)]) (rest := []) ⟨hx, hb, hml, hown, hts⟩ (m_X1_inRange l _ b (-200) 200 (by omega) (by omega) (by omega)) (cw_X1_inRange hts q1233 (Nat.le_of_ble_eq_true rfl) (Nat.le_of_ble_eq_true rfl)) (j_preS hV hH) rfl rfl hl.1 rfl (lv_room (Nat.le_of_ble_eq_true rfl)) dX1_isPlace_22 ⟨Nat.le_of_ble_eq_true rfl, Nat.le_of_ble_eq_true rfl⟩) hH (fun H locs hH => ?_)
    refine j_ifeq_b (tgt := 46) hx hb dX1_isPlace_25 (by decide) (fun c25 => ?_) (fun c25 => ?_)
    · refine j_iconst hx hb dX1_isPlace_46 ?_
      exact hret () hH dX1_isPlace_47 (Nat.le_of_ble_eq_true rfl) (Nat.le_of_ble_eq_true rfl) (by decide) (by first | exact (bI_t (by omega)).symm | exact (bI_f (by omega)).symm)
    · refine lv_iload_n hx hb dX1_isPlace_28 rfl (lv_at hl 2 rfl) ?_
      refine j_i2l hx hb dX1_isPlace_29 (by omega) ?_
      refine j_ldc2 (z := (-200)) hx hb hts hown q1254 dX1_isPlace_30 (by decide +kernel) ?_
      refine j_ldc2 (z := 200) hx hb hts hown q1232 dX1_isPlace_33 (by decide +kernel) ?_
      refine j_callip (va_runS (As := [.long (lL c1), .long (lL (-200)), .long (lL 200)]) (rest := []) ⟨hx, hb, hml, hown, hts⟩ (m_X1_inRange l _ c1 (-200) 200 (by omega) (by omega) (by omega)) (cw_X1_inRange hts q1233 (Nat.le_of_ble_eq_true rfl) (Nat.le_of_ble_eq_true rfl)) (j_preS hV hH) rfl rfl hl.1 rfl (lv_room (Nat.le_of_ble_eq_true rfl)) dX1_isPlace_36 ⟨Nat.le_of_ble_eq_true rfl, Nat.le_of_ble_eq_true rfl⟩) hH (fun H locs hH => ?_)
      refine j_ifeq_b (tgt := 46) hx hb dX1_isPlace_39 (by decide) (fun c39 => ?_) (fun c39 => ?_)
      · refine j_iconst hx hb dX1_isPlace_46 ?_
        exact hret () hH dX1_isPlace_47 (Nat.le_of_ble_eq_true rfl) (Nat.le_of_ble_eq_true rfl) (by decide) (by first | exact (bI_t (by omega)).symm | exact (bI_f (by omega)).symm)
      · refine j_iconst hx hb dX1_isPlace_42 ?_
        refine lv_goto (tgt := 47) hx hb dX1_isPlace_43 (by decide) ?_
        exact hret () hH dX1_isPlace_47 (Nat.le_of_ble_eq_true rfl) (Nat.le_of_ble_eq_true rfl) (by decide) (by first | exact (bI_t (by omega)).symm | exact (bI_f (by omega)).symm)
theorem cw_X1_isBudget {R : Room} {s : State} {args : Array Value} {own : String} {index lev mc ms : Nat} (hts : ∀ w ∈ lw_all, w.before args s = true) (hl : Cond.methodLink own index yX1_isBudget ∈ lw_all) (hR1 : (rmL lev mc ms).frames + 1 ≤ R.frames) (hR2 : 8 + (2 + 11) + (rmL lev mc ms).locals ≤ R.locals) : CallB R s args own index yX1_isBudget cX1_isBudget 2 (some .boolean) (ws_ yX1_isBudget cX1_isBudget 2 (some .boolean)) (rmL lev mc ms) mc ms 2 ∧ (Cond.static yX1_isBudget).before args s = true :=
  va_cwS 2 hts (lw_S hl q1312 q108 q1313) rfl rfl rfl (by decide +kernel) ⟨hR1, hR2⟩
set_option maxHeartbeats 4000000 in
theorem m_X1_isBudget {E : jE} (l : Launch) (w : Wl) (a : Int) (b : Int) (h1 : -2147483648 ≤ a ∧ a ≤ 2147483647) (h2 : -2147483648 ≤ b ∧ b ≤ 2147483647) : Met l yX1_isBudget (ws_ yX1_isBudget cX1_isBudget 2 (some .boolean)) (rmL 2 0 0) (va_Pc [.int (iI a), .int (iI b)] (jP E w)) (jQi E (fun _ : Unit => w) (fun z _ => z = bI ((-20 ≤ a ∧ a ≤ 0) ∧ 0 ≤ b ∧ b ≤ 20))) 0 0 (jA E) := by
  refine j_metZ (by decide) (Nat.le_of_ble_eq_true rfl) ?_
  intro p e s m args below meth c Q hx hb hml hown hnm hts hV hH hret ls hl
  have hl : lv_has ls 2 [(0, .int (iI a)), (1, .int (iI b))] := hl
  refine lv_iload_n hx hb dX1_isBudget_0 rfl (lv_at hl 0 rfl) ?_
  refine j_i2l hx hb dX1_isBudget_1 (by omega) ?_
  refine j_ldc2 (z := (-20)) hx hb hts hown q1314 dX1_isBudget_2 (by decide +kernel) ?_
  refine j_lconst (z := 0) hx hb dX1_isBudget_5 (by decide +kernel) ?_
  refine j_callip (va_runS (As := [.long (lL a), .long (lL (-20)), .long (lL 0)]) (rest := []) ⟨hx, hb, hml, hown, hts⟩ (m_X1_inRange l _ a (-20) 0 (by omega) (by omega) (by omega)) (cw_X1_inRange hts q1233 (Nat.le_of_ble_eq_true rfl) (Nat.le_of_ble_eq_true rfl)) (j_preS hV hH) rfl rfl hl.1 rfl (lv_room (Nat.le_of_ble_eq_true rfl)) dX1_isBudget_6 ⟨Nat.le_of_ble_eq_true rfl, Nat.le_of_ble_eq_true rfl⟩) hH (fun H locs hH => ?_)
  refine j_ifeq_b (tgt := 28) hx hb dX1_isBudget_9 (by decide) (fun c9 => ?_) (fun c9 => ?_)
  · refine j_iconst hx hb dX1_isBudget_28 ?_
    exact hret () hH dX1_isBudget_29 (Nat.le_of_ble_eq_true rfl) (Nat.le_of_ble_eq_true rfl) (by decide) (by first | exact (bI_t (by omega)).symm | exact (bI_f (by omega)).symm)
  · refine lv_iload_n hx hb dX1_isBudget_12 rfl (lv_at hl 1 rfl) ?_
    refine j_i2l hx hb dX1_isBudget_13 (by omega) ?_
    refine j_lconst (z := 0) hx hb dX1_isBudget_14 (by decide +kernel) ?_
    refine j_ldc2 (z := 20) hx hb hts hown q1231 dX1_isBudget_15 (by decide +kernel) ?_
    refine j_callip (va_runS (As := [.long (lL b), .long (lL 0), .long (lL 20)]) (rest := []) ⟨hx, hb, hml, hown, hts⟩ (m_X1_inRange l _ b 0 20 (by omega) (by omega) (by omega)) (cw_X1_inRange hts q1233 (Nat.le_of_ble_eq_true rfl) (Nat.le_of_ble_eq_true rfl)) (j_preS hV hH) rfl rfl hl.1 rfl (lv_room (Nat.le_of_ble_eq_true rfl)) dX1_isBudget_18 ⟨Nat.le_of_ble_eq_true rfl, Nat.le_of_ble_eq_true rfl⟩) hH (fun H locs hH => ?_)
    refine j_ifeq_b (tgt := 28) hx hb dX1_isBudget_21 (by decide) (fun c21 => ?_) (fun c21 => ?_)
    · refine j_iconst hx hb dX1_isBudget_28 ?_
      exact hret () hH dX1_isBudget_29 (Nat.le_of_ble_eq_true rfl) (Nat.le_of_ble_eq_true rfl) (by decide) (by first | exact (bI_t (by omega)).symm | exact (bI_f (by omega)).symm)
    · refine j_iconst hx hb dX1_isBudget_24 ?_
      refine lv_goto (tgt := 29) hx hb dX1_isBudget_25 (by decide) ?_
      exact hret () hH dX1_isBudget_29 (Nat.le_of_ble_eq_true rfl) (Nat.le_of_ble_eq_true rfl) (by decide) (by first | exact (bI_t (by omega)).symm | exact (bI_f (by omega)).symm)
