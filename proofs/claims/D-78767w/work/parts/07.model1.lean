/-! THE REFERENCE's METHODS: small ones -/
set_option maxRecDepth 100000
theorem cw_X3_in {R : Room} {s : State} {args : Array Value} {own : String} {index lev mc ms : Nat} (hts : ∀ w ∈ lw_all, w.before args s = true) (hl : Cond.methodLink own index yX3_in ∈ lw_all) (hR1 : (rmL lev mc ms).frames + 1 ≤ R.frames) (hR2 : 8 + (3 + 11) + (rmL lev mc ms).locals ≤ R.locals) : CallB R s args own index yX3_in cX3_in 3 (some .boolean) (ws_ yX3_in cX3_in 3 (some .boolean)) (rmL lev mc ms) mc ms 3 ∧ (Cond.static yX3_in).before args s = true :=
  va_cwS 3 hts (lw_S hl q2314 q116 q2315) rfl rfl rfl (by decide +kernel) ⟨hR1, hR2⟩
set_option maxHeartbeats 4000000 in
theorem m_X3_in {E : jE} (l : Launch) (w : Wl) (v : Int) (least : Int) (most : Int) (h1 : -2147483648 ≤ v ∧ v ≤ 2147483647) (h2 : -2147483648 ≤ least ∧ least ≤ 2147483647) (h3 : -2147483648 ≤ most ∧ most ≤ 2147483647) : Met l yX3_in (ws_ yX3_in cX3_in 3 (some .boolean)) (rmL 1 0 0) (va_Pc [.int (iI v), .int (iI least), .int (iI most)] (jP E w)) (jQi E (fun _ : Unit => w) (fun z _ => z = bI (least ≤ v ∧ v ≤ most))) 0 0 (jA E) := by
  refine j_metZ (by decide) (Nat.le_of_ble_eq_true rfl) ?_
  intro p e s m args below meth c Q hx hb hml hown hnm hts hV hH hret ls hl
  have hl : lv_has ls 3 [(0, .int (iI v)), (1, .int (iI least)), (2, .int (iI most))] := hl
  refine lv_iload_n hx hb dX3_in_0 rfl (lv_at hl 0 rfl) ?_
  refine lv_iload_n hx hb dX3_in_1 rfl (lv_at hl 1 rfl) ?_
  refine j_icmp_lt (tgt := 14) hx hb dX3_in_2 (by decide) (by omega) (by omega) (fun c2 => ?_) (fun c2 => ?_)
  · refine j_iconst hx hb dX3_in_14 ?_
    exact hret () hH dX3_in_15 (Nat.le_of_ble_eq_true rfl) (Nat.le_of_ble_eq_true rfl) (by decide) (by first | exact (bI_t (by omega)).symm | exact (bI_f (by omega)).symm)
  · refine lv_iload_n hx hb dX3_in_5 rfl (lv_at hl 0 rfl) ?_
    refine lv_iload_n hx hb dX3_in_6 rfl (lv_at hl 2 rfl) ?_
    refine j_icmp_gt (tgt := 14) hx hb dX3_in_7 (by decide) (by omega) (by omega) (fun c7 => ?_) (fun c7 => ?_)
    · refine j_iconst hx hb dX3_in_14 ?_
      exact hret () hH dX3_in_15 (Nat.le_of_ble_eq_true rfl) (Nat.le_of_ble_eq_true rfl) (by decide) (by first | exact (bI_t (by omega)).symm | exact (bI_f (by omega)).symm)
    · refine j_iconst hx hb dX3_in_10 ?_
      refine lv_goto (tgt := 15) hx hb dX3_in_11 (by decide) ?_
      exact hret () hH dX3_in_15 (Nat.le_of_ble_eq_true rfl) (Nat.le_of_ble_eq_true rfl) (by decide) (by first | exact (bI_t (by omega)).symm | exact (bI_f (by omega)).symm)
theorem cw_X3_floor {R : Room} {s : State} {args : Array Value} {own : String} {index lev mc ms : Nat} (hts : ∀ w ∈ lw_all, w.before args s = true) (hl : Cond.methodLink own index yX3_floor ∈ lw_all) (hR1 : (rmL lev mc ms).frames + 1 ≤ R.frames) (hR2 : 8 + (2 + 11) + (rmL lev mc ms).locals ≤ R.locals) : CallB R s args own index yX3_floor cX3_floor 2 (some .int) (ws_ yX3_floor cX3_floor 2 (some .int)) (rmL lev mc ms) mc ms 2 ∧ (Cond.static yX3_floor).before args s = true :=
  va_cwS 2 hts (lw_S hl q2488 q116 q2489) rfl rfl rfl (by decide +kernel) ⟨hR1, hR2⟩
set_option maxHeartbeats 4000000 in
theorem m_X3_floor {E : jE} (l : Launch) (w : Wl) (a : Int) (b : Int) (h1 : -1000000000 ≤ a ∧ a ≤ 1000000000) (h2 : 0 < b ∧ b ≤ 1000) : Met l yX3_floor (ws_ yX3_floor cX3_floor 2 (some .int)) (rmL 1 0 0) (va_Pc [.int (iI a), .int (iI b)] (jP E w)) (jQi E (fun _ : Unit => w) (fun z _ => z = a / b)) 0 0 (jA E) := by
  refine j_metI (by decide) (Nat.le_of_ble_eq_true rfl) ?_
  intro p e s m args below meth c Q hx hb hml hown hnm hts hV hH hret ls hl
  have hl : lv_has ls 2 [(0, .int (iI a)), (1, .int (iI b))] := hl
  refine lv_iload_n hx hb dX3_floor_0 rfl (lv_at hl 0 rfl) ?_
  refine j_if_lt (tgt := 10) hx hb dX3_floor_1 (by decide) (by omega) (fun c1 => ?_) (fun c1 => ?_)
  · refine lv_iload_n hx hb dX3_floor_10 rfl (lv_at hl 1 rfl) ?_
    refine j_iconst hx hb dX3_floor_11 ?_
    refine j_isub hx hb dX3_floor_12 ?_
    refine lv_iload_n hx hb dX3_floor_13 rfl (lv_at hl 0 rfl) ?_
    refine j_isub hx hb dX3_floor_14 ?_
    refine lv_iload_n hx hb dX3_floor_15 rfl (lv_at hl 1 rfl) ?_
    refine j_idiv hx hb dX3_floor_16 (by omega) (by omega) ?_
    refine j_ineg hx hb dX3_floor_17 ?_
    exact hret () hH dX3_floor_18 (Nat.le_of_ble_eq_true rfl) (Nat.le_of_ble_eq_true rfl) (by first | rfl | exact floor_neg h2.1)
  · refine lv_iload_n hx hb dX3_floor_4 rfl (lv_at hl 0 rfl) ?_
    refine lv_iload_n hx hb dX3_floor_5 rfl (lv_at hl 1 rfl) ?_
    refine j_idiv hx hb dX3_floor_6 (by omega) (by omega) ?_
    refine lv_goto (tgt := 18) hx hb dX3_floor_7 (by decide) ?_
    exact hret () hH dX3_floor_18 (Nat.le_of_ble_eq_true rfl) (Nat.le_of_ble_eq_true rfl) (by first | rfl | exact floor_neg h2.1)
theorem cw_X3_greater {R : Room} {s : State} {args : Array Value} {own : String} {index lev mc ms : Nat} (hts : ∀ w ∈ lw_all, w.before args s = true) (hl : Cond.methodLink own index yX3_greater ∈ lw_all) (hR1 : (rmL lev mc ms).frames + 1 ≤ R.frames) (hR2 : 8 + (2 + 11) + (rmL lev mc ms).locals ≤ R.locals) : CallB R s args own index yX3_greater cX3_greater 2 (some .int) (ws_ yX3_greater cX3_greater 2 (some .int)) (rmL lev mc ms) mc ms 2 ∧ (Cond.static yX3_greater).before args s = true :=
  va_cwS 2 hts (lw_S hl q2522 q116 q2523) rfl rfl rfl (by decide +kernel) ⟨hR1, hR2⟩
set_option maxHeartbeats 4000000 in
theorem m_X3_greater {E : jE} (l : Launch) (w : Wl) (a : Int) (b : Int) (h1 : -2147483648 ≤ a ∧ a ≤ 2147483647) (h2 : -2147483648 ≤ b ∧ b ≤ 2147483647) : Met l yX3_greater (ws_ yX3_greater cX3_greater 2 (some .int)) (rmL 1 0 0) (va_Pc [.int (iI a), .int (iI b)] (jP E w)) (jQi E (fun _ : Unit => w) (fun z _ => z = max a b)) 0 0 (jA E) := by
  refine j_metI (by decide) (Nat.le_of_ble_eq_true rfl) ?_
  intro p e s m args below meth c Q hx hb hml hown hnm hts hV hH hret ls hl
  have hl : lv_has ls 2 [(0, .int (iI a)), (1, .int (iI b))] := hl
  refine lv_iload_n hx hb dX3_greater_0 rfl (lv_at hl 0 rfl) ?_
  refine lv_iload_n hx hb dX3_greater_1 rfl (lv_at hl 1 rfl) ?_
  refine j_icmp_le (tgt := 9) hx hb dX3_greater_2 (by decide) (by omega) (by omega) (fun c2 => ?_) (fun c2 => ?_)
  · refine lv_iload_n hx hb dX3_greater_9 rfl (lv_at hl 1 rfl) ?_
    exact hret () hH dX3_greater_10 (Nat.le_of_ble_eq_true rfl) (Nat.le_of_ble_eq_true rfl) (by omega)
  · refine lv_iload_n hx hb dX3_greater_5 rfl (lv_at hl 0 rfl) ?_
    refine lv_goto (tgt := 10) hx hb dX3_greater_6 (by decide) ?_
    exact hret () hH dX3_greater_10 (Nat.le_of_ble_eq_true rfl) (Nat.le_of_ble_eq_true rfl) (by omega)
theorem cw_X3_isFar {R : Room} {s : State} {args : Array Value} {own : String} {index lev mc ms : Nat} (hts : ∀ w ∈ lw_all, w.before args s = true) (hl : Cond.methodLink own index yX3_isFar ∈ lw_all) (hR1 : (rmL lev mc ms).frames + 1 ≤ R.frames) (hR2 : 8 + (1 + 11) + (rmL lev mc ms).locals ≤ R.locals) : CallB R s args own index yX3_isFar cX3_isFar 1 (some .boolean) (ws_ yX3_isFar cX3_isFar 1 (some .boolean)) (rmL lev mc ms) mc ms 1 ∧ (Cond.static yX3_isFar).before args s = true :=
  va_cwS 1 hts (lw_S hl q2348 q116 q2349) rfl rfl rfl (by decide +kernel) ⟨hR1, hR2⟩
set_option maxHeartbeats 4000000 in
theorem m_X3_isFar {E : jE} (l : Launch) (w : Wl) (v : Int) (h1 : -2147483648 ≤ v ∧ v ≤ 2147483647) : Met l yX3_isFar (ws_ yX3_isFar cX3_isFar 1 (some .boolean)) (rmL 2 0 0) (va_Pc [.int (iI v)] (jP E w)) (jQi E (fun _ : Unit => w) (fun z _ => z = bI (-200 ≤ v ∧ v ≤ 200))) 0 0 (jA E) := by
  refine j_metZ (by decide) (Nat.le_of_ble_eq_true rfl) ?_
  intro p e s m args below meth c Q hx hb hml hown hnm hts hV hH hret ls hl
  have hl : lv_has ls 1 [(0, .int (iI v))] := hl
  refine lv_iload_n hx hb dX3_isFar_0 rfl (lv_at hl 0 rfl) ?_
  refine j_sipush hx hb dX3_isFar_1 (by decide) ?_
  refine j_sipush hx hb dX3_isFar_4 (by decide) ?_
  refine j_callip (va_runS (As := [.int (iI v), .int (iI (-200)), .int (iI 200)]) (rest := []) ⟨hx, hb, hml, hown, hts⟩ (m_X3_in l _ v (-200) 200 (by omega) (by omega) (by omega)) (cw_X3_in hts q2313 (Nat.le_of_ble_eq_true rfl) (Nat.le_of_ble_eq_true rfl)) (j_preS hV hH) rfl rfl hl.1 rfl (lv_room (Nat.le_of_ble_eq_true rfl)) dX3_isFar_7 ⟨Nat.le_of_ble_eq_true rfl, Nat.le_of_ble_eq_true rfl⟩) hH (fun H locs hH => ?_)
  exact hret () hH dX3_isFar_10 (Nat.le_of_ble_eq_true rfl) (Nat.le_of_ble_eq_true rfl) (bI_01 _) (by first | rfl | omega)
theorem cw_X3_notBegin {R : Room} {s : State} {args : Array Value} {own : String} {index lev mc ms : Nat} (hts : ∀ w ∈ lw_all, w.before args s = true) (hl : Cond.methodLink own index yX3_notBegin ∈ lw_all) (hR1 : (rmL lev mc ms).frames + 1 ≤ R.frames) (hR2 : 8 + (2 + 11) + (rmL lev mc ms).locals ≤ R.locals) : CallB R s args own index yX3_notBegin cX3_notBegin 2 (some .int) (ws_ yX3_notBegin cX3_notBegin 2 (some .int)) (rmL lev mc ms) mc ms 2 ∧ (Cond.static yX3_notBegin).before args s = true :=
  va_cwS 2 hts (lw_S hl q2311 q116 q2312) rfl rfl rfl (by decide +kernel) ⟨hR1, hR2⟩
set_option maxHeartbeats 4000000 in
theorem m_X3_notBegin {E : jE} (l : Launch) (w : Wl) (a : Int) (b : Int) (h1 : -2147483648 ≤ a ∧ a ≤ 2147483647) (h2 : -2147483648 ≤ b ∧ b ≤ 2147483647) : Met l yX3_notBegin (ws_ yX3_notBegin cX3_notBegin 2 (some .int)) (rmL 2 0 0) (va_Pc [.int (iI a), .int (iI b)] (jP E w)) (jQi E (fun _ : Unit => w) (fun z _ => z = nBegin a b)) 0 0 (jA E) := by
  refine j_metI (by decide) (Nat.le_of_ble_eq_true rfl) ?_
  intro p e s m args below meth c Q hx hb hml hown hnm hts hV hH hret ls hl
  have hl : lv_has ls 2 [(0, .int (iI a)), (1, .int (iI b))] := hl
  refine lv_iload_n hx hb dX3_notBegin_0 rfl (lv_at hl 0 rfl) ?_
  refine j_bipush hx hb dX3_notBegin_1 (by decide) ?_
  refine j_sipush hx hb dX3_notBegin_3 (by decide) ?_
  refine j_callip (va_runS (As := [.int (iI a), .int (iI 20), .int (iI 200)]) (rest := []) ⟨hx, hb, hml, hown, hts⟩ (m_X3_in l _ a 20 200 (by omega) (by omega) (by omega)) (cw_X3_in hts q2313 (Nat.le_of_ble_eq_true rfl) (Nat.le_of_ble_eq_true rfl)) (j_preS hV hH) rfl rfl hl.1 rfl (lv_room (Nat.le_of_ble_eq_true rfl)) dX3_notBegin_6 ⟨Nat.le_of_ble_eq_true rfl, Nat.le_of_ble_eq_true rfl⟩) hH (fun H locs hH => ?_)
  refine j_ifeq_b (tgt := 27) hx hb dX3_notBegin_9 (by decide) (fun c9 => ?_) (fun c9 => ?_)
  · refine j_iconst hx hb dX3_notBegin_27 ?_
    exact hret () hH dX3_notBegin_28 (Nat.le_of_ble_eq_true rfl) (Nat.le_of_ble_eq_true rfl) (by unfold nBegin; split <;> omega)
  · refine lv_iload_n hx hb dX3_notBegin_12 rfl (lv_at hl 1 rfl) ?_
    refine j_bipush hx hb dX3_notBegin_13 (by decide) ?_
    refine j_bipush hx hb dX3_notBegin_15 (by decide) ?_
    refine j_callip (va_runS (As := [.int (iI b), .int (iI 10), .int (iI 120)]) (rest := []) ⟨hx, hb, hml, hown, hts⟩ (m_X3_in l _ b 10 120 (by omega) (by omega) (by omega)) (cw_X3_in hts q2313 (Nat.le_of_ble_eq_true rfl) (Nat.le_of_ble_eq_true rfl)) (j_preS hV hH) rfl rfl hl.1 rfl (lv_room (Nat.le_of_ble_eq_true rfl)) dX3_notBegin_17 ⟨Nat.le_of_ble_eq_true rfl, Nat.le_of_ble_eq_true rfl⟩) hH (fun H locs hH => ?_)
    refine j_ifeq_b (tgt := 27) hx hb dX3_notBegin_20 (by decide) (fun c20 => ?_) (fun c20 => ?_)
    · refine j_iconst hx hb dX3_notBegin_27 ?_
      exact hret () hH dX3_notBegin_28 (Nat.le_of_ble_eq_true rfl) (Nat.le_of_ble_eq_true rfl) (by unfold nBegin; split <;> omega)
    · refine j_iconst hx hb dX3_notBegin_23 ?_
      refine lv_goto (tgt := 28) hx hb dX3_notBegin_24 (by decide) ?_
      exact hret () hH dX3_notBegin_28 (Nat.le_of_ble_eq_true rfl) (Nat.le_of_ble_eq_true rfl) (by unfold nBegin; split <;> omega)
theorem cw_X3_notTick {R : Room} {s : State} {args : Array Value} {own : String} {index lev mc ms : Nat} (hts : ∀ w ∈ lw_all, w.before args s = true) (hl : Cond.methodLink own index yX3_notTick ∈ lw_all) (hR1 : (rmL lev mc ms).frames + 1 ≤ R.frames) (hR2 : 8 + (1 + 11) + (rmL lev mc ms).locals ≤ R.locals) : CallB R s args own index yX3_notTick cX3_notTick 1 (some .int) (ws_ yX3_notTick cX3_notTick 1 (some .int)) (rmL lev mc ms) mc ms 1 ∧ (Cond.static yX3_notTick).before args s = true :=
  va_cwS 1 hts (lw_S hl q2442 q116 q2443) rfl rfl rfl (by decide +kernel) ⟨hR1, hR2⟩
set_option maxHeartbeats 4000000 in
theorem m_X3_notTick {E : jE} (l : Launch) (w : Wl) (a : Int) (h1 : -2147483648 ≤ a ∧ a ≤ 2147483647) : Met l yX3_notTick (ws_ yX3_notTick cX3_notTick 1 (some .int)) (rmL 2 0 0) (va_Pc [.int (iI a)] (jP E w)) (jQi E (fun _ : Unit => w) (fun z _ => z = nTick a)) 0 0 (jA E) := by
  refine j_metI (by decide) (Nat.le_of_ble_eq_true rfl) ?_
  intro p e s m args below meth c Q hx hb hml hown hnm hts hV hH hret ls hl
  have hl : lv_has ls 1 [(0, .int (iI a))] := hl
  refine lv_iload_n hx hb dX3_notTick_0 rfl (lv_at hl 0 rfl) ?_
  refine j_iconst hx hb dX3_notTick_1 ?_
  refine j_sipush hx hb dX3_notTick_2 (by decide) ?_
  refine j_callip (va_runS (As := [.int (iI a), .int (iI 1), .int (iI 200)]) (rest := []) ⟨hx, hb, hml, hown, hts⟩ (m_X3_in l _ a 1 200 (by omega) (by omega) (by omega)) (cw_X3_in hts q2313 (Nat.le_of_ble_eq_true rfl) (Nat.le_of_ble_eq_true rfl)) (j_preS hV hH) rfl rfl hl.1 rfl (lv_room (Nat.le_of_ble_eq_true rfl)) dX3_notTick_5 ⟨Nat.le_of_ble_eq_true rfl, Nat.le_of_ble_eq_true rfl⟩) hH (fun H locs hH => ?_)
  refine j_ifeq_b (tgt := 15) hx hb dX3_notTick_8 (by decide) (fun c8 => ?_) (fun c8 => ?_)
  · refine j_iconst hx hb dX3_notTick_15 ?_
    exact hret () hH dX3_notTick_16 (Nat.le_of_ble_eq_true rfl) (Nat.le_of_ble_eq_true rfl) (by unfold nTick; split <;> omega)
  · refine j_iconst hx hb dX3_notTick_11 ?_
    refine lv_goto (tgt := 16) hx hb dX3_notTick_12 (by decide) ?_
    exact hret () hH dX3_notTick_16 (Nat.le_of_ble_eq_true rfl) (Nat.le_of_ble_eq_true rfl) (by unfold nTick; split <;> omega)
theorem cw_X3_notSet {R : Room} {s : State} {args : Array Value} {own : String} {index lev mc ms : Nat} (hts : ∀ w ∈ lw_all, w.before args s = true) (hl : Cond.methodLink own index yX3_notSet ∈ lw_all) (hR1 : (rmL lev mc ms).frames + 1 ≤ R.frames) (hR2 : 8 + (2 + 11) + (rmL lev mc ms).locals ≤ R.locals) : CallB R s args own index yX3_notSet cX3_notSet 2 (some .int) (ws_ yX3_notSet cX3_notSet 2 (some .int)) (rmL lev mc ms) mc ms 2 ∧ (Cond.static yX3_notSet).before args s = true :=
  va_cwS 2 hts (lw_S hl q2415 q116 q2416) rfl rfl rfl (by decide +kernel) ⟨hR1, hR2⟩
set_option maxHeartbeats 4000000 in
theorem m_X3_notSet {E : jE} (l : Launch) (w : Wl) (a : Int) (b : Int) (h1 : -2147483648 ≤ a ∧ a ≤ 2147483647) (h2 : -2147483648 ≤ b ∧ b ≤ 2147483647) : Met l yX3_notSet (ws_ yX3_notSet cX3_notSet 2 (some .int)) (rmL 2 0 0) (va_Pc [.int (iI a), .int (iI b)] (jP E w)) (jQi E (fun _ : Unit => w) (fun z _ => z = nSet a b)) 0 0 (jA E) := by
  refine j_metI (by decide) (Nat.le_of_ble_eq_true rfl) ?_
  intro p e s m args below meth c Q hx hb hml hown hnm hts hV hH hret ls hl
  have hl : lv_has ls 2 [(0, .int (iI a)), (1, .int (iI b))] := hl
  refine lv_iload_n hx hb dX3_notSet_0 rfl (lv_at hl 0 rfl) ?_
  have hsw : (a < 0 ∨ 3 < a) ∨ a = 0 ∨ a = 1 ∨ a = 2 ∨ a = 3 := by omega
  rcases hsw with c1 | c1 | c1 | c1 | c1
  · refine j_tableOut (tgt := 79) hx hb dX3_notSet_1 (by omega) c1 (by decide) ?_
    refine j_iconst hx hb dX3_notSet_79 ?_
    exact hret () hH dX3_notSet_80 (Nat.le_of_ble_eq_true rfl) (Nat.le_of_ble_eq_true rfl) (by unfold nSet; split <;> omega)
  · refine j_tableIn (tgt := 32) hx hb 0 dX3_notSet_1 c1 (by decide) (by decide) rfl (by decide) ?_
    refine lv_iload_n hx hb dX3_notSet_32 rfl (lv_at hl 1 rfl) ?_
    refine j_iconst hx hb dX3_notSet_33 ?_
    refine j_bipush hx hb dX3_notSet_34 (by decide) ?_
    refine j_callip (va_runS (As := [.int (iI b), .int (iI 0), .int (iI 100)]) (rest := []) ⟨hx, hb, hml, hown, hts⟩ (m_X3_in l _ b 0 100 (by omega) (by omega) (by omega)) (cw_X3_in hts q2313 (Nat.le_of_ble_eq_true rfl) (Nat.le_of_ble_eq_true rfl)) (j_preS hV hH) rfl rfl hl.1 rfl (lv_room (Nat.le_of_ble_eq_true rfl)) dX3_notSet_36 ⟨Nat.le_of_ble_eq_true rfl, Nat.le_of_ble_eq_true rfl⟩) hH (fun H locs hH => ?_)
    refine j_ifeq_b (tgt := 46) hx hb dX3_notSet_39 (by decide) (fun c39 => ?_) (fun c39 => ?_)
    · refine j_iconst hx hb dX3_notSet_46 ?_
      exact hret () hH dX3_notSet_47 (Nat.le_of_ble_eq_true rfl) (Nat.le_of_ble_eq_true rfl) (by unfold nSet; split <;> omega)
    · refine j_iconst hx hb dX3_notSet_42 ?_
      refine lv_goto (tgt := 47) hx hb dX3_notSet_43 (by decide) ?_
      exact hret () hH dX3_notSet_47 (Nat.le_of_ble_eq_true rfl) (Nat.le_of_ble_eq_true rfl) (by unfold nSet; split <;> omega)
  · refine j_tableIn (tgt := 48) hx hb 1 dX3_notSet_1 c1 (by decide) (by decide) rfl (by decide) ?_
    refine lv_iload_n hx hb dX3_notSet_48 rfl (lv_at hl 1 rfl) ?_
    refine j_iconst hx hb dX3_notSet_49 ?_
    refine j_iconst hx hb dX3_notSet_50 ?_
    refine j_callip (va_runS (As := [.int (iI b), .int (iI 1), .int (iI 5)]) (rest := []) ⟨hx, hb, hml, hown, hts⟩ (m_X3_in l _ b 1 5 (by omega) (by omega) (by omega)) (cw_X3_in hts q2313 (Nat.le_of_ble_eq_true rfl) (Nat.le_of_ble_eq_true rfl)) (j_preS hV hH) rfl rfl hl.1 rfl (lv_room (Nat.le_of_ble_eq_true rfl)) dX3_notSet_51 ⟨Nat.le_of_ble_eq_true rfl, Nat.le_of_ble_eq_true rfl⟩) hH (fun H locs hH => ?_)
    refine j_ifeq_b (tgt := 61) hx hb dX3_notSet_54 (by decide) (fun c54 => ?_) (fun c54 => ?_)
    · refine j_iconst hx hb dX3_notSet_61 ?_
      exact hret () hH dX3_notSet_62 (Nat.le_of_ble_eq_true rfl) (Nat.le_of_ble_eq_true rfl) (by unfold nSet; split <;> omega)
    · refine j_iconst hx hb dX3_notSet_57 ?_
      refine lv_goto (tgt := 62) hx hb dX3_notSet_58 (by decide) ?_
      exact hret () hH dX3_notSet_62 (Nat.le_of_ble_eq_true rfl) (Nat.le_of_ble_eq_true rfl) (by unfold nSet; split <;> omega)
  · refine j_tableIn (tgt := 63) hx hb 2 dX3_notSet_1 c1 (by decide) (by decide) rfl (by decide) ?_
    refine lv_iload_n hx hb dX3_notSet_63 rfl (lv_at hl 1 rfl) ?_
    refine j_iconst hx hb dX3_notSet_64 ?_
    refine j_bipush hx hb dX3_notSet_65 (by decide) ?_
    refine j_callip (va_runS (As := [.int (iI b), .int (iI 0), .int (iI 15)]) (rest := []) ⟨hx, hb, hml, hown, hts⟩ (m_X3_in l _ b 0 15 (by omega) (by omega) (by omega)) (cw_X3_in hts q2313 (Nat.le_of_ble_eq_true rfl) (Nat.le_of_ble_eq_true rfl)) (j_preS hV hH) rfl rfl hl.1 rfl (lv_room (Nat.le_of_ble_eq_true rfl)) dX3_notSet_67 ⟨Nat.le_of_ble_eq_true rfl, Nat.le_of_ble_eq_true rfl⟩) hH (fun H locs hH => ?_)
    refine j_ifeq_b (tgt := 77) hx hb dX3_notSet_70 (by decide) (fun c70 => ?_) (fun c70 => ?_)
    · refine j_iconst hx hb dX3_notSet_77 ?_
      exact hret () hH dX3_notSet_78 (Nat.le_of_ble_eq_true rfl) (Nat.le_of_ble_eq_true rfl) (by unfold nSet; split <;> omega)
    · refine j_iconst hx hb dX3_notSet_73 ?_
      refine lv_goto (tgt := 78) hx hb dX3_notSet_74 (by decide) ?_
      exact hret () hH dX3_notSet_78 (Nat.le_of_ble_eq_true rfl) (Nat.le_of_ble_eq_true rfl) (by unfold nSet; split <;> omega)
  · refine j_tableIn (tgt := 32) hx hb 3 dX3_notSet_1 c1 (by decide) (by decide) rfl (by decide) ?_
    refine lv_iload_n hx hb dX3_notSet_32 rfl (lv_at hl 1 rfl) ?_
    refine j_iconst hx hb dX3_notSet_33 ?_
    refine j_bipush hx hb dX3_notSet_34 (by decide) ?_
    refine j_callip (va_runS (As := [.int (iI b), .int (iI 0), .int (iI 100)]) (rest := []) ⟨hx, hb, hml, hown, hts⟩ (m_X3_in l _ b 0 100 (by omega) (by omega) (by omega)) (cw_X3_in hts q2313 (Nat.le_of_ble_eq_true rfl) (Nat.le_of_ble_eq_true rfl)) (j_preS hV hH) rfl rfl hl.1 rfl (lv_room (Nat.le_of_ble_eq_true rfl)) dX3_notSet_36 ⟨Nat.le_of_ble_eq_true rfl, Nat.le_of_ble_eq_true rfl⟩) hH (fun H locs hH => ?_)
    refine j_ifeq_b (tgt := 46) hx hb dX3_notSet_39 (by decide) (fun c39 => ?_) (fun c39 => ?_)
    · refine j_iconst hx hb dX3_notSet_46 ?_
      exact hret () hH dX3_notSet_47 (Nat.le_of_ble_eq_true rfl) (Nat.le_of_ble_eq_true rfl) (by unfold nSet; split <;> omega)
    · refine j_iconst hx hb dX3_notSet_42 ?_
      refine lv_goto (tgt := 47) hx hb dX3_notSet_43 (by decide) ?_
      exact hret () hH dX3_notSet_47 (Nat.le_of_ble_eq_true rfl) (Nat.le_of_ble_eq_true rfl) (by unfold nSet; split <;> omega)
theorem cw_X3_isBudget {R : Room} {s : State} {args : Array Value} {own : String} {index lev mc ms : Nat} (hts : ∀ w ∈ lw_all, w.before args s = true) (hl : Cond.methodLink own index yX3_isBudget ∈ lw_all) (hR1 : (rmL lev mc ms).frames + 1 ≤ R.frames) (hR2 : 8 + (2 + 11) + (rmL lev mc ms).locals ≤ R.locals) : CallB R s args own index yX3_isBudget cX3_isBudget 2 (some .boolean) (ws_ yX3_isBudget cX3_isBudget 2 (some .boolean)) (rmL lev mc ms) mc ms 2 ∧ (Cond.static yX3_isBudget).before args s = true :=
  va_cwS 2 hts (lw_S hl q2621 q116 q2622) rfl rfl rfl (by decide +kernel) ⟨hR1, hR2⟩
set_option maxHeartbeats 4000000 in
theorem m_X3_isBudget {E : jE} (l : Launch) (w : Wl) (a : Int) (b : Int) (h1 : -2147483648 ≤ a ∧ a ≤ 2147483647) (h2 : -2147483648 ≤ b ∧ b ≤ 2147483647) : Met l yX3_isBudget (ws_ yX3_isBudget cX3_isBudget 2 (some .boolean)) (rmL 2 0 0) (va_Pc [.int (iI a), .int (iI b)] (jP E w)) (jQi E (fun _ : Unit => w) (fun z _ => z = bI ((-20 ≤ a ∧ a ≤ 0) ∧ 0 ≤ b ∧ b ≤ 20))) 0 0 (jA E) := by
  refine j_metZ (by decide) (Nat.le_of_ble_eq_true rfl) ?_
  intro p e s m args below meth c Q hx hb hml hown hnm hts hV hH hret ls hl
  have hl : lv_has ls 2 [(0, .int (iI a)), (1, .int (iI b))] := hl
  refine lv_iload_n hx hb dX3_isBudget_0 rfl (lv_at hl 0 rfl) ?_
  refine j_bipush hx hb dX3_isBudget_1 (by decide) ?_
  refine j_iconst hx hb dX3_isBudget_3 ?_
  refine j_callip (va_runS (As := [.int (iI a), .int (iI (-20)), .int (iI 0)]) (rest := []) ⟨hx, hb, hml, hown, hts⟩ (m_X3_in l _ a (-20) 0 (by omega) (by omega) (by omega)) (cw_X3_in hts q2313 (Nat.le_of_ble_eq_true rfl) (Nat.le_of_ble_eq_true rfl)) (j_preS hV hH) rfl rfl hl.1 rfl (lv_room (Nat.le_of_ble_eq_true rfl)) dX3_isBudget_4 ⟨Nat.le_of_ble_eq_true rfl, Nat.le_of_ble_eq_true rfl⟩) hH (fun H locs hH => ?_)
  refine j_ifeq_b (tgt := 24) hx hb dX3_isBudget_7 (by decide) (fun c7 => ?_) (fun c7 => ?_)
  · refine j_iconst hx hb dX3_isBudget_24 ?_
    exact hret () hH dX3_isBudget_25 (Nat.le_of_ble_eq_true rfl) (Nat.le_of_ble_eq_true rfl) (by decide) (by first | exact (bI_t (by omega)).symm | exact (bI_f (by omega)).symm)
  · refine lv_iload_n hx hb dX3_isBudget_10 rfl (lv_at hl 1 rfl) ?_
    refine j_iconst hx hb dX3_isBudget_11 ?_
    refine j_bipush hx hb dX3_isBudget_12 (by decide) ?_
    refine j_callip (va_runS (As := [.int (iI b), .int (iI 0), .int (iI 20)]) (rest := []) ⟨hx, hb, hml, hown, hts⟩ (m_X3_in l _ b 0 20 (by omega) (by omega) (by omega)) (cw_X3_in hts q2313 (Nat.le_of_ble_eq_true rfl) (Nat.le_of_ble_eq_true rfl)) (j_preS hV hH) rfl rfl hl.1 rfl (lv_room (Nat.le_of_ble_eq_true rfl)) dX3_isBudget_14 ⟨Nat.le_of_ble_eq_true rfl, Nat.le_of_ble_eq_true rfl⟩) hH (fun H locs hH => ?_)
    refine j_ifeq_b (tgt := 24) hx hb dX3_isBudget_17 (by decide) (fun c17 => ?_) (fun c17 => ?_)
    · refine j_iconst hx hb dX3_isBudget_24 ?_
      exact hret () hH dX3_isBudget_25 (Nat.le_of_ble_eq_true rfl) (Nat.le_of_ble_eq_true rfl) (by decide) (by first | exact (bI_t (by omega)).symm | exact (bI_f (by omega)).symm)
    · refine j_iconst hx hb dX3_isBudget_20 ?_
      refine lv_goto (tgt := 25) hx hb dX3_isBudget_21 (by decide) ?_
      exact hret () hH dX3_isBudget_25 (Nat.le_of_ble_eq_true rfl) (Nat.le_of_ble_eq_true rfl) (by decide) (by first | exact (bI_t (by omega)).symm | exact (bI_f (by omega)).symm)
theorem cw_X3_towards {R : Room} {s : State} {args : Array Value} {own : String} {index lev mc ms : Nat} (hts : ∀ w ∈ lw_all, w.before args s = true) (hl : Cond.methodLink own index yX3_towards ∈ lw_all) (hR1 : (rmL lev mc ms).frames + 1 ≤ R.frames) (hR2 : 8 + (3 + 11) + (rmL lev mc ms).locals ≤ R.locals) : CallB R s args own index yX3_towards cX3_towards 3 (some .int) (ws_ yX3_towards cX3_towards 3 (some .int)) (rmL lev mc ms) mc ms 3 ∧ (Cond.static yX3_towards).before args s = true :=
  va_cwS 3 hts (lw_S hl q2457 q116 q2458) rfl rfl rfl (by decide +kernel) ⟨hR1, hR2⟩
set_option maxHeartbeats 4000000 in
theorem m_X3_towards {E : jE} (l : Launch) (w : Wl) (a : Int) (b : Int) (q : Int) (h1 : -1000 ≤ a ∧ a ≤ 1000) (h2 : -1000 ≤ b ∧ b ≤ 1000) (h3 : 0 ≤ q ∧ q ≤ 1000) : Met l yX3_towards (ws_ yX3_towards cX3_towards 3 (some .int)) (rmL 1 0 0) (va_Pc [.int (iI a), .int (iI b), .int (iI q)] (jP E w)) (jQi E (fun _ : Unit => w) (fun z _ => z = twO a b q)) 0 0 (jA E) := by
  refine j_metI (by decide) (Nat.le_of_ble_eq_true rfl) ?_
  intro p e s m args below meth c Q hx hb hml hown hnm hts hV hH hret ls hl
  have hl : lv_has ls 3 [(0, .int (iI a)), (1, .int (iI b)), (2, .int (iI q))] := hl
  refine lv_iload_n hx hb dX3_towards_0 rfl (lv_at hl 1 rfl) ?_
  refine lv_iload_n hx hb dX3_towards_1 rfl (lv_at hl 0 rfl) ?_
  refine lv_iload_n hx hb dX3_towards_2 rfl (lv_at hl 2 rfl) ?_
  refine j_iadd hx hb dX3_towards_3 ?_
  refine j_icmp_le (tgt := 13) hx hb dX3_towards_4 (by decide) (by omega) (by omega) (fun c4 => ?_) (fun c4 => ?_)
  · refine lv_iload_n hx hb dX3_towards_13 rfl (lv_at hl 1 rfl) ?_
    refine lv_iload_n hx hb dX3_towards_14 rfl (lv_at hl 0 rfl) ?_
    refine lv_iload_n hx hb dX3_towards_15 rfl (lv_at hl 2 rfl) ?_
    refine j_isub hx hb dX3_towards_16 ?_
    refine j_icmp_ge (tgt := 26) hx hb dX3_towards_17 (by decide) (by omega) (by omega) (fun c17 => ?_) (fun c17 => ?_)
    · refine lv_iload_n hx hb dX3_towards_26 rfl (lv_at hl 1 rfl) ?_
      exact hret () hH dX3_towards_27 (Nat.le_of_ble_eq_true rfl) (Nat.le_of_ble_eq_true rfl) (by unfold twO; omega)
    · refine lv_iload_n hx hb dX3_towards_20 rfl (lv_at hl 0 rfl) ?_
      refine lv_iload_n hx hb dX3_towards_21 rfl (lv_at hl 2 rfl) ?_
      refine j_isub hx hb dX3_towards_22 ?_
      refine lv_goto (tgt := 27) hx hb dX3_towards_23 (by decide) ?_
      exact hret () hH dX3_towards_27 (Nat.le_of_ble_eq_true rfl) (Nat.le_of_ble_eq_true rfl) (by unfold twO; omega)
  · refine lv_iload_n hx hb dX3_towards_7 rfl (lv_at hl 0 rfl) ?_
    refine lv_iload_n hx hb dX3_towards_8 rfl (lv_at hl 2 rfl) ?_
    refine j_iadd hx hb dX3_towards_9 ?_
    refine lv_goto (tgt := 27) hx hb dX3_towards_10 (by decide) ?_
    exact hret () hH dX3_towards_27 (Nat.le_of_ble_eq_true rfl) (Nat.le_of_ble_eq_true rfl) (by unfold twO; omega)
theorem cw_X3_column {R : Room} {s : State} {args : Array Value} {own : String} {index lev mc ms : Nat} (hts : ∀ w ∈ lw_all, w.before args s = true) (hl : Cond.methodLink own index yX3_column ∈ lw_all) (hR1 : (rmL lev mc ms).frames + 1 ≤ R.frames) (hR2 : 8 + (3 + 11) + (rmL lev mc ms).locals ≤ R.locals) : CallB R s args own index yX3_column cX3_column 3 (some .int) (ws_ yX3_column cX3_column 3 (some .int)) (rmL lev mc ms) mc ms 3 ∧ (Cond.static yX3_column).before args s = true :=
  va_cwS 3 hts (lw_S hl q2511 q116 q2512) rfl rfl rfl (by decide +kernel) ⟨hR1, hR2⟩
set_option maxHeartbeats 4000000 in
theorem m_X3_column {E : jE} (l : Launch) (w : Wl) (x : Int) (d : Int) (left : Prop) (h1 : -1000000 ≤ x ∧ x ≤ 1000000) (h2 : -1000000 ≤ d ∧ d ≤ 1000000) : Met l yX3_column (ws_ yX3_column cX3_column 3 (some .int)) (rmL 2 0 0) (va_Pc [.int (iI x), .int (iI d), .int (iI (bI left))] (jP E w)) (jQi E (fun _ : Unit => w) (fun z _ => z = colO x d left)) 0 0 (jA E) := by
  refine j_metI (by decide) (Nat.le_of_ble_eq_true rfl) ?_
  intro p e s m args below meth c Q hx hb hml hown hnm hts hV hH hret ls hl
  have hl : lv_has ls 3 [(0, .int (iI x)), (1, .int (iI d)), (2, .int (iI (bI left)))] := hl
  refine lv_iload_n hx hb dX3_column_0 rfl (lv_at hl 2 rfl) ?_
  refine j_ifeq_b (tgt := 16) hx hb dX3_column_1 (by decide) (fun c1 => ?_) (fun c1 => ?_)
  · refine lv_iload_n hx hb dX3_column_16 rfl (lv_at hl 0 rfl) ?_
    refine lv_iload_n hx hb dX3_column_17 rfl (lv_at hl 1 rfl) ?_
    refine j_iconst hx hb dX3_column_18 ?_
    refine j_callip (va_runS (As := [.int (iI d), .int (iI 2)]) (rest := [.int (iI x)]) ⟨hx, hb, hml, hown, hts⟩ (m_X3_floor l _ d 2 (by omega) (by omega)) (cw_X3_floor hts q2487 (Nat.le_of_ble_eq_true rfl) (Nat.le_of_ble_eq_true rfl)) (j_preS hV hH) rfl rfl hl.1 rfl (lv_room (Nat.le_of_ble_eq_true rfl)) dX3_column_19 ⟨Nat.le_of_ble_eq_true rfl, Nat.le_of_ble_eq_true rfl⟩) hH (fun H locs hH => ?_)
    refine j_isub hx hb dX3_column_22 ?_
    exact hret () hH dX3_column_23 (Nat.le_of_ble_eq_true rfl) (Nat.le_of_ble_eq_true rfl) (by first | exact (colO_t c1).symm | exact (colO_f c1).symm)
  · refine lv_iload_n hx hb dX3_column_4 rfl (lv_at hl 0 rfl) ?_
    refine lv_iload_n hx hb dX3_column_5 rfl (lv_at hl 1 rfl) ?_
    refine j_iconst hx hb dX3_column_6 ?_
    refine j_iadd hx hb dX3_column_7 ?_
    refine j_iconst hx hb dX3_column_8 ?_
    refine j_callip (va_runS (As := [.int (iI (d + 1)), .int (iI 2)]) (rest := [.int (iI x)]) ⟨hx, hb, hml, hown, hts⟩ (m_X3_floor l _ (d + 1) 2 (by omega) (by omega)) (cw_X3_floor hts q2487 (Nat.le_of_ble_eq_true rfl) (Nat.le_of_ble_eq_true rfl)) (j_preS hV hH) rfl rfl hl.1 rfl (lv_room (Nat.le_of_ble_eq_true rfl)) dX3_column_9 ⟨Nat.le_of_ble_eq_true rfl, Nat.le_of_ble_eq_true rfl⟩) hH (fun H locs hH => ?_)
    refine j_iadd hx hb dX3_column_12 ?_
    refine lv_goto (tgt := 23) hx hb dX3_column_13 (by decide) ?_
    exact hret () hH dX3_column_23 (Nat.le_of_ble_eq_true rfl) (Nat.le_of_ble_eq_true rfl) (by first | exact (colO_t c1).symm | exact (colO_f c1).symm)
theorem cw_X3_commandOf {R : Room} {s : State} {args : Array Value} {own : String} {index lev mc ms : Nat} (hts : ∀ w ∈ lw_all, w.before args s = true) (hl : Cond.methodLink own index yX3_commandOf ∈ lw_all) (hR1 : (rmL lev mc ms).frames + 1 ≤ R.frames) (hR2 : 8 + (2 + 11) + (rmL lev mc ms).locals ≤ R.locals) : CallB R s args own index yX3_commandOf cX3_commandOf 2 (some .int) (ws_ yX3_commandOf cX3_commandOf 2 (some .int)) (rmL lev mc ms) mc ms 1 ∧ (Cond.static yX3_commandOf).before args s = true :=
  va_cwS 1 hts (lw_S hl q2671 q116 q2672) rfl rfl rfl (by decide +kernel) ⟨hR1, hR2⟩
set_option maxHeartbeats 4000000 in
theorem m_X3_commandOf {E : jE} (l : Launch) (w : Wl) (v : Int) (h1 : -4611686018427387904 ≤ v ∧ v ≤ 4611686018427387904) : Met l yX3_commandOf (ws_ yX3_commandOf cX3_commandOf 2 (some .int)) (rmL 1 0 0) (va_Pc [.long (lL v)] (jP E w)) (jQi E (fun _ : Unit => w) (fun z _ => z = cmdO v)) 0 0 (jA E) := by
  refine j_metI (by decide) (Nat.le_of_ble_eq_true rfl) ?_
  intro p e s m args below meth c Q hx hb hml hown hnm hts hV hH hret ls hl
  have hl : lv_has ls 2 [(0, .long (lL v))] := hl
  refine lv_lload_n hx hb dX3_commandOf_0 rfl (lv_at hl 0 rfl) ?_
  refine j_ldc2 (z := 3544025) hx hb hts hown q2673 dX3_commandOf_1 (by decide +kernel) ?_
  refine j_lcmp hx hb dX3_commandOf_4 (by omega) (by omega) ?_
  refine j_ifc_ne (tgt := 12) hx hb dX3_commandOf_5 (by decide) (fun c5 => ?_) (fun c5 => ?_)
  · refine lv_lload_n hx hb dX3_commandOf_12 rfl (lv_at hl 0 rfl) ?_
    refine j_ldc2 (z := 4085899) hx hb hts hown q2674 dX3_commandOf_13 (by decide +kernel) ?_
    refine j_lcmp hx hb dX3_commandOf_16 (by omega) (by omega) ?_
    refine j_ifc_ne (tgt := 24) hx hb dX3_commandOf_17 (by decide) (fun c17 => ?_) (fun c17 => ?_)
    · refine lv_lload_n hx hb dX3_commandOf_24 rfl (lv_at hl 0 rfl) ?_
      refine j_ldc2 (z := 1887) hx hb hts hown q2675 dX3_commandOf_25 (by decide +kernel) ?_
      refine j_lcmp hx hb dX3_commandOf_28 (by omega) (by omega) ?_
      refine j_ifc_ne (tgt := 36) hx hb dX3_commandOf_29 (by decide) (fun c29 => ?_) (fun c29 => ?_)
      · refine lv_lload_n hx hb dX3_commandOf_36 rfl (lv_at hl 0 rfl) ?_
        refine j_ldc2 (z := 40187) hx hb hts hown q2676 dX3_commandOf_37 (by decide +kernel) ?_
        refine j_lcmp hx hb dX3_commandOf_40 (by omega) (by omega) ?_
        refine j_ifc_ne (tgt := 48) hx hb dX3_commandOf_41 (by decide) (fun c41 => ?_) (fun c41 => ?_)
        · refine lv_lload_n hx hb dX3_commandOf_48 rfl (lv_at hl 0 rfl) ?_
          refine j_ldc2 (z := 10160456) hx hb hts hown q2677 dX3_commandOf_49 (by decide +kernel) ?_
          refine j_lcmp hx hb dX3_commandOf_52 (by omega) (by omega) ?_
          refine j_ifc_ne (tgt := 60) hx hb dX3_commandOf_53 (by decide) (fun c53 => ?_) (fun c53 => ?_)
          · refine lv_lload_n hx hb dX3_commandOf_60 rfl (lv_at hl 0 rfl) ?_
            refine j_ldc2 (z := 14006) hx hb hts hown q2678 dX3_commandOf_61 (by decide +kernel) ?_
            refine j_lcmp hx hb dX3_commandOf_64 (by omega) (by omega) ?_
            refine j_ifc_ne (tgt := 72) hx hb dX3_commandOf_65 (by decide) (fun c65 => ?_) (fun c65 => ?_)
            · refine lv_lload_n hx hb dX3_commandOf_72 rfl (lv_at hl 0 rfl) ?_
              refine j_ldc2 (z := 10820876) hx hb hts hown q2679 dX3_commandOf_73 (by decide +kernel) ?_
              refine j_lcmp hx hb dX3_commandOf_76 (by omega) (by omega) ?_
              refine j_ifc_ne (tgt := 85) hx hb dX3_commandOf_77 (by decide) (fun c77 => ?_) (fun c77 => ?_)
              · refine lv_lload_n hx hb dX3_commandOf_85 rfl (lv_at hl 0 rfl) ?_
                refine j_ldc2 (z := 92275) hx hb hts hown q2680 dX3_commandOf_86 (by decide +kernel) ?_
                refine j_lcmp hx hb dX3_commandOf_89 (by omega) (by omega) ?_
                refine j_ifc_ne (tgt := 98) hx hb dX3_commandOf_90 (by decide) (fun c90 => ?_) (fun c90 => ?_)
                · refine lv_lload_n hx hb dX3_commandOf_98 rfl (lv_at hl 0 rfl) ?_
                  refine j_ldc2 (z := 400313) hx hb hts hown q2681 dX3_commandOf_99 (by decide +kernel) ?_
                  refine j_lcmp hx hb dX3_commandOf_102 (by omega) (by omega) ?_
                  refine j_ifc_ne (tgt := 111) hx hb dX3_commandOf_103 (by decide) (fun c103 => ?_) (fun c103 => ?_)
                  · refine j_sipush hx hb dX3_commandOf_111 (by decide) ?_
                    exact hret () hH dX3_commandOf_114 (Nat.le_of_ble_eq_true rfl) (Nat.le_of_ble_eq_true rfl) (by unfold cmdO; omega)
                  · refine j_bipush hx hb dX3_commandOf_106 (by decide) ?_
                    refine lv_goto (tgt := 114) hx hb dX3_commandOf_108 (by decide) ?_
                    exact hret () hH dX3_commandOf_114 (Nat.le_of_ble_eq_true rfl) (Nat.le_of_ble_eq_true rfl) (by unfold cmdO; omega)
                · refine j_bipush hx hb dX3_commandOf_93 (by decide) ?_
                  refine lv_goto (tgt := 114) hx hb dX3_commandOf_95 (by decide) ?_
                  exact hret () hH dX3_commandOf_114 (Nat.le_of_ble_eq_true rfl) (Nat.le_of_ble_eq_true rfl) (by unfold cmdO; omega)
              · refine j_bipush hx hb dX3_commandOf_80 (by decide) ?_
                refine lv_goto (tgt := 114) hx hb dX3_commandOf_82 (by decide) ?_
                exact hret () hH dX3_commandOf_114 (Nat.le_of_ble_eq_true rfl) (Nat.le_of_ble_eq_true rfl) (by unfold cmdO; omega)
            · refine j_iconst hx hb dX3_commandOf_68 ?_
              refine lv_goto (tgt := 114) hx hb dX3_commandOf_69 (by decide) ?_
              exact hret () hH dX3_commandOf_114 (Nat.le_of_ble_eq_true rfl) (Nat.le_of_ble_eq_true rfl) (by unfold cmdO; omega)
          · refine j_iconst hx hb dX3_commandOf_56 ?_
            refine lv_goto (tgt := 114) hx hb dX3_commandOf_57 (by decide) ?_
            exact hret () hH dX3_commandOf_114 (Nat.le_of_ble_eq_true rfl) (Nat.le_of_ble_eq_true rfl) (by unfold cmdO; omega)
        · refine j_iconst hx hb dX3_commandOf_44 ?_
          refine lv_goto (tgt := 114) hx hb dX3_commandOf_45 (by decide) ?_
          exact hret () hH dX3_commandOf_114 (Nat.le_of_ble_eq_true rfl) (Nat.le_of_ble_eq_true rfl) (by unfold cmdO; omega)
      · refine j_iconst hx hb dX3_commandOf_32 ?_
        refine lv_goto (tgt := 114) hx hb dX3_commandOf_33 (by decide) ?_
        exact hret () hH dX3_commandOf_114 (Nat.le_of_ble_eq_true rfl) (Nat.le_of_ble_eq_true rfl) (by unfold cmdO; omega)
    · refine j_iconst hx hb dX3_commandOf_20 ?_
      refine lv_goto (tgt := 114) hx hb dX3_commandOf_21 (by decide) ?_
      exact hret () hH dX3_commandOf_114 (Nat.le_of_ble_eq_true rfl) (Nat.le_of_ble_eq_true rfl) (by unfold cmdO; omega)
  · refine j_iconst hx hb dX3_commandOf_8 ?_
    refine lv_goto (tgt := 114) hx hb dX3_commandOf_9 (by decide) ?_
    exact hret () hH dX3_commandOf_114 (Nat.le_of_ble_eq_true rfl) (Nat.le_of_ble_eq_true rfl) (by unfold cmdO; omega)
theorem cw_X3_thrown {R : Room} {s : State} {args : Array Value} {own : String} {index lev mc ms : Nat} (hts : ∀ w ∈ lw_all, w.before args s = true) (hl : Cond.methodLink own index yX3_thrown ∈ lw_all) (hR1 : (rmL lev mc ms).frames + 1 ≤ R.frames) (hR2 : 8 + (1 + 11) + (rmL lev mc ms).locals ≤ R.locals) : CallW R s args own RX3 index yX3_thrown cX3_thrown 1 (some .int) (ws_ yX3_thrown cX3_thrown 1 (some .int)) (rmL lev mc ms) mc ms 0 :=
  cwV 0 hts (lw_V hl q2303 q2304 q116 q2305) rfl rfl rfl (by decide +kernel) ⟨hR1, hR2⟩
set_option maxHeartbeats 4000000 in
theorem m_X3_thrown {E : jE} (l : Launch) (o : Nat) (st : Ms) (w0 : Wl) : Met l yX3_thrown (ws_ yX3_thrown cX3_thrown 1 (some .int)) (rmL 1 0 0) (va_Pc [.ref o] (jP E (wM E o st w0))) (jQi E (fun u : Ms => wM E o u w0) (fun z u => z = st 6 0 ∧ u = st)) 0 0 (jA E) := by
  refine j_metI (by decide) (Nat.le_of_ble_eq_true rfl) ?_
  intro p e s m args below meth c Q hx hb hml hown hnm hts hV hH hret ls hl
  have hl : lv_has ls 1 [(0, .ref o)] := hl
  refine lv_aload_n hx hb dX3_thrown_0 rfl (lv_at hl 0 rfl) ?_
  refine j_get hx hb hts hown hV hH wM_o rfl in_X3 6 (Nat.le_of_ble_eq_true rfl) q2235 (fun _ h => h) rfl dX3_thrown_1 ?_
  exact hret st hH dX3_thrown_4 (Nat.le_of_ble_eq_true rfl) (Nat.le_of_ble_eq_true rfl) ⟨by first | rfl | omega, rfl⟩
theorem cw_X3_of {R : Room} {s : State} {args : Array Value} {own : String} {index lev mc ms : Nat} (hts : ∀ w ∈ lw_all, w.before args s = true) (hl : Cond.methodLink own index yX3_of ∈ lw_all) (hR1 : (rmL lev mc ms).frames + 1 ≤ R.frames) (hR2 : 8 + (3 + 11) + (rmL lev mc ms).locals ≤ R.locals) : CallW R s args own RX3 index yX3_of cX3_of 3 (some .int) (ws_ yX3_of cX3_of 3 (some .int)) (rmL lev mc ms) mc ms 2 :=
  cwV 2 hts (lw_V hl q2345 qs52 q116 q2346) rfl rfl rfl (by decide +kernel) ⟨hR1, hR2⟩
set_option maxHeartbeats 4000000 in
theorem m_X3_of {E : jE} (l : Launch) (o : Nat) (st : Ms) (w0 : Wl) (n : Int) (what : Int) (h1 : 0 ≤ 14 + 8 * n + what ∧ 14 + 8 * n + what < 198) : Met l yX3_of (ws_ yX3_of cX3_of 3 (some .int)) (rmL 1 0 0) (va_Pc [.ref o, .int (iI n), .int (iI what)] (jP E (wM E o st w0))) (jQi E (fun u : Ms => wM E o u w0) (fun z u => z = nd (st 0) n what ∧ u = st)) 0 0 (jA E) := by
  refine j_metI (by decide) (Nat.le_of_ble_eq_true rfl) ?_
  intro p e s m args below meth c Q hx hb hml hown hnm hts hV hH hret ls hl
  have hl : lv_has ls 3 [(0, .ref o), (1, .int (iI n)), (2, .int (iI what))] := hl
  refine lv_aload_n hx hb dX3_of_0 rfl (lv_at hl 0 rfl) ?_
  refine j_get hx hb hts hown hV hH wM_o rfl in_X3 0 (Nat.le_of_ble_eq_true rfl) q2229 (fun _ h => h) rfl dX3_of_1 ?_
  refine j_bipush hx hb dX3_of_4 (by decide) ?_
  refine j_bipush hx hb dX3_of_6 (by decide) ?_
  refine lv_iload_n hx hb dX3_of_8 rfl (lv_at hl 1 rfl) ?_
  refine j_imul hx hb dX3_of_9 ?_
  refine j_iadd hx hb dX3_of_10 ?_
  refine lv_iload_n hx hb dX3_of_11 rfl (lv_at hl 2 rfl) ?_
  refine j_iadd hx hb dX3_of_12 ?_
  refine j_iald (n := 198) hx hb hV hH wM_0 (by omega) (by omega) dX3_of_13 ?_
  exact hret st hH dX3_of_14 (Nat.le_of_ble_eq_true rfl) (Nat.le_of_ble_eq_true rfl) ⟨by first | rfl | omega, rfl⟩
theorem cw_X3_isNode {R : Room} {s : State} {args : Array Value} {own : String} {index lev mc ms : Nat} (hts : ∀ w ∈ lw_all, w.before args s = true) (hl : Cond.methodLink own index yX3_isNode ∈ lw_all) (hR1 : (rmL lev mc ms).frames + 1 ≤ R.frames) (hR2 : 8 + (2 + 11) + (rmL lev mc ms).locals ≤ R.locals) : CallW R s args own RX3 index yX3_isNode cX3_isNode 2 (some .boolean) (ws_ yX3_isNode cX3_isNode 2 (some .boolean)) (rmL lev mc ms) mc ms 1 :=
  cwV 1 hts (lw_V hl q2337 qs50 q116 q2338) rfl rfl rfl (by decide +kernel) ⟨hR1, hR2⟩
set_option maxHeartbeats 4000000 in
theorem m_X3_isNode {E : jE} (l : Launch) (o : Nat) (st : Ms) (w0 : Wl) (T : Int) (n : Int) (h1 : PWF T (st 0)) (h2 : -2147483648 ≤ n ∧ n ≤ 2147483647) : Met l yX3_isNode (ws_ yX3_isNode cX3_isNode 2 (some .boolean)) (rmL 2 0 0) (va_Pc [.ref o, .int (iI n)] (jP E (wM E o st w0))) (jQi E (fun u : Ms => wM E o u w0) (fun z u => z = bI (0 ≤ n ∧ n < st 0 2) ∧ u = st)) 0 0 (jA E) := by
  refine j_metZ (by decide) (Nat.le_of_ble_eq_true rfl) ?_
  intro p e s m args below meth c Q hx hb hml hown hnm hts hV hH hret ls hl
  have hl : lv_has ls 2 [(0, .ref o), (1, .int (iI n))] := hl
  have hA := h1.A
  refine lv_iload_n hx hb dX3_isNode_0 rfl (lv_at hl 1 rfl) ?_
  refine j_iconst hx hb dX3_isNode_1 ?_
  refine lv_aload_n hx hb dX3_isNode_2 rfl (lv_at hl 0 rfl) ?_
  refine j_get hx hb hts hown hV hH wM_o rfl in_X3 0 (Nat.le_of_ble_eq_true rfl) q2229 (fun _ h => h) rfl dX3_isNode_3 ?_
  refine j_iconst hx hb dX3_isNode_6 ?_
  refine j_iald (n := 198) hx hb hV hH wM_0 (by decide) (by decide) dX3_isNode_7 ?_
  refine j_iconst hx hb dX3_isNode_8 ?_
  refine j_isub hx hb dX3_isNode_9 ?_
  refine j_callip (va_runS (As := [.int (iI n), .int (iI 0), .int (iI ((st 0 2) - 1))]) (rest := []) ⟨hx, hb, hml, hown, hts⟩ (m_X3_in l _ n 0 ((st 0 2) - 1) (by omega) (by omega) (by omega)) (cw_X3_in hts q2313 (Nat.le_of_ble_eq_true rfl) (Nat.le_of_ble_eq_true rfl)) (j_preS hV hH) rfl rfl hl.1 rfl (lv_room (Nat.le_of_ble_eq_true rfl)) dX3_isNode_10 ⟨Nat.le_of_ble_eq_true rfl, Nat.le_of_ble_eq_true rfl⟩) hH (fun H locs hH => ?_)
  exact hret st hH dX3_isNode_13 (Nat.le_of_ble_eq_true rfl) (Nat.le_of_ble_eq_true rfl) (bI_01 _) (⟨bI_c (by omega), rfl⟩)
theorem cw_X3_isBox {R : Room} {s : State} {args : Array Value} {own : String} {index lev mc ms : Nat} (hts : ∀ w ∈ lw_all, w.before args s = true) (hl : Cond.methodLink own index yX3_isBox ∈ lw_all) (hR1 : (rmL lev mc ms).frames + 1 ≤ R.frames) (hR2 : 8 + (2 + 11) + (rmL lev mc ms).locals ≤ R.locals) : CallW R s args own RX3 index yX3_isBox cX3_isBox 2 (some .boolean) (ws_ yX3_isBox cX3_isBox 2 (some .boolean)) (rmL lev mc ms) mc ms 1 :=
  cwV 1 hts (lw_V hl q2341 qs51 q116 q2342) rfl rfl rfl (by decide +kernel) ⟨hR1, hR2⟩
set_option maxHeartbeats 4000000 in
theorem m_X3_isBox {E : jE} (l : Launch) (o : Nat) (st : Ms) (w0 : Wl) (T : Int) (n : Int) (h1 : PWF T (st 0)) (h2 : 0 ≤ n) (h3 : n < st 0 2) : Met l yX3_isBox (ws_ yX3_isBox cX3_isBox 2 (some .boolean)) (rmL 2 0 0) (va_Pc [.ref o, .int (iI n)] (jP E (wM E o st w0))) (jQi E (fun u : Ms => wM E o u w0) (fun z u => z = bI (0 < nd (st 0) n 4) ∧ u = st)) 0 0 (jA E) := by
  refine j_metZ (by decide) (Nat.le_of_ble_eq_true rfl) ?_
  intro p e s m args below meth c Q hx hb hml hown hnm hts hV hH hret ls hl
  have hl : lv_has ls 2 [(0, .ref o), (1, .int (iI n))] := hl
  have hA := h1.A
  have hN := h1.N h2 h3
  refine lv_aload_n hx hb dX3_isBox_0 rfl (lv_at hl 0 rfl) ?_
  refine lv_iload_n hx hb dX3_isBox_1 rfl (lv_at hl 1 rfl) ?_
  refine j_iconst hx hb dX3_isBox_2 ?_
  refine j_callif (va_runV (As := [.int (iI n), .int (iI 4)]) (rest := []) ⟨hx, hb, hml, hown, hts⟩ (m_X3_of l o st w0 n 4 (by omega)) (cw_X3_of hts q2343 (Nat.le_of_ble_eq_true rfl) (Nat.le_of_ble_eq_true rfl)) (j_preV hV hH wM_o rfl) rfl rfl hl.1 rfl (lv_room (Nat.le_of_ble_eq_true rfl)) dX3_isBox_3 ⟨Nat.le_of_ble_eq_true rfl, Nat.le_of_ble_eq_true rfl⟩) hH (fun H locs hH => ?_)
  refine j_if_le (tgt := 13) hx hb dX3_isBox_6 (by decide) (by omega) (fun c6 => ?_) (fun c6 => ?_)
  · refine j_iconst hx hb dX3_isBox_13 ?_
    exact hret st hH dX3_isBox_14 (Nat.le_of_ble_eq_true rfl) (Nat.le_of_ble_eq_true rfl) (by decide) (⟨by first | exact (bI_t (by omega)).symm | exact (bI_f (by omega)).symm, rfl⟩)
  · refine j_iconst hx hb dX3_isBox_9 ?_
    refine lv_goto (tgt := 14) hx hb dX3_isBox_10 (by decide) ?_
    exact hret st hH dX3_isBox_14 (Nat.le_of_ble_eq_true rfl) (Nat.le_of_ble_eq_true rfl) (by decide) (⟨by first | exact (bI_t (by omega)).symm | exact (bI_f (by omega)).symm, rfl⟩)
theorem cw_X3_groupsAround {R : Room} {s : State} {args : Array Value} {own : String} {index lev mc ms : Nat} (hts : ∀ w ∈ lw_all, w.before args s = true) (hl : Cond.methodLink own index yX3_groupsAround ∈ lw_all) (hR1 : (rmL lev mc ms).frames + 1 ≤ R.frames) (hR2 : 8 + (4 + 11) + (rmL lev mc ms).locals ≤ R.locals) : CallW R s args own RX3 index yX3_groupsAround cX3_groupsAround 4 (some .int) (ws_ yX3_groupsAround cX3_groupsAround 4 (some .int)) (rmL lev mc ms) mc ms 1 :=
  cwV 1 hts (lw_V hl q2352 qs53 q116 q2353) rfl rfl rfl (by decide +kernel) ⟨hR1, hR2⟩
set_option maxHeartbeats 4000000 in
theorem m_X3_groupsAround {E : jE} (l : Launch) (o : Nat) (st : Ms) (w0 : Wl) (T : Int) (n : Int) (h1 : PWF T (st 0)) (h2 : 0 ≤ n) (h3 : n < st 0 2) : Met l yX3_groupsAround (ws_ yX3_groupsAround cX3_groupsAround 4 (some .int)) (rmL 2 0 0) (va_Pc [.ref o, .int (iI n)] (jP E (wM E o st w0))) (jQi E (fun u : Ms => wM E o u w0) (fun z u => z = depO (st 0) n ∧ u = st)) 0 0 (jA E) := by
  refine j_metI (by decide) (Nat.le_of_ble_eq_true rfl) ?_
  intro p e s m args below meth c Q hx hb hml hown hnm hts hV hH hret ls hl
  have hl : lv_has ls 4 [(0, .ref o), (1, .int (iI n))] := hl
  have hA := h1.A
  have hn := h1.N h2 h3
  refine j_iconst hx hb dX3_groupsAround_0 ?_
  refine j_istore_n (lv' := fun x1 => [(2, .int (iI x1)), (0, .ref o), (1, .int (iI n))]) hx hb dX3_groupsAround_1 rfl hl (by decide) (fun _ => rfl) (fun x1 ex1 ls hl => ?_)
  refine lv_aload_n hx hb dX3_groupsAround_2 rfl (lv_at hl 1 rfl) ?_
  refine lv_iload_n hx hb dX3_groupsAround_3 rfl (lv_at hl 2 rfl) ?_
  refine j_iconst hx hb dX3_groupsAround_4 ?_
  refine j_callif (va_runV (As := [.int (iI n), .int (iI 0)]) (rest := []) ⟨hx, hb, hml, hown, hts⟩ (m_X3_of l o st w0 n 0 (by omega)) (cw_X3_of hts q2343 (Nat.le_of_ble_eq_true rfl) (Nat.le_of_ble_eq_true rfl)) (j_preV hV hH wM_o rfl) rfl rfl hl.1 rfl (lv_room (Nat.le_of_ble_eq_true rfl)) dX3_groupsAround_5 ⟨Nat.le_of_ble_eq_true rfl, Nat.le_of_ble_eq_true rfl⟩) hH (fun H locs hH => ?_)
  refine j_istore_n (lv' := fun x2 => [(3, .int (iI x2)), (2, .int (iI x1)), (0, .ref o), (1, .int (iI n))]) hx hb dX3_groupsAround_8 rfl hl (by decide) (fun _ => rfl) (fun x2 ex2 ls hl => ?_)
  have L9 : ∀ (n_ : Nat), ∀ (many : Int) (its : Int) (hm_ : its + 1001 < (n_ : Int)) (i1 : okN (st 0) its) (i2 : many + gaO (st 0) its = depO (st 0) n) (H : Heap) (locs : List Loc), jH E s.heap (wM E o st w0) H locs → ∀ ls : Array Slot, lv_has ls 4 [(0, .ref o), (1, .int (iI n)), (2, .int (iI many)), (3, .int (iI its))] → W p l e (rmL 2 0 0) s m args below meth c H locs 0 0 Q (F0 m 9 ls []) := by
    intro n_
    induction n_ with
    | zero =>
      intro many its hm_ i1 i2 H locs hH ls hl
      exact absurd hm_ (by omega)
    | succ n_ ih_9 =>
      intro many its hm_ i1 i2 H locs hH ls hl
      refine lv_iload_n hx hb dX3_groupsAround_9 rfl (lv_at hl 3 rfl) ?_
      refine j_sipush hx hb dX3_groupsAround_10 (by decide) ?_
      refine j_icmp_eq (tgt := 29) hx hb dX3_groupsAround_13 (by decide) (by omega) (by omega) (fun c13 => ?_) (fun c13 => ?_)
      · refine lv_iload_n hx hb dX3_groupsAround_29 rfl (lv_at hl 2 rfl) ?_
        exact hret st hH dX3_groupsAround_30 (Nat.le_of_ble_eq_true rfl) (Nat.le_of_ble_eq_true rfl) (⟨by have e : gaO (st 0) its = 0 := if_pos c13; omega, rfl⟩)
      · have iq := i1.resolve_left c13
        have hq := h1.N iq.1 iq.2
        have hg : gaO (st 0) its = 1 + depO (st 0) its := if_neg c13
        have hd := depO_ga h1 iq.1 iq.2
        refine j_iinc (k := 2) (lv' := fun x3 => [(2, .int (iI x3)), (0, .ref o), (1, .int (iI n)), (3, .int (iI its))]) hx hb dX3_groupsAround_16 hl rfl (by decide) (fun _ => rfl) (fun x3 ex3 ls hl => ?_)
        refine lv_aload_n hx hb dX3_groupsAround_19 rfl (lv_at hl 1 rfl) ?_
        refine lv_iload_n hx hb dX3_groupsAround_20 rfl (lv_at hl 3 rfl) ?_
        refine j_iconst hx hb dX3_groupsAround_21 ?_
        refine j_callif (va_runV (As := [.int (iI its), .int (iI 0)]) (rest := []) ⟨hx, hb, hml, hown, hts⟩ (m_X3_of l o st w0 its 0 (by omega)) (cw_X3_of hts q2343 (Nat.le_of_ble_eq_true rfl) (Nat.le_of_ble_eq_true rfl)) (j_preV hV hH wM_o rfl) rfl rfl hl.1 rfl (lv_room (Nat.le_of_ble_eq_true rfl)) dX3_groupsAround_22 ⟨Nat.le_of_ble_eq_true rfl, Nat.le_of_ble_eq_true rfl⟩) hH (fun H locs hH => ?_)
        refine j_istore_n (lv' := fun x4 => [(3, .int (iI x4)), (2, .int (iI x3)), (0, .ref o), (1, .int (iI n))]) hx hb dX3_groupsAround_25 rfl hl (by decide) (fun _ => rfl) (fun x4 ex4 ls hl => ?_)
        refine lv_goto (tgt := 9) hx hb dX3_groupsAround_26 (by decide) ?_
        exact ih_9 x3 x4 (by omega) (by rw [ex4]; exact okN.parent h1 iq.1 iq.2) (by rw [ex4]; omega) _ _ hH ls (lv_sub hl [2, 3, 1, 0] rfl)
  exact L9 ((x2 + 1001).toNat + 1) x1 x2 (by omega) (by rw [ex2]; exact okN.parent h1 h2 h3) (by rw [ex2, ← depO_ga h1 h2 h3]; omega) _ _ hH ls (lv_sub hl [2, 3, 1, 0] rfl)
