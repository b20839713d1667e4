/-! THE SYSTEM's METHODS: the stage, small ones -/
set_option maxRecDepth 100000
def sgO (P : Int → Int) : Int → Int := fun j => P (7 + j)
theorem cw_X2_towards {R : Room} {s : State} {args : Array Value} {own : String} {index lev mc ms : Nat} (hts : ∀ w ∈ lw_all, w.before args s = true) (hl : Cond.methodLink own index yX2_towards ∈ lw_all) (hR1 : (rmL lev mc ms).frames + 1 ≤ R.frames) (hR2 : 8 + (4 + 11) + (rmL lev mc ms).locals ≤ R.locals) : CallW R s args own RX2 index yX2_towards cX2_towards 4 (some .int) (ws_ yX2_towards cX2_towards 4 (some .int)) (rmL lev mc ms) mc ms 2 :=
  cwV 2 hts (lw_V hl q1525 qs27 q109 q1526) rfl rfl rfl (by decide +kernel) ⟨hR1, hR2⟩
set_option maxHeartbeats 4000000 in
theorem m_X2_towards {E : jE} (l : Launch) (w : Wl) (a : Nat) (t : Nat) (P : Int → Int) (nl : Nat) (sl : Nat) (stt : Nat) (tlo : Option Nat) (x : Int) (y : Int) (h1 : w a = some (t, .inr (1, [.int (iI (P 0)), .int (iI (P 1)), .ref nl, .ref sl, .ref stt, va_rf tlo, .int (iI (P 4)), .int (iI (P 5)), .int (iI (P 6))]))) (h2 : w stt = some (t, arI E 4 (sgO P))) (h3 : -1000 ≤ x ∧ x ≤ 1000) (h4 : -1000 ≤ y ∧ y ≤ 1000) (h5 : 0 ≤ P 8 ∧ P 8 ≤ 1000) : Met l yX2_towards (ws_ yX2_towards cX2_towards 4 (some .int)) (rmL 2 0 0) (va_Pc [.ref a, .int (iI x), .int (iI y)] (jP E w)) (jQi E (fun _ : Unit => w) (fun z _ => z = twO x y (P 8))) 0 0 (jA E) := by
  refine j_metI (by decide) (Nat.le_of_ble_eq_true rfl) ?_
  intro p e s m args below meth c Q hx hb hml hown hnm hts hV hH hret ls hl
  have hl : lv_has ls 4 [(0, .ref a), (1, .int (iI x)), (2, .int (iI y))] := hl
  refine lv_aload_n hx hb dX2_towards_0 rfl (lv_at hl 0 rfl) ?_
  refine j_get hx hb hts hown hV hH h1 rfl in_X2 4 (Nat.le_of_ble_eq_true rfl) q230 (fun _ h => h) rfl dX2_towards_1 ?_
  refine j_iconst hx hb dX2_towards_4 ?_
  refine j_iald hx hb hV hH h2 (by omega) (by omega) dX2_towards_5 ?_
  refine j_top (b := P 8) (rfl) ?_
  refine j_istore_n (lv' := fun x1 => [(3, .int (iI x1)), (0, .ref a), (1, .int (iI x)), (2, .int (iI y))]) hx hb dX2_towards_6 rfl hl (by decide) (fun _ => rfl) (fun x1 ex1 ls hl => ?_)
  refine lv_iload_n hx hb dX2_towards_7 rfl (lv_at hl 2 rfl) ?_
  refine lv_iload_n hx hb dX2_towards_8 rfl (lv_at hl 3 rfl) ?_
  refine j_icmp_ge (tgt := 22) hx hb dX2_towards_9 (by decide) (by omega) (by omega) (fun c9 => ?_) (fun c9 => ?_)
  · refine lv_iload_n hx hb dX2_towards_22 rfl (lv_at hl 3 rfl) ?_
    refine lv_iload_n hx hb dX2_towards_23 rfl (lv_at hl 2 rfl) ?_
    refine lv_iload_n hx hb dX2_towards_24 rfl (lv_at hl 0 rfl) ?_
    refine j_isub hx hb dX2_towards_25 ?_
    refine j_callip (va_runS (As := [.int (iI y), .int (iI (x - x1))]) (rest := []) ⟨hx, hb, hml, hown, hts⟩ (m_J12_max l _ y (x - x1) (by omega) (by omega)) (cw_J12_max hts q1528 (Nat.le_of_ble_eq_true rfl) (Nat.le_of_ble_eq_true rfl)) (j_preS hV hH) rfl rfl hl.1 rfl (lv_room (Nat.le_of_ble_eq_true rfl)) dX2_towards_26 ⟨Nat.le_of_ble_eq_true rfl, Nat.le_of_ble_eq_true rfl⟩) hH (fun H locs hH => ?_)
    exact hret () hH dX2_towards_29 (Nat.le_of_ble_eq_true rfl) (Nat.le_of_ble_eq_true rfl) (by unfold twO; omega)
  · refine lv_iload_n hx hb dX2_towards_12 rfl (lv_at hl 3 rfl) ?_
    refine lv_iload_n hx hb dX2_towards_13 rfl (lv_at hl 2 rfl) ?_
    refine lv_iload_n hx hb dX2_towards_14 rfl (lv_at hl 0 rfl) ?_
    refine j_iadd hx hb dX2_towards_15 ?_
    refine j_callip (va_runS (As := [.int (iI y), .int (iI (x + x1))]) (rest := []) ⟨hx, hb, hml, hown, hts⟩ (m_J12_min l _ y (x + x1) (by omega) (by omega)) (cw_J12_min hts q1527 (Nat.le_of_ble_eq_true rfl) (Nat.le_of_ble_eq_true rfl)) (j_preS hV hH) rfl rfl hl.1 rfl (lv_room (Nat.le_of_ble_eq_true rfl)) dX2_towards_16 ⟨Nat.le_of_ble_eq_true rfl, Nat.le_of_ble_eq_true rfl⟩) hH (fun H locs hH => ?_)
    refine lv_goto (tgt := 29) hx hb dX2_towards_19 (by decide) ?_
    exact hret () hH dX2_towards_29 (Nat.le_of_ble_eq_true rfl) (Nat.le_of_ble_eq_true rfl) (by unfold twO; omega)
theorem cw_X2_isSetting {R : Room} {s : State} {args : Array Value} {own : String} {index lev mc ms : Nat} (hts : ∀ w ∈ lw_all, w.before args s = true) (hl : Cond.methodLink own index yX2_isSetting ∈ lw_all) (hR1 : (rmL lev mc ms).frames + 1 ≤ R.frames) (hR2 : 8 + (2 + 11) + (rmL lev mc ms).locals ≤ R.locals) : CallB R s args own index yX2_isSetting cX2_isSetting 2 (some .boolean) (ws_ yX2_isSetting cX2_isSetting 2 (some .boolean)) (rmL lev mc ms) mc ms 2 ∧ (Cond.static yX2_isSetting).before args s = true :=
  va_cwS 2 hts (lw_S hl q1383 q109 q1384) rfl rfl rfl (by decide +kernel) ⟨hR1, hR2⟩
set_option maxHeartbeats 4000000 in
theorem m_X2_isSetting {E : jE} (l : Launch) (w : Wl) (x : Int) (v : Int) (h1 : -2147483648 ≤ x ∧ x ≤ 2147483647) (h2 : -2147483648 ≤ v ∧ v ≤ 2147483647) : Met l yX2_isSetting (ws_ yX2_isSetting cX2_isSetting 2 (some .boolean)) (rmL 2 0 0) (va_Pc [.int (iI x), .int (iI v)] (jP E w)) (jQi E (fun _ : Unit => w) (fun z _ => z = bI (nSet x v = 0))) 0 0 (jA E) := by
  refine j_metZ (by decide) (Nat.le_of_ble_eq_true rfl) ?_
  intro p e s m args below meth c Q hx hb hml hown hnm hts hV hH hret ls hl
  have hl : lv_has ls 2 [(0, .int (iI x)), (1, .int (iI v))] := hl
  refine lv_iload_n hx hb dX2_isSetting_0 rfl (lv_at hl 0 rfl) ?_
  have hsw : (x < 0 ∨ 3 < x) ∨ x = 0 ∨ x = 1 ∨ x = 2 ∨ x = 3 := by omega
  rcases hsw with c1 | c1 | c1 | c1 | c1
  · refine j_tableOut (tgt := 56) hx hb dX2_isSetting_1 (by omega) c1 (by decide) ?_
    refine lv_iload_n hx hb dX2_isSetting_56 rfl (lv_at hl 0 rfl) ?_
    refine j_iconst hx hb dX2_isSetting_57 ?_
    refine j_icmp_ne (tgt := 77) hx hb dX2_isSetting_58 (by decide) (by omega) (by omega) (fun c58 => ?_) (fun c58 => ?_)
    · refine j_iconst hx hb dX2_isSetting_77 ?_
      exact hret () hH dX2_isSetting_78 (Nat.le_of_ble_eq_true rfl) (Nat.le_of_ble_eq_true rfl) (by decide) (by unfold nSet; first | exact (bI_c (by split <;> omega)) | exact bT (by rw [if_pos (by omega)]) | exact bF (by rw [if_neg (by omega)]; decide))
    · refine lv_iload_n hx hb dX2_isSetting_61 rfl (lv_at hl 1 rfl) ?_
      refine j_i2l hx hb dX2_isSetting_62 (by omega) ?_
      refine j_lconst (z := 0) hx hb dX2_isSetting_63 (by decide +kernel) ?_
      refine j_ldc2 (z := 15) hx hb hts hown q1386 dX2_isSetting_64 (by decide +kernel) ?_
      refine j_callip (va_runSN (As := [.long (lL v), .long (lL 0), .long (lL 15)]) (rest := []) ⟨hx, hb, hml, hown, hts⟩ (m_X1_inRange l _ v 0 15 (by omega) (by omega) (by omega)) ⟨va_cnB 3 hts (lw_meth q1033) rfl rfl rfl (hV.2.1 _ q1031 rfl) (hts _ q108) (by decide +kernel) ⟨(Nat.le_of_ble_eq_true rfl), (Nat.le_of_ble_eq_true rfl)⟩, hts _ q1032, trivial⟩ (j_preS hV hH) rfl rfl hl.1 rfl (lv_room (Nat.le_of_ble_eq_true rfl)) dX2_isSetting_67 ⟨Nat.le_of_ble_eq_true rfl, Nat.le_of_ble_eq_true rfl⟩) hH (fun H locs hH => ?_)
      refine j_ifeq_b (tgt := 77) hx hb dX2_isSetting_70 (by decide) (fun c70 => ?_) (fun c70 => ?_)
      · refine j_iconst hx hb dX2_isSetting_77 ?_
        exact hret () hH dX2_isSetting_78 (Nat.le_of_ble_eq_true rfl) (Nat.le_of_ble_eq_true rfl) (by decide) (by unfold nSet; first | exact (bI_c (by split <;> omega)) | exact bT (by rw [if_pos (by omega)]) | exact bF (by rw [if_neg (by omega)]; decide))
      · refine j_iconst hx hb dX2_isSetting_73 ?_
        refine lv_goto (tgt := 78) hx hb dX2_isSetting_74 (by decide) ?_
        exact hret () hH dX2_isSetting_78 (Nat.le_of_ble_eq_true rfl) (Nat.le_of_ble_eq_true rfl) (by decide) (by unfold nSet; first | exact (bI_c (by split <;> omega)) | exact bT (by rw [if_pos (by omega)]) | exact bF (by rw [if_neg (by omega)]; decide))
  · refine j_tableIn (tgt := 32) hx hb 0 dX2_isSetting_1 c1 (by decide) (by decide) rfl (by decide) ?_
    refine lv_iload_n hx hb dX2_isSetting_32 rfl (lv_at hl 1 rfl) ?_
    refine j_i2l hx hb dX2_isSetting_33 (by omega) ?_
    refine j_lconst (z := 0) hx hb dX2_isSetting_34 (by decide +kernel) ?_
    refine j_ldc2 (z := 100) hx hb hts hown q1250 dX2_isSetting_35 (by decide +kernel) ?_
    refine j_callip (va_runSN (As := [.long (lL v), .long (lL 0), .long (lL 100)]) (rest := []) ⟨hx, hb, hml, hown, hts⟩ (m_X1_inRange l _ v 0 100 (by omega) (by omega) (by omega)) ⟨va_cnB 3 hts (lw_meth q1033) rfl rfl rfl (hV.2.1 _ q1031 rfl) (hts _ q108) (by decide +kernel) ⟨(Nat.le_of_ble_eq_true rfl), (Nat.le_of_ble_eq_true rfl)⟩, hts _ q1032, trivial⟩ (j_preS hV hH) rfl rfl hl.1 rfl (lv_room (Nat.le_of_ble_eq_true rfl)) dX2_isSetting_38 ⟨Nat.le_of_ble_eq_true rfl, Nat.le_of_ble_eq_true rfl⟩) hH (fun H locs hH => ?_)
    refine lv_goto (tgt := 78) hx hb dX2_isSetting_41 (by decide) ?_
    exact hret () hH dX2_isSetting_78 (Nat.le_of_ble_eq_true rfl) (Nat.le_of_ble_eq_true rfl) (bI_01 _) (by unfold nSet; first | exact (bI_c (by split <;> omega)) | exact bT (by rw [if_pos (by omega)]) | exact bF (by rw [if_neg (by omega)]; decide))
  · refine j_tableIn (tgt := 44) hx hb 1 dX2_isSetting_1 c1 (by decide) (by decide) rfl (by decide) ?_
    refine lv_iload_n hx hb dX2_isSetting_44 rfl (lv_at hl 1 rfl) ?_
    refine j_i2l hx hb dX2_isSetting_45 (by omega) ?_
    refine j_lconst (z := 1) hx hb dX2_isSetting_46 (by decide +kernel) ?_
    refine j_ldc2 (z := 5) hx hb hts hown q1385 dX2_isSetting_47 (by decide +kernel) ?_
    refine j_callip (va_runSN (As := [.long (lL v), .long (lL 1), .long (lL 5)]) (rest := []) ⟨hx, hb, hml, hown, hts⟩ (m_X1_inRange l _ v 1 5 (by omega) (by omega) (by omega)) ⟨va_cnB 3 hts (lw_meth q1033) rfl rfl rfl (hV.2.1 _ q1031 rfl) (hts _ q108) (by decide +kernel) ⟨(Nat.le_of_ble_eq_true rfl), (Nat.le_of_ble_eq_true rfl)⟩, hts _ q1032, trivial⟩ (j_preS hV hH) rfl rfl hl.1 rfl (lv_room (Nat.le_of_ble_eq_true rfl)) dX2_isSetting_50 ⟨Nat.le_of_ble_eq_true rfl, Nat.le_of_ble_eq_true rfl⟩) hH (fun H locs hH => ?_)
    refine lv_goto (tgt := 78) hx hb dX2_isSetting_53 (by decide) ?_
    exact hret () hH dX2_isSetting_78 (Nat.le_of_ble_eq_true rfl) (Nat.le_of_ble_eq_true rfl) (bI_01 _) (by unfold nSet; first | exact (bI_c (by split <;> omega)) | exact bT (by rw [if_pos (by omega)]) | exact bF (by rw [if_neg (by omega)]; decide))
  · refine j_tableIn (tgt := 56) hx hb 2 dX2_isSetting_1 c1 (by decide) (by decide) rfl (by decide) ?_
    refine lv_iload_n hx hb dX2_isSetting_56 rfl (lv_at hl 0 rfl) ?_
    refine j_iconst hx hb dX2_isSetting_57 ?_
    refine j_icmp_ne (tgt := 77) hx hb dX2_isSetting_58 (by decide) (by omega) (by omega) (fun c58 => ?_) (fun c58 => ?_)
    · refine j_iconst hx hb dX2_isSetting_77 ?_
      exact hret () hH dX2_isSetting_78 (Nat.le_of_ble_eq_true rfl) (Nat.le_of_ble_eq_true rfl) (by decide) (by unfold nSet; first | exact (bI_c (by split <;> omega)) | exact bT (by rw [if_pos (by omega)]) | exact bF (by rw [if_neg (by omega)]; decide))
    · refine lv_iload_n hx hb dX2_isSetting_61 rfl (lv_at hl 1 rfl) ?_
      refine j_i2l hx hb dX2_isSetting_62 (by omega) ?_
      refine j_lconst (z := 0) hx hb dX2_isSetting_63 (by decide +kernel) ?_
      refine j_ldc2 (z := 15) hx hb hts hown q1386 dX2_isSetting_64 (by decide +kernel) ?_
      refine j_callip (va_runSN (As := [.long (lL v), .long (lL 0), .long (lL 15)]) (rest := []) ⟨hx, hb, hml, hown, hts⟩ (m_X1_inRange l _ v 0 15 (by omega) (by omega) (by omega)) ⟨va_cnB 3 hts (lw_meth q1033) rfl rfl rfl (hV.2.1 _ q1031 rfl) (hts _ q108) (by decide +kernel) ⟨(Nat.le_of_ble_eq_true rfl), (Nat.le_of_ble_eq_true rfl)⟩, hts _ q1032, trivial⟩ (j_preS hV hH) rfl rfl hl.1 rfl (lv_room (Nat.le_of_ble_eq_true rfl)) dX2_isSetting_67 ⟨Nat.le_of_ble_eq_true rfl, Nat.le_of_ble_eq_true rfl⟩) hH (fun H locs hH => ?_)
      refine j_ifeq_b (tgt := 77) hx hb dX2_isSetting_70 (by decide) (fun c70 => ?_) (fun c70 => ?_)
      · refine j_iconst hx hb dX2_isSetting_77 ?_
        exact hret () hH dX2_isSetting_78 (Nat.le_of_ble_eq_true rfl) (Nat.le_of_ble_eq_true rfl) (by decide) (by unfold nSet; first | exact (bI_c (by split <;> omega)) | exact bT (by rw [if_pos (by omega)]) | exact bF (by rw [if_neg (by omega)]; decide))
      · refine j_iconst hx hb dX2_isSetting_73 ?_
        refine lv_goto (tgt := 78) hx hb dX2_isSetting_74 (by decide) ?_
        exact hret () hH dX2_isSetting_78 (Nat.le_of_ble_eq_true rfl) (Nat.le_of_ble_eq_true rfl) (by decide) (by unfold nSet; first | exact (bI_c (by split <;> omega)) | exact bT (by rw [if_pos (by omega)]) | exact bF (by rw [if_neg (by omega)]; decide))
  · refine j_tableIn (tgt := 32) hx hb 3 dX2_isSetting_1 c1 (by decide) (by decide) rfl (by decide) ?_
    refine lv_iload_n hx hb dX2_isSetting_32 rfl (lv_at hl 1 rfl) ?_
    refine j_i2l hx hb dX2_isSetting_33 (by omega) ?_
    refine j_lconst (z := 0) hx hb dX2_isSetting_34 (by decide +kernel) ?_
    refine j_ldc2 (z := 100) hx hb hts hown q1250 dX2_isSetting_35 (by decide +kernel) ?_
    refine j_callip (va_runSN (As := [.long (lL v), .long (lL 0), .long (lL 100)]) (rest := []) ⟨hx, hb, hml, hown, hts⟩ (m_X1_inRange l _ v 0 100 (by omega) (by omega) (by omega)) ⟨va_cnB 3 hts (lw_meth q1033) rfl rfl rfl (hV.2.1 _ q1031 rfl) (hts _ q108) (by decide +kernel) ⟨(Nat.le_of_ble_eq_true rfl), (Nat.le_of_ble_eq_true rfl)⟩, hts _ q1032, trivial⟩ (j_preS hV hH) rfl rfl hl.1 rfl (lv_room (Nat.le_of_ble_eq_true rfl)) dX2_isSetting_38 ⟨Nat.le_of_ble_eq_true rfl, Nat.le_of_ble_eq_true rfl⟩) hH (fun H locs hH => ?_)
    refine lv_goto (tgt := 78) hx hb dX2_isSetting_41 (by decide) ?_
    exact hret () hH dX2_isSetting_78 (Nat.le_of_ble_eq_true rfl) (Nat.le_of_ble_eq_true rfl) (bI_01 _) (by unfold nSet; first | exact (bI_c (by split <;> omega)) | exact bT (by rw [if_pos (by omega)]) | exact bF (by rw [if_neg (by omega)]; decide))
