/-! THE SYSTEM's METHODS: titles, boxes -/
set_option maxRecDepth 100000
theorem cw_X8_column {R : Room} {s : State} {args : Array Value} {own : String} {index lev mc ms : Nat} (hts : ∀ w ∈ lw_all, w.before args s = true) (hl : Cond.methodLink own index yX8_column ∈ lw_all) (hR1 : (rmL lev mc ms).frames + 1 ≤ R.frames) (hR2 : 8 + (3 + 11) + (rmL lev mc ms).locals ≤ R.locals) : CallW R s args own RX8 index yX8_column cX8_column 3 (some .int) (ws_ yX8_column cX8_column 3 (some .int)) (rmL lev mc ms) mc ms 2 :=
  cwV 2 hts (lw_V hl q1867 q1868 q145 q1869) rfl rfl rfl (by decide +kernel) ⟨hR1, hR2⟩
set_option maxHeartbeats 4000000 in
theorem m_X8_column {E : jE} (l : Launch) (w : Wl) (a : Nat) (t : Nat) (tx : Int) (ty : Int) (tn : Int) (left : Prop) (d : Int) (h1 : w a = some (t, .inr (6, [.int (iI tx), .int (iI ty), .int (iI tn)]))) (h2 : -1000000 ≤ tx ∧ tx ≤ 1000000) (h3 : -1000000 ≤ d ∧ d ≤ 1000000) : Met l yX8_column (ws_ yX8_column cX8_column 3 (some .int)) (rmL 2 0 0) (va_Pc [.ref a, .int (iI (bI left)), .int (iI d)] (jP E w)) (jQi E (fun _ : Unit => w) (fun z _ => z = colO tx d left)) 0 0 (jA E) := by
  refine j_metI (by decide) (Nat.le_of_ble_eq_true rfl) ?_
  intro p e s m args below meth c Q hx hb hml hown hnm hts hV hH hret ls hl
  have hl : lv_has ls 3 [(0, .ref a), (1, .int (iI (bI left))), (2, .int (iI d))] := hl
  refine lv_iload_n hx hb dX8_column_0 rfl (lv_at hl 1 rfl) ?_
  refine j_ifeq_b (tgt := 19) hx hb dX8_column_1 (by decide) (fun c1 => ?_) (fun c1 => ?_)
  · refine lv_aload_n hx hb dX8_column_19 rfl (lv_at hl 0 rfl) ?_
    refine j_get hx hb hts hown hV hH h1 rfl in_X8 0 (Nat.le_of_ble_eq_true rfl) q1364 (fun _ h => h) rfl dX8_column_20 ?_
    refine lv_iload_n hx hb dX8_column_23 rfl (lv_at hl 2 rfl) ?_
    refine j_iconst hx hb dX8_column_24 ?_
    refine j_callip (va_runS (As := [.int (iI d), .int (iI 2)]) (rest := [.int (iI tx)]) ⟨hx, hb, hml, hown, hts⟩ (m_J12_floorDiv l _ d 2 (by omega) (by omega)) (cw_J12_floorDiv hts q1870 (Nat.le_of_ble_eq_true rfl) (Nat.le_of_ble_eq_true rfl)) (j_preS hV hH) rfl rfl hl.1 rfl (lv_room (Nat.le_of_ble_eq_true rfl)) dX8_column_25 ⟨Nat.le_of_ble_eq_true rfl, Nat.le_of_ble_eq_true rfl⟩) hH (fun H locs hH => ?_)
    refine j_isub hx hb dX8_column_28 ?_
    exact hret () hH dX8_column_29 (Nat.le_of_ble_eq_true rfl) (Nat.le_of_ble_eq_true rfl) (by first | exact (colO_t c1).symm | exact (colO_f c1).symm)
  · refine lv_aload_n hx hb dX8_column_4 rfl (lv_at hl 0 rfl) ?_
    refine j_get hx hb hts hown hV hH h1 rfl in_X8 0 (Nat.le_of_ble_eq_true rfl) q1364 (fun _ h => h) rfl dX8_column_5 ?_
    refine lv_iload_n hx hb dX8_column_8 rfl (lv_at hl 2 rfl) ?_
    refine j_iconst hx hb dX8_column_9 ?_
    refine j_iadd hx hb dX8_column_10 ?_
    refine j_iconst hx hb dX8_column_11 ?_
    refine j_callip (va_runS (As := [.int (iI (d + 1)), .int (iI 2)]) (rest := [.int (iI tx)]) ⟨hx, hb, hml, hown, hts⟩ (m_J12_floorDiv l _ (d + 1) 2 (by omega) (by omega)) (cw_J12_floorDiv hts q1870 (Nat.le_of_ble_eq_true rfl) (Nat.le_of_ble_eq_true rfl)) (j_preS hV hH) rfl rfl hl.1 rfl (lv_room (Nat.le_of_ble_eq_true rfl)) dX8_column_12 ⟨Nat.le_of_ble_eq_true rfl, Nat.le_of_ble_eq_true rfl⟩) hH (fun H locs hH => ?_)
    refine j_iadd hx hb dX8_column_15 ?_
    refine lv_goto (tgt := 29) hx hb dX8_column_16 (by decide) ?_
    exact hret () hH dX8_column_29 (Nat.le_of_ble_eq_true rfl) (Nat.le_of_ble_eq_true rfl) (by first | exact (colO_t c1).symm | exact (colO_f c1).symm)
theorem cwu_X4_x_X5_40_X5 {R : Room} {s : State} {args : Array Value} {k : Nat} (hts : ∀ w ∈ lw_all, w.before args s = true) (hR1 : k + 1 ≤ R.frames) (hR2 : 8 + (1 + 11) + 96 * k ≤ R.locals) : va_CU R s args "EyeStage$Box" RX5 "EyeStage$Part" 40 ⟨"EyeStage$Box", "x", "()I"⟩ yX4_x cX4_x 1 (some .int) (ws_ yX4_x cX4_x 1 (some .int)) (rmL k 0 0) 0 0 0 :=
  va_cwU 0 hts (lw_U q1826 q1827 q1829 q1830 q131 q1831) rfl rfl rfl rfl (by decide +kernel) ⟨hR1, hR2⟩
theorem cw_X5_column {R : Room} {s : State} {args : Array Value} {own : String} {index lev mc ms : Nat} (hts : ∀ w ∈ lw_all, w.before args s = true) (hl : Cond.methodLink own index yX5_column ∈ lw_all) (hR1 : (rmL lev mc ms).frames + 1 ≤ R.frames) (hR2 : 8 + (2 + 11) + (rmL lev mc ms).locals ≤ R.locals) : CallW R s args own RX5 index yX5_column cX5_column 2 (some .int) (ws_ yX5_column cX5_column 2 (some .int)) (rmL lev mc ms) mc ms 1 :=
  cwV 1 hts (lw_V hl q1823 q1824 q132 q1825) rfl rfl rfl (by decide +kernel) ⟨hR1, hR2⟩
set_option maxHeartbeats 4000000 in
theorem m_X5_column {E : jE} (l : Launch) (w : Wl) (t : Nat) (T : Int) (P : Int → Int) (f : Int → Nat) (sh : Int → Int) (n : Int) (left : Prop) (h1 : PWF T P) (h2 : TRE w t P f sh) (h3 : 0 ≤ n) (h4 : n < P 2) (h5 : 0 < nd P n 4) (h6 : -4200 ≤ sh n ∧ sh n ≤ 4200) : Met l yX5_column (ws_ yX5_column cX5_column 2 (some .int)) (rmL 21 0 0) (va_Pc [.ref (f n), .int (iI (bI left))] (jP E w)) (jQi E (fun _ : Unit => w) (fun z _ => z = colO (sumO P n 1) (sh n) left)) 0 0 (jA E) := by
  refine j_metI (by decide) (Nat.le_of_ble_eq_true rfl) ?_
  intro p e s m args below meth c Q hx hb hml hown hnm hts hV hH hret ls hl
  have hl : lv_has ls 2 [(0, .ref (f n)), (1, .int (iI (bI left)))] := hl
  have hP := h1
  have hT := h2
  have hA := hP.A
  have hN := hP.N h3 h4
  have hbx := (hT n h3 h4).1 h5
  have s1 := sumO_b hP (k := 1) (n := n) (by omega) (Or.inr ⟨h3, h4⟩)
  have s2 := sumO_b hP (k := 2) (n := n) (by omega) (Or.inr ⟨h3, h4⟩)
  have s3 := sumO_b hP (k := 3) (n := n) (by omega) (Or.inr ⟨h3, h4⟩)
  refine lv_iload_n hx hb dX5_column_0 rfl (lv_at hl 1 rfl) ?_
  refine j_ifeq_b (tgt := 22) hx hb dX5_column_1 (by decide) (fun c1 => ?_) (fun c1 => ?_)
  · refine lv_aload_n hx hb dX5_column_22 rfl (lv_at hl 0 rfl) ?_
    refine j_callip (va_runU (As := []) (rest := []) ⟨hx, hb, hml, hown, hts⟩ (m_X4_x l hP hT 20 n (by omega) (by omega) (by omega)) (cwu_X4_x_X5_40_X5 hts (Nat.le_of_ble_eq_true rfl) (Nat.le_of_ble_eq_true rfl)) (j_preV hV hH hbx rfl) rfl rfl hl.1 rfl (lv_room (Nat.le_of_ble_eq_true rfl)) dX5_column_23 ⟨Nat.le_of_ble_eq_true rfl, Nat.le_of_ble_eq_true rfl⟩) hH (fun H locs hH => ?_)
    refine lv_aload_n hx hb dX5_column_26 rfl (lv_at hl 0 rfl) ?_
    refine j_get hx hb hts hown hV hH hbx rfl in_X5 8 (Nat.le_of_ble_eq_true rfl) q404 (fun _ h => h) rfl dX5_column_27 ?_
    refine j_iconst hx hb dX5_column_30 ?_
    refine j_callip (va_runS (As := [.int (iI (sh n)), .int (iI 2)]) (rest := [.int (iI (sumO P n 1))]) ⟨hx, hb, hml, hown, hts⟩ (m_J12_floorDiv l _ (sh n) 2 (by omega) (by omega)) (cw_J12_floorDiv hts q1835 (Nat.le_of_ble_eq_true rfl) (Nat.le_of_ble_eq_true rfl)) (j_preS hV hH) rfl rfl hl.1 rfl (lv_room (Nat.le_of_ble_eq_true rfl)) dX5_column_31 ⟨Nat.le_of_ble_eq_true rfl, Nat.le_of_ble_eq_true rfl⟩) hH (fun H locs hH => ?_)
    refine j_isub hx hb dX5_column_34 ?_
    exact hret () hH dX5_column_35 (Nat.le_of_ble_eq_true rfl) (Nat.le_of_ble_eq_true rfl) (by first | exact (colO_t c1).symm | exact (colO_f c1).symm)
  · refine lv_aload_n hx hb dX5_column_4 rfl (lv_at hl 0 rfl) ?_
    refine j_callip (va_runU (As := []) (rest := []) ⟨hx, hb, hml, hown, hts⟩ (m_X4_x l hP hT 20 n (by omega) (by omega) (by omega)) (cwu_X4_x_X5_40_X5 hts (Nat.le_of_ble_eq_true rfl) (Nat.le_of_ble_eq_true rfl)) (j_preV hV hH hbx rfl) rfl rfl hl.1 rfl (lv_room (Nat.le_of_ble_eq_true rfl)) dX5_column_5 ⟨Nat.le_of_ble_eq_true rfl, Nat.le_of_ble_eq_true rfl⟩) hH (fun H locs hH => ?_)
    refine lv_aload_n hx hb dX5_column_8 rfl (lv_at hl 0 rfl) ?_
    refine j_get hx hb hts hown hV hH hbx rfl in_X5 8 (Nat.le_of_ble_eq_true rfl) q404 (fun _ h => h) rfl dX5_column_9 ?_
    refine j_iconst hx hb dX5_column_12 ?_
    refine j_iadd hx hb dX5_column_13 ?_
    refine j_iconst hx hb dX5_column_14 ?_
    refine j_callip (va_runS (As := [.int (iI ((sh n) + 1)), .int (iI 2)]) (rest := [.int (iI (sumO P n 1))]) ⟨hx, hb, hml, hown, hts⟩ (m_J12_floorDiv l _ ((sh n) + 1) 2 (by omega) (by omega)) (cw_J12_floorDiv hts q1835 (Nat.le_of_ble_eq_true rfl) (Nat.le_of_ble_eq_true rfl)) (j_preS hV hH) rfl rfl hl.1 rfl (lv_room (Nat.le_of_ble_eq_true rfl)) dX5_column_15 ⟨Nat.le_of_ble_eq_true rfl, Nat.le_of_ble_eq_true rfl⟩) hH (fun H locs hH => ?_)
    refine j_iadd hx hb dX5_column_18 ?_
    refine lv_goto (tgt := 35) hx hb dX5_column_19 (by decide) ?_
    exact hret () hH dX5_column_35 (Nat.le_of_ble_eq_true rfl) (Nat.le_of_ble_eq_true rfl) (by first | exact (colO_t c1).symm | exact (colO_f c1).symm)
theorem cwu_X4_y_X5_49_X5 {R : Room} {s : State} {args : Array Value} {k : Nat} (hts : ∀ w ∈ lw_all, w.before args s = true) (hR1 : k + 1 ≤ R.frames) (hR2 : 8 + (1 + 11) + 96 * k ≤ R.locals) : va_CU R s args "EyeStage$Box" RX5 "EyeStage$Part" 49 ⟨"EyeStage$Box", "y", "()I"⟩ yX4_y cX4_y 1 (some .int) (ws_ yX4_y cX4_y 1 (some .int)) (rmL k 0 0) 0 0 0 :=
  va_cwU 0 hts (lw_U q1879 q1841 q1843 q1844 q131 q1845) rfl rfl rfl rfl (by decide +kernel) ⟨hR1, hR2⟩
theorem cw_X5_hasRow {R : Room} {s : State} {args : Array Value} {own : String} {index lev mc ms : Nat} (hts : ∀ w ∈ lw_all, w.before args s = true) (hl : Cond.methodLink own index yX5_hasRow ∈ lw_all) (hR1 : (rmL lev mc ms).frames + 1 ≤ R.frames) (hR2 : 8 + (2 + 11) + (rmL lev mc ms).locals ≤ R.locals) : CallW R s args own RX5 index yX5_hasRow cX5_hasRow 2 (some .boolean) (ws_ yX5_hasRow cX5_hasRow 2 (some .boolean)) (rmL lev mc ms) mc ms 1 :=
  cwV 1 hts (lw_V hl q1876 q1877 q132 q1878) rfl rfl rfl (by decide +kernel) ⟨hR1, hR2⟩
set_option maxHeartbeats 4000000 in
theorem m_X5_hasRow {E : jE} (l : Launch) (w : Wl) (t : Nat) (T : Int) (P : Int → Int) (f : Int → Nat) (sh : Int → Int) (n : Int) (row : Int) (h1 : PWF T P) (h2 : TRE w t P f sh) (h3 : 0 ≤ n) (h4 : n < P 2) (h5 : 0 < nd P n 4) (h6 : -2147483648 ≤ row ∧ row ≤ 2147483647) : Met l yX5_hasRow (ws_ yX5_hasRow cX5_hasRow 2 (some .boolean)) (rmL 21 0 0) (va_Pc [.ref (f n), .int (iI row)] (jP E w)) (jQi E (fun _ : Unit => w) (fun z _ => z = bI (sumO P n 2 ≤ row ∧ row ≤ sumO P n 2 + nd P n 5 - 1))) 0 0 (jA E) := by
  refine j_metZ (by decide) (Nat.le_of_ble_eq_true rfl) ?_
  intro p e s m args below meth c Q hx hb hml hown hnm hts hV hH hret ls hl
  have hl : lv_has ls 2 [(0, .ref (f n)), (1, .int (iI row))] := hl
  have hP := h1
  have hT := h2
  have hA := hP.A
  have hN := hP.N h3 h4
  have hbx := (hT n h3 h4).1 h5
  have s1 := sumO_b hP (k := 1) (n := n) (by omega) (Or.inr ⟨h3, h4⟩)
  have s2 := sumO_b hP (k := 2) (n := n) (by omega) (Or.inr ⟨h3, h4⟩)
  have s3 := sumO_b hP (k := 3) (n := n) (by omega) (Or.inr ⟨h3, h4⟩)
  refine lv_iload_n hx hb dX5_hasRow_0 rfl (lv_at hl 1 rfl) ?_
  refine j_i2l hx hb dX5_hasRow_1 (by omega) ?_
  refine lv_aload_n hx hb dX5_hasRow_2 rfl (lv_at hl 0 rfl) ?_
  refine j_callip (va_runU (As := []) (rest := [.long (lL row)]) ⟨hx, hb, hml, hown, hts⟩ (m_X4_y l hP hT 20 n (by omega) (by omega) (by omega)) (cwu_X4_y_X5_49_X5 hts (Nat.le_of_ble_eq_true rfl) (Nat.le_of_ble_eq_true rfl)) (j_preV hV hH hbx rfl) rfl rfl hl.1 rfl (lv_room (Nat.le_of_ble_eq_true rfl)) dX5_hasRow_3 ⟨Nat.le_of_ble_eq_true rfl, Nat.le_of_ble_eq_true rfl⟩) hH (fun H locs hH => ?_)
  refine j_i2l hx hb dX5_hasRow_6 (by omega) ?_
  refine lv_aload_n hx hb dX5_hasRow_7 rfl (lv_at hl 0 rfl) ?_
  refine j_callip (va_runU (As := []) (rest := [.long (lL (sumO P n 2)), .long (lL row)]) ⟨hx, hb, hml, hown, hts⟩ (m_X4_y l hP hT 20 n (by omega) (by omega) (by omega)) (cwu_X4_y_X5_49_X5 hts (Nat.le_of_ble_eq_true rfl) (Nat.le_of_ble_eq_true rfl)) (j_preV hV hH hbx rfl) rfl rfl hl.1 rfl (lv_room (Nat.le_of_ble_eq_true rfl)) dX5_hasRow_8 ⟨Nat.le_of_ble_eq_true rfl, Nat.le_of_ble_eq_true rfl⟩) hH (fun H locs hH => ?_)
  refine lv_aload_n hx hb dX5_hasRow_11 rfl (lv_at hl 0 rfl) ?_
  refine j_get hx hb hts hown hV hH hbx rfl in_X5 6 (Nat.le_of_ble_eq_true rfl) q398 (fun _ h => h) rfl dX5_hasRow_12 ?_
  refine j_iadd hx hb dX5_hasRow_15 ?_
  refine j_iconst hx hb dX5_hasRow_16 ?_
  refine j_isub hx hb dX5_hasRow_17 ?_
  refine j_i2l hx hb dX5_hasRow_18 (by omega) ?_
  refine j_callip (va_runSN (As := [.long (lL row), .long (lL (sumO P n 2)), .long (lL (((sumO P n 2) + (nd P n 5)) - 1))]) (rest := []) ⟨hx, hb, hml, hown, hts⟩ (m_X1_inRange l _ row (sumO P n 2) (((sumO P n 2) + (nd P n 5)) - 1) (by omega) (by omega) (by omega)) ⟨va_cnB 3 hts (lw_meth q1033) rfl rfl rfl (hV.2.1 _ q1880 rfl) (hts _ q108) (by decide +kernel) ⟨(Nat.le_of_ble_eq_true rfl), (Nat.le_of_ble_eq_true rfl)⟩, hts _ q1032, trivial⟩ (j_preS hV hH) rfl rfl hl.1 rfl (lv_room (Nat.le_of_ble_eq_true rfl)) dX5_hasRow_19 ⟨Nat.le_of_ble_eq_true rfl, Nat.le_of_ble_eq_true rfl⟩) hH (fun H locs hH => ?_)
  exact hret () hH dX5_hasRow_22 (Nat.le_of_ble_eq_true rfl) (Nat.le_of_ble_eq_true rfl) (bI_01 _) (by first | rfl | omega)
/-- the order of painting -/
def cmpO (sh : Int → Int) (n n2 : Int) : Int := if sh n = sh n2 then (if n < n2 then -1 else if n = n2 then 0 else 1) else (if sh n < sh n2 then -1 else 1)
theorem cw_X5_compareTo_2 {R : Room} {s : State} {args : Array Value} {own : String} {index lev mc ms : Nat} (hts : ∀ w ∈ lw_all, w.before args s = true) (hl : Cond.methodLink own index yX5_compareTo_2 ∈ lw_all) (hR1 : (rmL lev mc ms).frames + 1 ≤ R.frames) (hR2 : 8 + (2 + 11) + (rmL lev mc ms).locals ≤ R.locals) : CallW R s args own RX5 index yX5_compareTo_2 cX5_compareTo_2 2 (some .int) (ws_ yX5_compareTo_2 cX5_compareTo_2 2 (some .int)) (rmL lev mc ms) mc ms 1 :=
  cwV 1 hts (lw_V hl q1596 q1597 q132 q1598) rfl rfl rfl (by decide +kernel) ⟨hR1, hR2⟩
set_option maxHeartbeats 4000000 in
theorem m_X5_compareTo_2 {E : jE} (l : Launch) (w : Wl) (t : Nat) (T : Int) (P : Int → Int) (f : Int → Nat) (sh : Int → Int) (n : Int) (n2 : Int) (h1 : PWF T P) (h2 : TRE w t P f sh) (h3 : 0 ≤ n) (h4 : n < P 2) (h5 : 0 < nd P n 4) (h6 : 0 ≤ n2) (h7 : n2 < P 2) (h8 : 0 < nd P n2 4) (h9 : -4200 ≤ sh n ∧ sh n ≤ 4200) (h10 : -4200 ≤ sh n2 ∧ sh n2 ≤ 4200) : Met l yX5_compareTo_2 (ws_ yX5_compareTo_2 cX5_compareTo_2 2 (some .int)) (rmL 2 0 0) (va_Pc [.ref (f n), .ref (f n2)] (jP E w)) (jQi E (fun _ : Unit => w) (fun z _ => z = cmpO sh n n2)) 0 0 (jA E) := by
  refine j_metI (by decide) (Nat.le_of_ble_eq_true rfl) ?_
  intro p e s m args below meth c Q hx hb hml hown hnm hts hV hH hret ls hl
  have hl : lv_has ls 2 [(0, .ref (f n)), (1, .ref (f n2))] := hl
  have hP := h1
  have hT := h2
  have hA := hP.A
  have hbx := (hT n h3 h4).1 h5
  have hbx2 := (hT n2 h6 h7).1 h8
  refine lv_aload_n hx hb dX5_compareTo_2_0 rfl (lv_at hl 0 rfl) ?_
  refine j_get hx hb hts hown hV hH hbx rfl in_X5 8 (Nat.le_of_ble_eq_true rfl) q404 (fun _ h => h) rfl dX5_compareTo_2_1 ?_
  refine lv_aload_n hx hb dX5_compareTo_2_4 rfl (lv_at hl 1 rfl) ?_
  refine j_get hx hb hts hown hV hH hbx2 rfl in_X5 8 (Nat.le_of_ble_eq_true rfl) q404 (fun _ h => h) rfl dX5_compareTo_2_5 ?_
  refine j_icmp_eq (tgt := 25) hx hb dX5_compareTo_2_8 (by decide) (by omega) (by omega) (fun c8 => ?_) (fun c8 => ?_)
  · refine lv_aload_n hx hb dX5_compareTo_2_25 rfl (lv_at hl 0 rfl) ?_
    refine j_get hx hb hts hown hV hH hbx rfl in_X5 0 (Nat.le_of_ble_eq_true rfl) q407 (u_same (hts _ q408)) rfl dX5_compareTo_2_26 ?_
    refine lv_aload_n hx hb dX5_compareTo_2_29 rfl (lv_at hl 1 rfl) ?_
    refine j_get hx hb hts hown hV hH hbx2 rfl in_X5 0 (Nat.le_of_ble_eq_true rfl) q407 (u_same (hts _ q408)) rfl dX5_compareTo_2_30 ?_
    refine j_callip (va_runS (As := [.int (iI n), .int (iI n2)]) (rest := []) ⟨hx, hb, hml, hown, hts⟩ (m_J24_compare l _ n n2 (by omega) (by omega)) (cw_J24_compare hts q1599 (Nat.le_of_ble_eq_true rfl) (Nat.le_of_ble_eq_true rfl)) (j_preS hV hH) rfl rfl hl.1 rfl (lv_room (Nat.le_of_ble_eq_true rfl)) dX5_compareTo_2_33 ⟨Nat.le_of_ble_eq_true rfl, Nat.le_of_ble_eq_true rfl⟩) hH (fun H locs hH => ?_)
    exact hret () hH dX5_compareTo_2_36 (Nat.le_of_ble_eq_true rfl) (Nat.le_of_ble_eq_true rfl) (by unfold cmpO; first | (rw [if_pos (by omega)]; done) | (rw [if_neg (by omega)]; omega))
  · refine lv_aload_n hx hb dX5_compareTo_2_11 rfl (lv_at hl 0 rfl) ?_
    refine j_get hx hb hts hown hV hH hbx rfl in_X5 8 (Nat.le_of_ble_eq_true rfl) q404 (fun _ h => h) rfl dX5_compareTo_2_12 ?_
    refine lv_aload_n hx hb dX5_compareTo_2_15 rfl (lv_at hl 1 rfl) ?_
    refine j_get hx hb hts hown hV hH hbx2 rfl in_X5 8 (Nat.le_of_ble_eq_true rfl) q404 (fun _ h => h) rfl dX5_compareTo_2_16 ?_
    refine j_callip (va_runS (As := [.int (iI (sh n)), .int (iI (sh n2))]) (rest := []) ⟨hx, hb, hml, hown, hts⟩ (m_J24_compare l _ (sh n) (sh n2) (by omega) (by omega)) (cw_J24_compare hts q1599 (Nat.le_of_ble_eq_true rfl) (Nat.le_of_ble_eq_true rfl)) (j_preS hV hH) rfl rfl hl.1 rfl (lv_room (Nat.le_of_ble_eq_true rfl)) dX5_compareTo_2_19 ⟨Nat.le_of_ble_eq_true rfl, Nat.le_of_ble_eq_true rfl⟩) hH (fun H locs hH => ?_)
    refine lv_goto (tgt := 36) hx hb dX5_compareTo_2_22 (by decide) ?_
    exact hret () hH dX5_compareTo_2_36 (Nat.le_of_ble_eq_true rfl) (Nat.le_of_ble_eq_true rfl) (by unfold cmpO; first | (rw [if_pos (by omega)]; done) | (rw [if_neg (by omega)]; omega))
