/-! THE SYSTEM's METHODS: java.util.ArrayList, read -/
set_option maxRecDepth 100000
theorem cw_J18_checkIndex {R : Room} {s : State} {args : Array Value} {own : String} {index lev mc ms : Nat} (hts : ∀ w ∈ lw_all, w.before args s = true) (hl : Cond.methodLink own index yJ18_checkIndex ∈ lw_all) (hR1 : (rmL lev mc ms).frames + 1 ≤ R.frames) (hR2 : 8 + (3 + 11) + (rmL lev mc ms).locals ≤ R.locals) : CallB R s args own index yJ18_checkIndex cJ18_checkIndex 3 (some .int) (ws_ yJ18_checkIndex cJ18_checkIndex 3 (some .int)) (rmL lev mc ms) mc ms 3 ∧ (Cond.static yJ18_checkIndex).before args s = true :=
  va_cwS 3 hts (lw_S hl q370 q130 q371) rfl rfl rfl (by decide +kernel) ⟨hR1, hR2⟩
set_option maxHeartbeats 4000000 in
theorem m_J18_checkIndex {E : jE} (l : Launch) (w : Wl) (i1 : Int) (n1 : Int) (h1 : 0 ≤ i1 ∧ i1 < n1) (h2 : n1 ≤ 2147483647) : Met l yJ18_checkIndex (ws_ yJ18_checkIndex cJ18_checkIndex 3 (some .int)) (rmL 1 0 0) (va_Pc [.int (iI i1), .int (iI n1), .null] (jP E w)) (jQi E (fun _ : Unit => w) (fun z _ => z = i1)) 0 0 (jA E) := by
  refine j_metI (by decide) (Nat.le_of_ble_eq_true rfl) ?_
  intro p e s m args below meth c Q hx hb hml hown hnm hts hV hH hret ls hl
  have hl : lv_has ls 3 [(0, .int (iI i1)), (1, .int (iI n1)), (2, .null)] := hl
  refine lv_iload_n hx hb dJ18_checkIndex_0 rfl (lv_at hl 0 rfl) ?_
  refine j_if_lt (tgt := 9) hx hb dJ18_checkIndex_1 (by decide) (by omega) (fun c1 => ?_) (fun c1 => ?_)
  · exact absurd c1 (by omega)
  · refine lv_iload_n hx hb dJ18_checkIndex_4 rfl (lv_at hl 0 rfl) ?_
    refine lv_iload_n hx hb dJ18_checkIndex_5 rfl (lv_at hl 1 rfl) ?_
    refine j_icmp_lt (tgt := 16) hx hb dJ18_checkIndex_6 (by decide) (by omega) (by omega) (fun c6 => ?_) (fun c6 => ?_)
    · refine lv_iload_n hx hb dJ18_checkIndex_16 rfl (lv_at hl 0 rfl) ?_
      exact hret () hH dJ18_checkIndex_17 (Nat.le_of_ble_eq_true rfl) (Nat.le_of_ble_eq_true rfl) (by first | rfl | omega)
    · exact absurd c6 (by omega)
theorem cw_J17_checkIndex {R : Room} {s : State} {args : Array Value} {own : String} {index lev mc ms : Nat} (hts : ∀ w ∈ lw_all, w.before args s = true) (hl : Cond.methodLink own index yJ17_checkIndex ∈ lw_all) (hR1 : (rmL lev mc ms).frames + 1 ≤ R.frames) (hR2 : 8 + (2 + 11) + (rmL lev mc ms).locals ≤ R.locals) : CallB R s args own index yJ17_checkIndex cJ17_checkIndex 2 (some .int) (ws_ yJ17_checkIndex cJ17_checkIndex 2 (some .int)) (rmL lev mc ms) mc ms 2 ∧ (Cond.static yJ17_checkIndex).before args s = true :=
  va_cwS 2 hts (lw_S hl q367 q129 q368) rfl rfl rfl (by decide +kernel) ⟨hR1, hR2⟩
set_option maxHeartbeats 4000000 in
theorem m_J17_checkIndex {E : jE} (l : Launch) (w : Wl) (i1 : Int) (n1 : Int) (h1 : 0 ≤ i1 ∧ i1 < n1) (h2 : n1 ≤ 2147483647) : Met l yJ17_checkIndex (ws_ yJ17_checkIndex cJ17_checkIndex 2 (some .int)) (rmL 2 0 0) (va_Pc [.int (iI i1), .int (iI n1)] (jP E w)) (jQi E (fun _ : Unit => w) (fun z _ => z = i1)) 0 0 (jA E) := by
  refine j_metI (by decide) (Nat.le_of_ble_eq_true rfl) ?_
  intro p e s m args below meth c Q hx hb hml hown hnm hts hV hH hret ls hl
  have hl : lv_has ls 2 [(0, .int (iI i1)), (1, .int (iI n1))] := hl
  refine lv_iload_n hx hb dJ17_checkIndex_0 rfl (lv_at hl 0 rfl) ?_
  refine lv_iload_n hx hb dJ17_checkIndex_1 rfl (lv_at hl 1 rfl) ?_
  refine lv_null hx hb dJ17_checkIndex_2 ?_
  refine j_callip (va_runS (As := [.int (iI i1), .int (iI n1), .null]) (rest := []) ⟨hx, hb, hml, hown, hts⟩ (m_J18_checkIndex l _ i1 n1 (by omega) (by omega)) (cw_J18_checkIndex hts q369 (Nat.le_of_ble_eq_true rfl) (Nat.le_of_ble_eq_true rfl)) (j_preS hV hH) rfl rfl hl.1 rfl (lv_room (Nat.le_of_ble_eq_true rfl)) dJ17_checkIndex_3 ⟨Nat.le_of_ble_eq_true rfl, Nat.le_of_ble_eq_true rfl⟩) hH (fun H locs hH => ?_)
  exact hret () hH dJ17_checkIndex_6 (Nat.le_of_ble_eq_true rfl) (Nat.le_of_ble_eq_true rfl) (by first | rfl | omega)
theorem cw_J2_size {R : Room} {s : State} {args : Array Value} {own : String} {index lev mc ms : Nat} (hts : ∀ w ∈ lw_all, w.before args s = true) (hl : Cond.methodLink own index yJ2_size ∈ lw_all) (hR1 : (rmL lev mc ms).frames + 1 ≤ R.frames) (hR2 : 8 + (1 + 11) + (rmL lev mc ms).locals ≤ R.locals) : CallW R s args own RJ2 index yJ2_size cJ2_size 1 (some .int) (ws_ yJ2_size cJ2_size 1 (some .int)) (rmL lev mc ms) mc ms 0 :=
  cwV 0 hts (lw_V hl q1011 q1012 q112 q1013) rfl rfl rfl (by decide +kernel) ⟨hR1, hR2⟩
set_option maxHeartbeats 4000000 in
theorem m_J2_size {E : jE} (l : Launch) (w : Wl) (a : Nat) (b : Nat) (t : Nat) (mo : Int) (n1 : Int) (h1 : w a = some (t, .inr (10, [.int (iI mo), .ref b, .int (iI n1)]))) : Met l yJ2_size (ws_ yJ2_size cJ2_size 1 (some .int)) (rmL 1 0 0) (va_Pc [.ref a] (jP E w)) (jQi E (fun _ : Unit => w) (fun z _ => z = n1)) 0 0 (jA E) := by
  refine j_metI (by decide) (Nat.le_of_ble_eq_true rfl) ?_
  intro p e s m args below meth c Q hx hb hml hown hnm hts hV hH hret ls hl
  have hl : lv_has ls 1 [(0, .ref a)] := hl
  refine lv_aload_n hx hb dJ2_size_0 rfl (lv_at hl 0 rfl) ?_
  refine j_get hx hb hts hown hV hH h1 rfl in_J2 2 (Nat.le_of_ble_eq_true rfl) q183 (fun _ h => h) rfl dJ2_size_1 ?_
  exact hret () hH dJ2_size_4 (Nat.le_of_ble_eq_true rfl) (Nat.le_of_ble_eq_true rfl) (by first | rfl | omega)
theorem cw_J2_elementData {R : Room} {s : State} {args : Array Value} {own : String} {index lev mc ms : Nat} (hts : ∀ w ∈ lw_all, w.before args s = true) (hl : Cond.methodLink own index yJ2_elementData ∈ lw_all) (hR1 : (rmL lev mc ms).frames + 1 ≤ R.frames) (hR2 : 8 + (2 + 11) + (rmL lev mc ms).locals ≤ R.locals) : CallW R s args own RJ2 index yJ2_elementData cJ2_elementData 2 (some (.object "java/lang/Object")) (ws_ yJ2_elementData cJ2_elementData 2 (some (.object "java/lang/Object"))) (rmL lev mc ms) mc ms 1 :=
  cwV 1 hts (lw_V hl q373 q374 q112 q375) rfl rfl rfl (by decide +kernel) ⟨hR1, hR2⟩
set_option maxHeartbeats 4000000 in
theorem m_J2_elementData {E : jE} (l : Launch) (w : Wl) (a : Nat) (b : Nat) (t : Nat) (mo : Int) (n1 : Int) (cap : Nat) (g : Int → Option Nat) (i1 : Int) (h1 : w a = some (t, .inr (10, [.int (iI mo), .ref b, .int (iI n1)]))) (h2 : w b = some (t, arQ E cap g)) (h3 : 0 ≤ i1 ∧ i1 < (cap : Int)) (h4 : i1 ≤ 2147483647) : Met l yJ2_elementData (ws_ yJ2_elementData cJ2_elementData 2 (some (.object "java/lang/Object"))) (rmL 1 0 0) (va_Pc [.ref a, .int (iI i1)] (jP E w)) (jQq E (fun _ : Unit => w) (fun z _ => z = g i1)) 0 0 (jA E) := by
  refine j_metQ (by decide) (Nat.le_of_ble_eq_true rfl) (Or.inl ⟨_, rfl⟩) ?_
  intro p e s m args below meth c Q hx hb hml hown hnm hts hV hH hret ls hl
  have hl : lv_has ls 2 [(0, .ref a), (1, .int (iI i1))] := hl
  refine lv_aload_n hx hb dJ2_elementData_0 rfl (lv_at hl 0 rfl) ?_
  refine j_get hx hb hts hown hV hH h1 rfl in_J2 1 (Nat.le_of_ble_eq_true rfl) q180 (fun _ h => h) rfl dJ2_elementData_1 ?_
  refine lv_iload_n hx hb dJ2_elementData_4 rfl (lv_at hl 1 rfl) ?_
  refine j_aald hx hb hV hH h2 (by omega) (by omega) dJ2_elementData_5 ?_
  exact hret (g i1) () hH dJ2_elementData_6 (Nat.le_of_ble_eq_true rfl) (Nat.le_of_ble_eq_true rfl) (by first | rfl | omega)
theorem cw_J2_get {R : Room} {s : State} {args : Array Value} {own : String} {index lev mc ms : Nat} (hts : ∀ w ∈ lw_all, w.before args s = true) (hl : Cond.methodLink own index yJ2_get ∈ lw_all) (hR1 : (rmL lev mc ms).frames + 1 ≤ R.frames) (hR2 : 8 + (2 + 11) + (rmL lev mc ms).locals ≤ R.locals) : CallW R s args own RJ2 index yJ2_get cJ2_get 2 (some (.object "java/lang/Object")) (ws_ yJ2_get cJ2_get 2 (some (.object "java/lang/Object"))) (rmL lev mc ms) mc ms 1 :=
  cwV 1 hts (lw_V hl q363 q364 q112 q365) rfl rfl rfl (by decide +kernel) ⟨hR1, hR2⟩
set_option maxHeartbeats 4000000 in
theorem m_J2_get {E : jE} (l : Launch) (w : Wl) (a : Nat) (b : Nat) (t : Nat) (mo : Int) (n1 : Int) (cap : Nat) (g : Int → Option Nat) (i1 : Int) (h1 : w a = some (t, .inr (10, [.int (iI mo), .ref b, .int (iI n1)]))) (h2 : w b = some (t, arQ E cap g)) (h3 : 0 ≤ i1 ∧ i1 < n1) (h4 : n1 ≤ (cap : Int) ∧ n1 ≤ 1000000) : Met l yJ2_get (ws_ yJ2_get cJ2_get 2 (some (.object "java/lang/Object"))) (rmL 3 0 0) (va_Pc [.ref a, .int (iI i1)] (jP E w)) (jQq E (fun _ : Unit => w) (fun z _ => z = g i1)) 0 0 (jA E) := by
  refine j_metQ (by decide) (Nat.le_of_ble_eq_true rfl) (Or.inl ⟨_, rfl⟩) ?_
  intro p e s m args below meth c Q hx hb hml hown hnm hts hV hH hret ls hl
  have hl : lv_has ls 2 [(0, .ref a), (1, .int (iI i1))] := hl
  refine lv_iload_n hx hb dJ2_get_0 rfl (lv_at hl 1 rfl) ?_
  refine lv_aload_n hx hb dJ2_get_1 rfl (lv_at hl 0 rfl) ?_
  refine j_get hx hb hts hown hV hH h1 rfl in_J2 2 (Nat.le_of_ble_eq_true rfl) q183 (fun _ h => h) rfl dJ2_get_2 ?_
  refine j_callip (va_runS (As := [.int (iI i1), .int (iI n1)]) (rest := []) ⟨hx, hb, hml, hown, hts⟩ (m_J17_checkIndex l _ i1 n1 (by omega) (by omega)) (cw_J17_checkIndex hts q366 (Nat.le_of_ble_eq_true rfl) (Nat.le_of_ble_eq_true rfl)) (j_preS hV hH) rfl rfl hl.1 rfl (lv_room (Nat.le_of_ble_eq_true rfl)) dJ2_get_5 ⟨Nat.le_of_ble_eq_true rfl, Nat.le_of_ble_eq_true rfl⟩) hH (fun H locs hH => ?_)
  refine lv_pop hx hb dJ2_get_8 rfl ?_
  refine lv_aload_n hx hb dJ2_get_9 rfl (lv_at hl 0 rfl) ?_
  refine lv_iload_n hx hb dJ2_get_10 rfl (lv_at hl 1 rfl) ?_
  refine j_callqp (va_runV (As := [.int (iI i1)]) (rest := []) ⟨hx, hb, hml, hown, hts⟩ (m_J2_elementData l _ _ _ _ _ _ _ _ i1 (h1) (h2) (by omega) (by omega)) (cw_J2_elementData hts q372 (Nat.le_of_ble_eq_true rfl) (Nat.le_of_ble_eq_true rfl)) (j_preV hV hH h1 rfl) rfl rfl hl.1 rfl (lv_room (Nat.le_of_ble_eq_true rfl)) dJ2_get_11 ⟨Nat.le_of_ble_eq_true rfl, Nat.le_of_ble_eq_true rfl⟩) hH (fun H locs hH => ?_)
  exact hret (g i1) () hH dJ2_get_14 (Nat.le_of_ble_eq_true rfl) (Nat.le_of_ble_eq_true rfl) (by first | rfl | omega)
