/-! THE SYSTEM's METHODS: java.util.LinkedList, read -/
set_option maxRecDepth 100000
theorem cw_J4_size {R : Room} {s : State} {args : Array Value} {own : String} {index lev mc ms : Nat} (hts : ∀ w ∈ lw_all, w.before args s = true) (hl : Cond.methodLink own index yJ4_size ∈ lw_all) (hR1 : (rmL lev mc ms).frames + 1 ≤ R.frames) (hR2 : 8 + (1 + 11) + (rmL lev mc ms).locals ≤ R.locals) : CallW R s args own RJ4 index yJ4_size cJ4_size 1 (some .int) (ws_ yJ4_size cJ4_size 1 (some .int)) (rmL lev mc ms) mc ms 0 :=
  cwV 0 hts (lw_V hl q1318 q1319 q114 q1320) rfl rfl rfl (by decide +kernel) ⟨hR1, hR2⟩
set_option maxHeartbeats 4000000 in
theorem m_J4_size {E : jE} (l : Launch) (w : Wl) (a : Nat) (t : Nat) (mo : Int) (n1 : Int) (fi : Option Nat) (la : Option Nat) (h1 : w a = some (t, .inr (12, [.int (iI mo), .int (iI n1), va_rf fi, va_rf la]))) : Met l yJ4_size (ws_ yJ4_size cJ4_size 1 (some .int)) (rmL 1 0 0) (va_Pc [.ref a] (jP E w)) (jQi E (fun _ : Unit => w) (fun z _ => z = n1)) 0 0 (jA E) := by
  refine j_metI (by decide) (Nat.le_of_ble_eq_true rfl) ?_
  intro p e s m args below meth c Q hx hb hml hown hnm hts hV hH hret ls hl
  have hl : lv_has ls 1 [(0, .ref a)] := hl
  refine lv_aload_n hx hb dJ4_size_0 rfl (lv_at hl 0 rfl) ?_
  refine j_get hx hb hts hown hV hH h1 rfl in_J4 1 (Nat.le_of_ble_eq_true rfl) q207 (fun _ h => h) rfl dJ4_size_1 ?_
  exact hret () hH dJ4_size_4 (Nat.le_of_ble_eq_true rfl) (Nat.le_of_ble_eq_true rfl) (by first | rfl | omega)
theorem cw_J4_isElementIndex {R : Room} {s : State} {args : Array Value} {own : String} {index lev mc ms : Nat} (hts : ∀ w ∈ lw_all, w.before args s = true) (hl : Cond.methodLink own index yJ4_isElementIndex ∈ lw_all) (hR1 : (rmL lev mc ms).frames + 1 ≤ R.frames) (hR2 : 8 + (2 + 11) + (rmL lev mc ms).locals ≤ R.locals) : CallW R s args own RJ4 index yJ4_isElementIndex cJ4_isElementIndex 2 (some .boolean) (ws_ yJ4_isElementIndex cJ4_isElementIndex 2 (some .boolean)) (rmL lev mc ms) mc ms 1 :=
  cwV 1 hts (lw_V hl q1521 qs26 q114 q1522) rfl rfl rfl (by decide +kernel) ⟨hR1, hR2⟩
set_option maxHeartbeats 4000000 in
theorem m_J4_isElementIndex {E : jE} (l : Launch) (w : Wl) (a : Nat) (t : Nat) (mo : Int) (n1 : Int) (fi : Option Nat) (la : Option Nat) (i1 : Int) (h1 : w a = some (t, .inr (12, [.int (iI mo), .int (iI n1), va_rf fi, va_rf la]))) (h2 : -2147483648 ≤ i1 ∧ i1 ≤ 2147483647) (h3 : -2147483648 ≤ n1 ∧ n1 ≤ 2147483647) : Met l yJ4_isElementIndex (ws_ yJ4_isElementIndex cJ4_isElementIndex 2 (some .boolean)) (rmL 1 0 0) (va_Pc [.ref a, .int (iI i1)] (jP E w)) (jQi E (fun _ : Unit => w) (fun z _ => z = bI (0 ≤ i1 ∧ i1 < n1))) 0 0 (jA E) := by
  refine j_metZ (by decide) (Nat.le_of_ble_eq_true rfl) ?_
  intro p e s m args below meth c Q hx hb hml hown hnm hts hV hH hret ls hl
  have hl : lv_has ls 2 [(0, .ref a), (1, .int (iI i1))] := hl
  refine lv_iload_n hx hb dJ4_isElementIndex_0 rfl (lv_at hl 1 rfl) ?_
  refine j_if_lt (tgt := 16) hx hb dJ4_isElementIndex_1 (by decide) (by omega) (fun c1 => ?_) (fun c1 => ?_)
  · refine j_iconst hx hb dJ4_isElementIndex_16 ?_
    exact hret () hH dJ4_isElementIndex_17 (Nat.le_of_ble_eq_true rfl) (Nat.le_of_ble_eq_true rfl) (by decide) (by first | exact (bI_t (by omega)).symm | exact (bI_f (by omega)).symm)
  · refine lv_iload_n hx hb dJ4_isElementIndex_4 rfl (lv_at hl 1 rfl) ?_
    refine lv_aload_n hx hb dJ4_isElementIndex_5 rfl (lv_at hl 0 rfl) ?_
    refine j_get hx hb hts hown hV hH h1 rfl in_J4 1 (Nat.le_of_ble_eq_true rfl) q207 (fun _ h => h) rfl dJ4_isElementIndex_6 ?_
    refine j_icmp_ge (tgt := 16) hx hb dJ4_isElementIndex_9 (by decide) (by omega) (by omega) (fun c9 => ?_) (fun c9 => ?_)
    · refine j_iconst hx hb dJ4_isElementIndex_16 ?_
      exact hret () hH dJ4_isElementIndex_17 (Nat.le_of_ble_eq_true rfl) (Nat.le_of_ble_eq_true rfl) (by decide) (by first | exact (bI_t (by omega)).symm | exact (bI_f (by omega)).symm)
    · refine j_iconst hx hb dJ4_isElementIndex_12 ?_
      refine lv_goto (tgt := 17) hx hb dJ4_isElementIndex_13 (by decide) ?_
      exact hret () hH dJ4_isElementIndex_17 (Nat.le_of_ble_eq_true rfl) (Nat.le_of_ble_eq_true rfl) (by decide) (by first | exact (bI_t (by omega)).symm | exact (bI_f (by omega)).symm)
theorem cw_J4_checkElementIndex {R : Room} {s : State} {args : Array Value} {own : String} {index lev mc ms : Nat} (hts : ∀ w ∈ lw_all, w.before args s = true) (hl : Cond.methodLink own index yJ4_checkElementIndex ∈ lw_all) (hR1 : (rmL lev mc ms).frames + 1 ≤ R.frames) (hR2 : 8 + (2 + 11) + (rmL lev mc ms).locals ≤ R.locals) : CallW R s args own RJ4 index yJ4_checkElementIndex cJ4_checkElementIndex 2 none (ws_ yJ4_checkElementIndex cJ4_checkElementIndex 2 none) (rmL lev mc ms) mc ms 1 :=
  cwV 1 hts (lw_V hl q1517 qs25 q114 q1518) rfl rfl rfl (by decide +kernel) ⟨hR1, hR2⟩
set_option maxHeartbeats 4000000 in
theorem m_J4_checkElementIndex {E : jE} (l : Launch) (w : Wl) (a : Nat) (t : Nat) (mo : Int) (n1 : Int) (fi : Option Nat) (la : Option Nat) (i1 : Int) (h1 : w a = some (t, .inr (12, [.int (iI mo), .int (iI n1), va_rf fi, va_rf la]))) (h2 : 0 ≤ i1 ∧ i1 < n1) (h3 : -2147483648 ≤ n1 ∧ n1 ≤ 2147483647) : Met l yJ4_checkElementIndex (ws_ yJ4_checkElementIndex cJ4_checkElementIndex 2 none) (rmL 2 0 0) (va_Pc [.ref a, .int (iI i1)] (jP E w)) (jQv E (fun _ : Unit => w) (fun _ => True)) 0 0 (jA E) := by
  refine j_metV (by decide) (Nat.le_of_ble_eq_true rfl) ?_
  intro p e s m args below meth c Q hx hb hml hown hnm hts hV hH hret ls hl
  have hl : lv_has ls 2 [(0, .ref a), (1, .int (iI i1))] := hl
  refine lv_aload_n hx hb dJ4_checkElementIndex_0 rfl (lv_at hl 0 rfl) ?_
  refine lv_iload_n hx hb dJ4_checkElementIndex_1 rfl (lv_at hl 1 rfl) ?_
  refine j_callip (va_runV (As := [.int (iI i1)]) (rest := []) ⟨hx, hb, hml, hown, hts⟩ (m_J4_isElementIndex l _ _ _ _ _ _ _ i1 (h1) (by omega) (by omega)) (cw_J4_isElementIndex hts q1519 (Nat.le_of_ble_eq_true rfl) (Nat.le_of_ble_eq_true rfl)) (j_preV hV hH h1 rfl) rfl rfl hl.1 rfl (lv_room (Nat.le_of_ble_eq_true rfl)) dJ4_checkElementIndex_2 ⟨Nat.le_of_ble_eq_true rfl, Nat.le_of_ble_eq_true rfl⟩) hH (fun H locs hH => ?_)
  refine j_ifne_b (tgt := 21) hx hb dJ4_checkElementIndex_5 (by decide) (fun c5 => ?_) (fun c5 => ?_)
  · exact hret () hH dJ4_checkElementIndex_21 (Nat.le_of_ble_eq_true rfl) (Nat.le_of_ble_eq_true rfl) trivial
  · exact absurd h2 c5
