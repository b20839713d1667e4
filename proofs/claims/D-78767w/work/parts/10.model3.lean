/-! THE REFERENCE's METHODS: sorting, the window, the title -/
set_option maxRecDepth 100000
theorem cw_X3_columnOf {R : Room} {s : State} {args : Array Value} {own : String} {index lev mc ms : Nat} (hts : ∀ w ∈ lw_all, w.before args s = true) (hl : Cond.methodLink own index yX3_columnOf ∈ lw_all) (hR1 : (rmL lev mc ms).frames + 1 ≤ R.frames) (hR2 : 8 + (3 + 11) + (rmL lev mc ms).locals ≤ R.locals) : CallW R s args own RX3 index yX3_columnOf cX3_columnOf 3 (some .int) (ws_ yX3_columnOf cX3_columnOf 3 (some .int)) (rmL lev mc ms) mc ms 2 :=
  cwV 2 hts (lw_V hl q2508 qs79 q116 q2509) rfl rfl rfl (by decide +kernel) ⟨hR1, hR2⟩
set_option maxHeartbeats 4000000 in
theorem m_X3_columnOf {E : jE} (l : Launch) (o : Nat) (st : Ms) (w0 : Wl) (T : Int) (n : Int) (left : Prop) (h1 : PWF T (st 0)) (h2 : 0 ≤ n) (h3 : n < st 0 2) (h4 : PLC st) (h5 : SHC st) : Met l yX3_columnOf (ws_ yX3_columnOf cX3_columnOf 3 (some .int)) (rmL 3 0 0) (va_Pc [.ref o, .int (iI n), .int (iI (bI left))] (jP E (wM E o st w0))) (jQi E (fun u : Ms => wM E o u w0) (fun z u => z = colN (st 0) n left ∧ u = st)) 0 0 (jA E) := by
  refine j_metI (by decide) (Nat.le_of_ble_eq_true rfl) ?_
  intro p e s m args below meth c Q hx hb hml hown hnm hts hV hH hret ls hl
  have hl : lv_has ls 3 [(0, .ref o), (1, .int (iI n)), (2, .int (iI (bI left)))] := hl
  have hA := h1.A
  have hok : okN (st 0) n := Or.inr ⟨h2, h3⟩
  have hx1 := sumO_b h1 (k := 1) (by omega) hok
  have hs1 := shO_b h1 hok
  refine lv_aload_n hx hb dX3_columnOf_0 rfl (lv_at hl 0 rfl) ?_
  refine j_get hx hb hts hown hV hH wM_o rfl in_X3 8 (Nat.le_of_ble_eq_true rfl) q2237 (fun _ h => h) rfl dX3_columnOf_1 ?_
  refine lv_iload_n hx hb dX3_columnOf_4 rfl (lv_at hl 1 rfl) ?_
  refine j_iald (n := 20) hx hb hV hH wM_8 (by omega) (by omega) dX3_columnOf_5 ?_
  refine j_top (b := sumO (st 0) n 1) ((h4 n h2 h3).1) ?_
  refine lv_aload_n hx hb dX3_columnOf_6 rfl (lv_at hl 0 rfl) ?_
  refine j_get hx hb hts hown hV hH wM_o rfl in_X3 11 (Nat.le_of_ble_eq_true rfl) q2240 (fun _ h => h) rfl dX3_columnOf_7 ?_
  refine lv_iload_n hx hb dX3_columnOf_10 rfl (lv_at hl 1 rfl) ?_
  refine j_iald (n := 20) hx hb hV hH wM_11 (by omega) (by omega) dX3_columnOf_11 ?_
  refine j_top (b := shO (st 0) n) (h5 n h2 h3) ?_
  refine lv_iload_n hx hb dX3_columnOf_12 rfl (lv_at hl 2 rfl) ?_
  refine j_callip (va_runS (As := [.int (iI (sumO (st 0) n 1)), .int (iI (shO (st 0) n)), .int (iI (bI left))]) (rest := []) ⟨hx, hb, hml, hown, hts⟩ (m_X3_column l _ (sumO (st 0) n 1) (shO (st 0) n) left (by omega) (by omega)) (cw_X3_column hts q2510 (Nat.le_of_ble_eq_true rfl) (Nat.le_of_ble_eq_true rfl)) (j_preS hV hH) rfl rfl hl.1 rfl (lv_room (Nat.le_of_ble_eq_true rfl)) dX3_columnOf_13 ⟨Nat.le_of_ble_eq_true rfl, Nat.le_of_ble_eq_true rfl⟩) hH (fun H locs hH => ?_)
  exact hret st hH dX3_columnOf_16 (Nat.le_of_ble_eq_true rfl) (Nat.le_of_ble_eq_true rfl) ⟨by first | rfl | omega, rfl⟩
theorem cw_X3_isInRows {R : Room} {s : State} {args : Array Value} {own : String} {index lev mc ms : Nat} (hts : ∀ w ∈ lw_all, w.before args s = true) (hl : Cond.methodLink own index yX3_isInRows ∈ lw_all) (hR1 : (rmL lev mc ms).frames + 1 ≤ R.frames) (hR2 : 8 + (2 + 11) + (rmL lev mc ms).locals ≤ R.locals) : CallW R s args own RX3 index yX3_isInRows cX3_isInRows 2 (some .boolean) (ws_ yX3_isInRows cX3_isInRows 2 (some .boolean)) (rmL lev mc ms) mc ms 1 :=
  cwV 1 hts (lw_V hl q2515 qs80 q116 q2516) rfl rfl rfl (by decide +kernel) ⟨hR1, hR2⟩
set_option maxHeartbeats 4000000 in
theorem m_X3_isInRows {E : jE} (l : Launch) (o : Nat) (st : Ms) (w0 : Wl) (T : Int) (n : Int) (h1 : PWF T (st 0)) (h2 : 0 ≤ n) (h3 : n < st 0 2) (h4 : PLC st) : Met l yX3_isInRows (ws_ yX3_isInRows cX3_isInRows 2 (some .boolean)) (rmL 2 0 0) (va_Pc [.ref o, .int (iI n)] (jP E (wM E o st w0))) (jQi E (fun u : Ms => wM E o u w0) (fun z u => z = bI (inrO (st 0) n) ∧ u = st)) 0 0 (jA E) := by
  refine j_metZ (by decide) (Nat.le_of_ble_eq_true rfl) ?_
  intro p e s m args below meth c Q hx hb hml hown hnm hts hV hH hret ls hl
  have hl : lv_has ls 2 [(0, .ref o), (1, .int (iI n))] := hl
  have hA := h1.A
  have hok : okN (st 0) n := Or.inr ⟨h2, h3⟩
  have hy := sumO_b h1 (k := 2) (by omega) hok
  have hN := h1.N h2 h3
  refine lv_aload_n hx hb dX3_isInRows_0 rfl (lv_at hl 0 rfl) ?_
  refine j_get hx hb hts hown hV hH wM_o rfl in_X3 9 (Nat.le_of_ble_eq_true rfl) q2238 (fun _ h => h) rfl dX3_isInRows_1 ?_
  refine lv_iload_n hx hb dX3_isInRows_4 rfl (lv_at hl 1 rfl) ?_
  refine j_iald (n := 20) hx hb hV hH wM_9 (by omega) (by omega) dX3_isInRows_5 ?_
  refine j_top (b := sumO (st 0) n 2) ((h4 n h2 h3).2.1) ?_
  refine lv_aload_n hx hb dX3_isInRows_6 rfl (lv_at hl 0 rfl) ?_
  refine j_get hx hb hts hown hV hH wM_o rfl in_X3 0 (Nat.le_of_ble_eq_true rfl) q2229 (fun _ h => h) rfl dX3_isInRows_7 ?_
  refine j_iconst hx hb dX3_isInRows_10 ?_
  refine j_iald (n := 198) hx hb hV hH wM_0 (by omega) (by omega) dX3_isInRows_11 ?_
  refine j_icmp_ge (tgt := 35) hx hb dX3_isInRows_12 (by decide) (by omega) (by omega) (fun c12 => ?_) (fun c12 => ?_)
  · refine j_iconst hx hb dX3_isInRows_35 ?_
    exact hret st hH dX3_isInRows_36 (Nat.le_of_ble_eq_true rfl) (Nat.le_of_ble_eq_true rfl) (by decide) (⟨by unfold inrO; first | exact (bI_t (by omega)).symm | exact (bI_f (by omega)).symm, rfl⟩)
  · refine lv_aload_n hx hb dX3_isInRows_15 rfl (lv_at hl 0 rfl) ?_
    refine j_get hx hb hts hown hV hH wM_o rfl in_X3 9 (Nat.le_of_ble_eq_true rfl) q2238 (fun _ h => h) rfl dX3_isInRows_16 ?_
    refine lv_iload_n hx hb dX3_isInRows_19 rfl (lv_at hl 1 rfl) ?_
    refine j_iald (n := 20) hx hb hV hH wM_9 (by omega) (by omega) dX3_isInRows_20 ?_
    refine j_top (b := sumO (st 0) n 2) ((h4 n h2 h3).2.1) ?_
    refine lv_aload_n hx hb dX3_isInRows_21 rfl (lv_at hl 0 rfl) ?_
    refine lv_iload_n hx hb dX3_isInRows_22 rfl (lv_at hl 1 rfl) ?_
    refine j_iconst hx hb dX3_isInRows_23 ?_
    refine j_callif (va_runV (As := [.int (iI n), .int (iI 5)]) (rest := [.int (iI (sumO (st 0) n 2))]) ⟨hx, hb, hml, hown, hts⟩ (m_X3_of l o st w0 n 5 (by omega)) (cw_X3_of hts q2343 (Nat.le_of_ble_eq_true rfl) (Nat.le_of_ble_eq_true rfl)) (j_preV hV hH wM_o rfl) rfl rfl hl.1 rfl (lv_room (Nat.le_of_ble_eq_true rfl)) dX3_isInRows_24 ⟨Nat.le_of_ble_eq_true rfl, Nat.le_of_ble_eq_true rfl⟩) hH (fun H locs hH => ?_)
    refine j_iadd hx hb dX3_isInRows_27 ?_
    refine j_if_le (tgt := 35) hx hb dX3_isInRows_28 (by decide) (by omega) (fun c28 => ?_) (fun c28 => ?_)
    · refine j_iconst hx hb dX3_isInRows_35 ?_
      exact hret st hH dX3_isInRows_36 (Nat.le_of_ble_eq_true rfl) (Nat.le_of_ble_eq_true rfl) (by decide) (⟨by unfold inrO; first | exact (bI_t (by omega)).symm | exact (bI_f (by omega)).symm, rfl⟩)
    · refine j_iconst hx hb dX3_isInRows_31 ?_
      refine lv_goto (tgt := 36) hx hb dX3_isInRows_32 (by decide) ?_
      exact hret st hH dX3_isInRows_36 (Nat.le_of_ble_eq_true rfl) (Nat.le_of_ble_eq_true rfl) (by decide) (⟨by unfold inrO; first | exact (bI_t (by omega)).symm | exact (bI_f (by omega)).symm, rfl⟩)
theorem cw_X3_isCutLeft {R : Room} {s : State} {args : Array Value} {own : String} {index lev mc ms : Nat} (hts : ∀ w ∈ lw_all, w.before args s = true) (hl : Cond.methodLink own index yX3_isCutLeft ∈ lw_all) (hR1 : (rmL lev mc ms).frames + 1 ≤ R.frames) (hR2 : 8 + (6 + 11) + (rmL lev mc ms).locals ≤ R.locals) : CallW R s args own RX3 index yX3_isCutLeft cX3_isCutLeft 6 (some .boolean) (ws_ yX3_isCutLeft cX3_isCutLeft 6 (some .boolean)) (rmL lev mc ms) mc ms 3 :=
  cwV 3 hts (lw_V hl q2504 qs78 q116 q2505) rfl rfl rfl (by decide +kernel) ⟨hR1, hR2⟩
set_option maxHeartbeats 4000000 in
theorem m_X3_isCutLeft {E : jE} (l : Launch) (o : Nat) (st : Ms) (w0 : Wl) (T : Int) (n : Int) (left : Prop) (a : Int) (h1 : PWF T (st 0)) (h2 : 0 ≤ n) (h3 : n < st 0 2) (h4 : PLC st) (h5 : SHC st) (h6 : 0 ≤ a ∧ a ≤ 20) : Met l yX3_isCutLeft (ws_ yX3_isCutLeft cX3_isCutLeft 6 (some .boolean)) (rmL 4 0 0) (va_Pc [.ref o, .int (iI n), .int (iI (bI left)), .int (iI a)] (jP E (wM E o st w0))) (jQi E (fun u : Ms => wM E o u w0) (fun z u => z = bI (cutLO (st 0) n left a) ∧ u = st)) 0 0 (jA E) := by
  refine j_metZ (by decide) (Nat.le_of_ble_eq_true rfl) ?_
  intro p e s m args below meth c Q hx hb hml hown hnm hts hV hH hret ls hl
  have hl : lv_has ls 6 [(0, .ref o), (1, .int (iI n)), (2, .int (iI (bI left))), (3, .int (iI a))] := hl
  have hA := h1.A
  have hok : okN (st 0) n := Or.inr ⟨h2, h3⟩
  have hcb := colN_b h1 hok left
  have hN := h1.N h2 h3
  refine lv_iload_n hx hb dX3_isCutLeft_0 rfl (lv_at hl 2 rfl) ?_
  refine j_ifeq_b (tgt := 8) hx hb dX3_isCutLeft_1 (by decide) (fun c1 => ?_) (fun c1 => ?_)
  · refine j_iconst hx hb dX3_isCutLeft_8 ?_
    refine j_top (b := pI left a 0) (by first | exact (pI_t c1).symm | exact (pI_f c1).symm) ?_
    refine j_istore (lv' := fun x1 => [(4, .int (iI x1)), (0, .ref o), (1, .int (iI n)), (2, .int (iI (bI left))), (3, .int (iI a))]) hx hb dX3_isCutLeft_9 hl (by decide) (fun _ => rfl) (fun x1 ex1 ls hl => ?_)
    have hpb : 0 ≤ x1 ∧ x1 ≤ 20 := by rw [ex1]; rcases pI_or left a 0 with q | q <;> rw [q.2] <;> omega
    refine lv_aload_n hx hb dX3_isCutLeft_11 rfl (lv_at hl 1 rfl) ?_
    refine lv_iload_n hx hb dX3_isCutLeft_12 rfl (lv_at hl 2 rfl) ?_
    refine lv_iload_n hx hb dX3_isCutLeft_13 rfl (lv_at hl 3 rfl) ?_
    refine j_callif (va_runV (As := [.int (iI n), .int (iI (bI left))]) (rest := []) ⟨hx, hb, hml, hown, hts⟩ (m_X3_columnOf l o st w0 _ n left (h1) (by omega) (by omega) (h4) (h5)) (cw_X3_columnOf hts q2506 (Nat.le_of_ble_eq_true rfl) (Nat.le_of_ble_eq_true rfl)) (j_preV hV hH wM_o rfl) rfl rfl hl.1 rfl (lv_room (Nat.le_of_ble_eq_true rfl)) dX3_isCutLeft_14 ⟨Nat.le_of_ble_eq_true rfl, Nat.le_of_ble_eq_true rfl⟩) hH (fun H locs hH => ?_)
    refine j_istore (lv' := fun x2 => [(5, .int (iI x2)), (4, .int (iI x1)), (0, .ref o), (1, .int (iI n)), (2, .int (iI (bI left))), (3, .int (iI a))]) hx hb dX3_isCutLeft_17 hl (by decide) (fun _ => rfl) (fun x2 ex2 ls hl => ?_)
    refine lv_aload_n hx hb dX3_isCutLeft_19 rfl (lv_at hl 2 rfl) ?_
    refine lv_iload_n hx hb dX3_isCutLeft_20 rfl (lv_at hl 3 rfl) ?_
    refine j_callif (va_runV (As := [.int (iI n)]) (rest := []) ⟨hx, hb, hml, hown, hts⟩ (m_X3_isInRows l o st w0 _ n (h1) (by omega) (by omega) (h4)) (cw_X3_isInRows hts q2513 (Nat.le_of_ble_eq_true rfl) (Nat.le_of_ble_eq_true rfl)) (j_preV hV hH wM_o rfl) rfl rfl hl.1 rfl (lv_room (Nat.le_of_ble_eq_true rfl)) dX3_isCutLeft_21 ⟨Nat.le_of_ble_eq_true rfl, Nat.le_of_ble_eq_true rfl⟩) hH (fun H locs hH => ?_)
    refine j_ifeq_b (tgt := 52) hx hb dX3_isCutLeft_24 (by decide) (fun c24 => ?_) (fun c24 => ?_)
    · refine j_iconst hx hb dX3_isCutLeft_52 ?_
      exact hret st hH dX3_isCutLeft_53 (Nat.le_of_ble_eq_true rfl) (Nat.le_of_ble_eq_true rfl) (by decide) (⟨by unfold cutLO; first | exact (bI_t ⟨c24, by omega, by omega⟩).symm | exact (bI_f (fun q => c24 q.1)).symm | exact (bI_f (fun q => by omega)).symm, rfl⟩)
    · refine lv_iload hx hb dX3_isCutLeft_27 (lv_at hl 0 rfl) ?_
      refine lv_iload hx hb dX3_isCutLeft_29 (lv_at hl 1 rfl) ?_
      refine j_icmp_ge (tgt := 52) hx hb dX3_isCutLeft_31 (by decide) (by omega) (by omega) (fun c31 => ?_) (fun c31 => ?_)
      · refine j_iconst hx hb dX3_isCutLeft_52 ?_
        exact hret st hH dX3_isCutLeft_53 (Nat.le_of_ble_eq_true rfl) (Nat.le_of_ble_eq_true rfl) (by decide) (⟨by unfold cutLO; first | exact (bI_t ⟨c24, by omega, by omega⟩).symm | exact (bI_f (fun q => c24 q.1)).symm | exact (bI_f (fun q => by omega)).symm, rfl⟩)
      · refine lv_iload hx hb dX3_isCutLeft_34 (lv_at hl 0 rfl) ?_
        refine lv_aload_n hx hb dX3_isCutLeft_36 rfl (lv_at hl 2 rfl) ?_
        refine lv_iload_n hx hb dX3_isCutLeft_37 rfl (lv_at hl 3 rfl) ?_
        refine j_iconst hx hb dX3_isCutLeft_38 ?_
        refine j_callif (va_runV (As := [.int (iI n), .int (iI 4)]) (rest := [.int (iI x2)]) ⟨hx, hb, hml, hown, hts⟩ (m_X3_of l o st w0 n 4 (by omega)) (cw_X3_of hts q2343 (Nat.le_of_ble_eq_true rfl) (Nat.le_of_ble_eq_true rfl)) (j_preV hV hH wM_o rfl) rfl rfl hl.1 rfl (lv_room (Nat.le_of_ble_eq_true rfl)) dX3_isCutLeft_39 ⟨Nat.le_of_ble_eq_true rfl, Nat.le_of_ble_eq_true rfl⟩) hH (fun H locs hH => ?_)
        refine j_iadd hx hb dX3_isCutLeft_42 ?_
        refine lv_iload hx hb dX3_isCutLeft_43 (lv_at hl 1 rfl) ?_
        refine j_icmp_le (tgt := 52) hx hb dX3_isCutLeft_45 (by decide) (by omega) (by omega) (fun c45 => ?_) (fun c45 => ?_)
        · refine j_iconst hx hb dX3_isCutLeft_52 ?_
          exact hret st hH dX3_isCutLeft_53 (Nat.le_of_ble_eq_true rfl) (Nat.le_of_ble_eq_true rfl) (by decide) (⟨by unfold cutLO; first | exact (bI_t ⟨c24, by omega, by omega⟩).symm | exact (bI_f (fun q => c24 q.1)).symm | exact (bI_f (fun q => by omega)).symm, rfl⟩)
        · refine j_iconst hx hb dX3_isCutLeft_48 ?_
          refine lv_goto (tgt := 53) hx hb dX3_isCutLeft_49 (by decide) ?_
          exact hret st hH dX3_isCutLeft_53 (Nat.le_of_ble_eq_true rfl) (Nat.le_of_ble_eq_true rfl) (by decide) (⟨by unfold cutLO; first | exact (bI_t ⟨c24, by omega, by omega⟩).symm | exact (bI_f (fun q => c24 q.1)).symm | exact (bI_f (fun q => by omega)).symm, rfl⟩)
  · refine lv_iload_n hx hb dX3_isCutLeft_4 rfl (lv_at hl 3 rfl) ?_
    refine lv_goto (tgt := 9) hx hb dX3_isCutLeft_5 (by decide) ?_
    refine j_top (b := pI left a 0) (by first | exact (pI_t c1).symm | exact (pI_f c1).symm) ?_
    refine j_istore (lv' := fun x3 => [(4, .int (iI x3)), (0, .ref o), (1, .int (iI n)), (2, .int (iI (bI left))), (3, .int (iI a))]) hx hb dX3_isCutLeft_9 hl (by decide) (fun _ => rfl) (fun x3 ex3 ls hl => ?_)
    have hpb : 0 ≤ x3 ∧ x3 ≤ 20 := by rw [ex3]; rcases pI_or left a 0 with q | q <;> rw [q.2] <;> omega
    refine lv_aload_n hx hb dX3_isCutLeft_11 rfl (lv_at hl 1 rfl) ?_
    refine lv_iload_n hx hb dX3_isCutLeft_12 rfl (lv_at hl 2 rfl) ?_
    refine lv_iload_n hx hb dX3_isCutLeft_13 rfl (lv_at hl 3 rfl) ?_
    refine j_callif (va_runV (As := [.int (iI n), .int (iI (bI left))]) (rest := []) ⟨hx, hb, hml, hown, hts⟩ (m_X3_columnOf l o st w0 _ n left (h1) (by omega) (by omega) (h4) (h5)) (cw_X3_columnOf hts q2506 (Nat.le_of_ble_eq_true rfl) (Nat.le_of_ble_eq_true rfl)) (j_preV hV hH wM_o rfl) rfl rfl hl.1 rfl (lv_room (Nat.le_of_ble_eq_true rfl)) dX3_isCutLeft_14 ⟨Nat.le_of_ble_eq_true rfl, Nat.le_of_ble_eq_true rfl⟩) hH (fun H locs hH => ?_)
    refine j_istore (lv' := fun x4 => [(5, .int (iI x4)), (4, .int (iI x3)), (0, .ref o), (1, .int (iI n)), (2, .int (iI (bI left))), (3, .int (iI a))]) hx hb dX3_isCutLeft_17 hl (by decide) (fun _ => rfl) (fun x4 ex4 ls hl => ?_)
    refine lv_aload_n hx hb dX3_isCutLeft_19 rfl (lv_at hl 2 rfl) ?_
    refine lv_iload_n hx hb dX3_isCutLeft_20 rfl (lv_at hl 3 rfl) ?_
    refine j_callif (va_runV (As := [.int (iI n)]) (rest := []) ⟨hx, hb, hml, hown, hts⟩ (m_X3_isInRows l o st w0 _ n (h1) (by omega) (by omega) (h4)) (cw_X3_isInRows hts q2513 (Nat.le_of_ble_eq_true rfl) (Nat.le_of_ble_eq_true rfl)) (j_preV hV hH wM_o rfl) rfl rfl hl.1 rfl (lv_room (Nat.le_of_ble_eq_true rfl)) dX3_isCutLeft_21 ⟨Nat.le_of_ble_eq_true rfl, Nat.le_of_ble_eq_true rfl⟩) hH (fun H locs hH => ?_)
    refine j_ifeq_b (tgt := 52) hx hb dX3_isCutLeft_24 (by decide) (fun c24 => ?_) (fun c24 => ?_)
    · refine j_iconst hx hb dX3_isCutLeft_52 ?_
      exact hret st hH dX3_isCutLeft_53 (Nat.le_of_ble_eq_true rfl) (Nat.le_of_ble_eq_true rfl) (by decide) (⟨by unfold cutLO; first | exact (bI_t ⟨c24, by omega, by omega⟩).symm | exact (bI_f (fun q => c24 q.1)).symm | exact (bI_f (fun q => by omega)).symm, rfl⟩)
    · refine lv_iload hx hb dX3_isCutLeft_27 (lv_at hl 0 rfl) ?_
      refine lv_iload hx hb dX3_isCutLeft_29 (lv_at hl 1 rfl) ?_
      refine j_icmp_ge (tgt := 52) hx hb dX3_isCutLeft_31 (by decide) (by omega) (by omega) (fun c31 => ?_) (fun c31 => ?_)
      · refine j_iconst hx hb dX3_isCutLeft_52 ?_
        exact hret st hH dX3_isCutLeft_53 (Nat.le_of_ble_eq_true rfl) (Nat.le_of_ble_eq_true rfl) (by decide) (⟨by unfold cutLO; first | exact (bI_t ⟨c24, by omega, by omega⟩).symm | exact (bI_f (fun q => c24 q.1)).symm | exact (bI_f (fun q => by omega)).symm, rfl⟩)
      · refine lv_iload hx hb dX3_isCutLeft_34 (lv_at hl 0 rfl) ?_
        refine lv_aload_n hx hb dX3_isCutLeft_36 rfl (lv_at hl 2 rfl) ?_
        refine lv_iload_n hx hb dX3_isCutLeft_37 rfl (lv_at hl 3 rfl) ?_
        refine j_iconst hx hb dX3_isCutLeft_38 ?_
        refine j_callif (va_runV (As := [.int (iI n), .int (iI 4)]) (rest := [.int (iI x4)]) ⟨hx, hb, hml, hown, hts⟩ (m_X3_of l o st w0 n 4 (by omega)) (cw_X3_of hts q2343 (Nat.le_of_ble_eq_true rfl) (Nat.le_of_ble_eq_true rfl)) (j_preV hV hH wM_o rfl) rfl rfl hl.1 rfl (lv_room (Nat.le_of_ble_eq_true rfl)) dX3_isCutLeft_39 ⟨Nat.le_of_ble_eq_true rfl, Nat.le_of_ble_eq_true rfl⟩) hH (fun H locs hH => ?_)
        refine j_iadd hx hb dX3_isCutLeft_42 ?_
        refine lv_iload hx hb dX3_isCutLeft_43 (lv_at hl 1 rfl) ?_
        refine j_icmp_le (tgt := 52) hx hb dX3_isCutLeft_45 (by decide) (by omega) (by omega) (fun c45 => ?_) (fun c45 => ?_)
        · refine j_iconst hx hb dX3_isCutLeft_52 ?_
          exact hret st hH dX3_isCutLeft_53 (Nat.le_of_ble_eq_true rfl) (Nat.le_of_ble_eq_true rfl) (by decide) (⟨by unfold cutLO; first | exact (bI_t ⟨c24, by omega, by omega⟩).symm | exact (bI_f (fun q => c24 q.1)).symm | exact (bI_f (fun q => by omega)).symm, rfl⟩)
        · refine j_iconst hx hb dX3_isCutLeft_48 ?_
          refine lv_goto (tgt := 53) hx hb dX3_isCutLeft_49 (by decide) ?_
          exact hret st hH dX3_isCutLeft_53 (Nat.le_of_ble_eq_true rfl) (Nat.le_of_ble_eq_true rfl) (by decide) (⟨by unfold cutLO; first | exact (bI_t ⟨c24, by omega, by omega⟩).symm | exact (bI_f (fun q => c24 q.1)).symm | exact (bI_f (fun q => by omega)).symm, rfl⟩)
theorem cw_X3_isCutRight {R : Room} {s : State} {args : Array Value} {own : String} {index lev mc ms : Nat} (hts : ∀ w ∈ lw_all, w.before args s = true) (hl : Cond.methodLink own index yX3_isCutRight ∈ lw_all) (hR1 : (rmL lev mc ms).frames + 1 ≤ R.frames) (hR2 : 8 + (6 + 11) + (rmL lev mc ms).locals ≤ R.locals) : CallW R s args own RX3 index yX3_isCutRight cX3_isCutRight 6 (some .boolean) (ws_ yX3_isCutRight cX3_isCutRight 6 (some .boolean)) (rmL lev mc ms) mc ms 3 :=
  cwV 3 hts (lw_V hl q2519 qs81 q116 q2520) rfl rfl rfl (by decide +kernel) ⟨hR1, hR2⟩
set_option maxHeartbeats 4000000 in
theorem m_X3_isCutRight {E : jE} (l : Launch) (o : Nat) (st : Ms) (w0 : Wl) (T : Int) (n : Int) (left : Prop) (b : Int) (h1 : PWF T (st 0)) (h2 : 0 ≤ n) (h3 : n < st 0 2) (h4 : PLC st) (h5 : SHC st) (h6 : 0 ≤ b ∧ b ≤ 20) : Met l yX3_isCutRight (ws_ yX3_isCutRight cX3_isCutRight 6 (some .boolean)) (rmL 4 0 0) (va_Pc [.ref o, .int (iI n), .int (iI (bI left)), .int (iI b)] (jP E (wM E o st w0))) (jQi E (fun u : Ms => wM E o u w0) (fun z u => z = bI (cutRO (st 0) n left b) ∧ u = st)) 0 0 (jA E) := by
  refine j_metZ (by decide) (Nat.le_of_ble_eq_true rfl) ?_
  intro p e s m args below meth c Q hx hb hml hown hnm hts hV hH hret ls hl
  have hl : lv_has ls 6 [(0, .ref o), (1, .int (iI n)), (2, .int (iI (bI left))), (3, .int (iI b))] := hl
  have hA := h1.A
  have hok : okN (st 0) n := Or.inr ⟨h2, h3⟩
  have hcb := colN_b h1 hok left
  have hN := h1.N h2 h3
  refine lv_iload_n hx hb dX3_isCutRight_0 rfl (lv_at hl 2 rfl) ?_
  refine j_ifeq_b (tgt := 13) hx hb dX3_isCutRight_1 (by decide) (fun c1 => ?_) (fun c1 => ?_)
  · refine lv_aload_n hx hb dX3_isCutRight_13 rfl (lv_at hl 0 rfl) ?_
    refine j_get hx hb hts hown hV hH wM_o rfl in_X3 0 (Nat.le_of_ble_eq_true rfl) q2229 (fun _ h => h) rfl dX3_isCutRight_14 ?_
    refine j_iconst hx hb dX3_isCutRight_17 ?_
    refine j_iald (n := 198) hx hb hV hH wM_0 (by omega) (by omega) dX3_isCutRight_18 ?_
    refine lv_iload_n hx hb dX3_isCutRight_19 rfl (lv_at hl 3 rfl) ?_
    refine j_isub hx hb dX3_isCutRight_20 ?_
    refine j_top (b := pI left (st 0 0) (st 0 0 - b)) (by first | exact (pI_t c1).symm | exact (pI_f c1).symm) ?_
    refine j_istore (lv' := fun x1 => [(4, .int (iI x1)), (0, .ref o), (1, .int (iI n)), (2, .int (iI (bI left))), (3, .int (iI b))]) hx hb dX3_isCutRight_21 hl (by decide) (fun _ => rfl) (fun x1 ex1 ls hl => ?_)
    have hpb : 0 ≤ x1 ∧ x1 ≤ 200 := by rw [ex1]; rcases pI_or left (st 0 0) (st 0 0 - b) with q | q <;> rw [q.2] <;> omega
    refine lv_aload_n hx hb dX3_isCutRight_23 rfl (lv_at hl 1 rfl) ?_
    refine lv_iload_n hx hb dX3_isCutRight_24 rfl (lv_at hl 2 rfl) ?_
    refine lv_iload_n hx hb dX3_isCutRight_25 rfl (lv_at hl 3 rfl) ?_
    refine j_callif (va_runV (As := [.int (iI n), .int (iI (bI left))]) (rest := []) ⟨hx, hb, hml, hown, hts⟩ (m_X3_columnOf l o st w0 _ n left (h1) (by omega) (by omega) (h4) (h5)) (cw_X3_columnOf hts q2506 (Nat.le_of_ble_eq_true rfl) (Nat.le_of_ble_eq_true rfl)) (j_preV hV hH wM_o rfl) rfl rfl hl.1 rfl (lv_room (Nat.le_of_ble_eq_true rfl)) dX3_isCutRight_26 ⟨Nat.le_of_ble_eq_true rfl, Nat.le_of_ble_eq_true rfl⟩) hH (fun H locs hH => ?_)
    refine j_istore (lv' := fun x2 => [(5, .int (iI x2)), (4, .int (iI x1)), (0, .ref o), (1, .int (iI n)), (2, .int (iI (bI left))), (3, .int (iI b))]) hx hb dX3_isCutRight_29 hl (by decide) (fun _ => rfl) (fun x2 ex2 ls hl => ?_)
    refine lv_aload_n hx hb dX3_isCutRight_31 rfl (lv_at hl 2 rfl) ?_
    refine lv_iload_n hx hb dX3_isCutRight_32 rfl (lv_at hl 3 rfl) ?_
    refine j_callif (va_runV (As := [.int (iI n)]) (rest := []) ⟨hx, hb, hml, hown, hts⟩ (m_X3_isInRows l o st w0 _ n (h1) (by omega) (by omega) (h4)) (cw_X3_isInRows hts q2513 (Nat.le_of_ble_eq_true rfl) (Nat.le_of_ble_eq_true rfl)) (j_preV hV hH wM_o rfl) rfl rfl hl.1 rfl (lv_room (Nat.le_of_ble_eq_true rfl)) dX3_isCutRight_33 ⟨Nat.le_of_ble_eq_true rfl, Nat.le_of_ble_eq_true rfl⟩) hH (fun H locs hH => ?_)
    refine j_ifeq_b (tgt := 64) hx hb dX3_isCutRight_36 (by decide) (fun c36 => ?_) (fun c36 => ?_)
    · refine j_iconst hx hb dX3_isCutRight_64 ?_
      exact hret st hH dX3_isCutRight_65 (Nat.le_of_ble_eq_true rfl) (Nat.le_of_ble_eq_true rfl) (by decide) (⟨by unfold cutRO; first | exact (bI_t ⟨c36, by omega, by omega⟩).symm | exact (bI_f (fun q => c36 q.1)).symm | exact (bI_f (fun q => by omega)).symm, rfl⟩)
    · refine lv_iload hx hb dX3_isCutRight_39 (lv_at hl 0 rfl) ?_
      refine lv_iload hx hb dX3_isCutRight_41 (lv_at hl 1 rfl) ?_
      refine j_icmp_ge (tgt := 64) hx hb dX3_isCutRight_43 (by decide) (by omega) (by omega) (fun c43 => ?_) (fun c43 => ?_)
      · refine j_iconst hx hb dX3_isCutRight_64 ?_
        exact hret st hH dX3_isCutRight_65 (Nat.le_of_ble_eq_true rfl) (Nat.le_of_ble_eq_true rfl) (by decide) (⟨by unfold cutRO; first | exact (bI_t ⟨c36, by omega, by omega⟩).symm | exact (bI_f (fun q => c36 q.1)).symm | exact (bI_f (fun q => by omega)).symm, rfl⟩)
      · refine lv_iload hx hb dX3_isCutRight_46 (lv_at hl 0 rfl) ?_
        refine lv_aload_n hx hb dX3_isCutRight_48 rfl (lv_at hl 2 rfl) ?_
        refine lv_iload_n hx hb dX3_isCutRight_49 rfl (lv_at hl 3 rfl) ?_
        refine j_iconst hx hb dX3_isCutRight_50 ?_
        refine j_callif (va_runV (As := [.int (iI n), .int (iI 4)]) (rest := [.int (iI x2)]) ⟨hx, hb, hml, hown, hts⟩ (m_X3_of l o st w0 n 4 (by omega)) (cw_X3_of hts q2343 (Nat.le_of_ble_eq_true rfl) (Nat.le_of_ble_eq_true rfl)) (j_preV hV hH wM_o rfl) rfl rfl hl.1 rfl (lv_room (Nat.le_of_ble_eq_true rfl)) dX3_isCutRight_51 ⟨Nat.le_of_ble_eq_true rfl, Nat.le_of_ble_eq_true rfl⟩) hH (fun H locs hH => ?_)
        refine j_iadd hx hb dX3_isCutRight_54 ?_
        refine lv_iload hx hb dX3_isCutRight_55 (lv_at hl 1 rfl) ?_
        refine j_icmp_le (tgt := 64) hx hb dX3_isCutRight_57 (by decide) (by omega) (by omega) (fun c57 => ?_) (fun c57 => ?_)
        · refine j_iconst hx hb dX3_isCutRight_64 ?_
          exact hret st hH dX3_isCutRight_65 (Nat.le_of_ble_eq_true rfl) (Nat.le_of_ble_eq_true rfl) (by decide) (⟨by unfold cutRO; first | exact (bI_t ⟨c36, by omega, by omega⟩).symm | exact (bI_f (fun q => c36 q.1)).symm | exact (bI_f (fun q => by omega)).symm, rfl⟩)
        · refine j_iconst hx hb dX3_isCutRight_60 ?_
          refine lv_goto (tgt := 65) hx hb dX3_isCutRight_61 (by decide) ?_
          exact hret st hH dX3_isCutRight_65 (Nat.le_of_ble_eq_true rfl) (Nat.le_of_ble_eq_true rfl) (by decide) (⟨by unfold cutRO; first | exact (bI_t ⟨c36, by omega, by omega⟩).symm | exact (bI_f (fun q => c36 q.1)).symm | exact (bI_f (fun q => by omega)).symm, rfl⟩)
  · refine lv_aload_n hx hb dX3_isCutRight_4 rfl (lv_at hl 0 rfl) ?_
    refine j_get hx hb hts hown hV hH wM_o rfl in_X3 0 (Nat.le_of_ble_eq_true rfl) q2229 (fun _ h => h) rfl dX3_isCutRight_5 ?_
    refine j_iconst hx hb dX3_isCutRight_8 ?_
    refine j_iald (n := 198) hx hb hV hH wM_0 (by omega) (by omega) dX3_isCutRight_9 ?_
    refine lv_goto (tgt := 21) hx hb dX3_isCutRight_10 (by decide) ?_
    refine j_top (b := pI left (st 0 0) (st 0 0 - b)) (by first | exact (pI_t c1).symm | exact (pI_f c1).symm) ?_
    refine j_istore (lv' := fun x3 => [(4, .int (iI x3)), (0, .ref o), (1, .int (iI n)), (2, .int (iI (bI left))), (3, .int (iI b))]) hx hb dX3_isCutRight_21 hl (by decide) (fun _ => rfl) (fun x3 ex3 ls hl => ?_)
    have hpb : 0 ≤ x3 ∧ x3 ≤ 200 := by rw [ex3]; rcases pI_or left (st 0 0) (st 0 0 - b) with q | q <;> rw [q.2] <;> omega
    refine lv_aload_n hx hb dX3_isCutRight_23 rfl (lv_at hl 1 rfl) ?_
    refine lv_iload_n hx hb dX3_isCutRight_24 rfl (lv_at hl 2 rfl) ?_
    refine lv_iload_n hx hb dX3_isCutRight_25 rfl (lv_at hl 3 rfl) ?_
    refine j_callif (va_runV (As := [.int (iI n), .int (iI (bI left))]) (rest := []) ⟨hx, hb, hml, hown, hts⟩ (m_X3_columnOf l o st w0 _ n left (h1) (by omega) (by omega) (h4) (h5)) (cw_X3_columnOf hts q2506 (Nat.le_of_ble_eq_true rfl) (Nat.le_of_ble_eq_true rfl)) (j_preV hV hH wM_o rfl) rfl rfl hl.1 rfl (lv_room (Nat.le_of_ble_eq_true rfl)) dX3_isCutRight_26 ⟨Nat.le_of_ble_eq_true rfl, Nat.le_of_ble_eq_true rfl⟩) hH (fun H locs hH => ?_)
    refine j_istore (lv' := fun x4 => [(5, .int (iI x4)), (4, .int (iI x3)), (0, .ref o), (1, .int (iI n)), (2, .int (iI (bI left))), (3, .int (iI b))]) hx hb dX3_isCutRight_29 hl (by decide) (fun _ => rfl) (fun x4 ex4 ls hl => ?_)
    refine lv_aload_n hx hb dX3_isCutRight_31 rfl (lv_at hl 2 rfl) ?_
    refine lv_iload_n hx hb dX3_isCutRight_32 rfl (lv_at hl 3 rfl) ?_
    refine j_callif (va_runV (As := [.int (iI n)]) (rest := []) ⟨hx, hb, hml, hown, hts⟩ (m_X3_isInRows l o st w0 _ n (h1) (by omega) (by omega) (h4)) (cw_X3_isInRows hts q2513 (Nat.le_of_ble_eq_true rfl) (Nat.le_of_ble_eq_true rfl)) (j_preV hV hH wM_o rfl) rfl rfl hl.1 rfl (lv_room (Nat.le_of_ble_eq_true rfl)) dX3_isCutRight_33 ⟨Nat.le_of_ble_eq_true rfl, Nat.le_of_ble_eq_true rfl⟩) hH (fun H locs hH => ?_)
    refine j_ifeq_b (tgt := 64) hx hb dX3_isCutRight_36 (by decide) (fun c36 => ?_) (fun c36 => ?_)
    · refine j_iconst hx hb dX3_isCutRight_64 ?_
      exact hret st hH dX3_isCutRight_65 (Nat.le_of_ble_eq_true rfl) (Nat.le_of_ble_eq_true rfl) (by decide) (⟨by unfold cutRO; first | exact (bI_t ⟨c36, by omega, by omega⟩).symm | exact (bI_f (fun q => c36 q.1)).symm | exact (bI_f (fun q => by omega)).symm, rfl⟩)
    · refine lv_iload hx hb dX3_isCutRight_39 (lv_at hl 0 rfl) ?_
      refine lv_iload hx hb dX3_isCutRight_41 (lv_at hl 1 rfl) ?_
      refine j_icmp_ge (tgt := 64) hx hb dX3_isCutRight_43 (by decide) (by omega) (by omega) (fun c43 => ?_) (fun c43 => ?_)
      · refine j_iconst hx hb dX3_isCutRight_64 ?_
        exact hret st hH dX3_isCutRight_65 (Nat.le_of_ble_eq_true rfl) (Nat.le_of_ble_eq_true rfl) (by decide) (⟨by unfold cutRO; first | exact (bI_t ⟨c36, by omega, by omega⟩).symm | exact (bI_f (fun q => c36 q.1)).symm | exact (bI_f (fun q => by omega)).symm, rfl⟩)
      · refine lv_iload hx hb dX3_isCutRight_46 (lv_at hl 0 rfl) ?_
        refine lv_aload_n hx hb dX3_isCutRight_48 rfl (lv_at hl 2 rfl) ?_
        refine lv_iload_n hx hb dX3_isCutRight_49 rfl (lv_at hl 3 rfl) ?_
        refine j_iconst hx hb dX3_isCutRight_50 ?_
        refine j_callif (va_runV (As := [.int (iI n), .int (iI 4)]) (rest := [.int (iI x4)]) ⟨hx, hb, hml, hown, hts⟩ (m_X3_of l o st w0 n 4 (by omega)) (cw_X3_of hts q2343 (Nat.le_of_ble_eq_true rfl) (Nat.le_of_ble_eq_true rfl)) (j_preV hV hH wM_o rfl) rfl rfl hl.1 rfl (lv_room (Nat.le_of_ble_eq_true rfl)) dX3_isCutRight_51 ⟨Nat.le_of_ble_eq_true rfl, Nat.le_of_ble_eq_true rfl⟩) hH (fun H locs hH => ?_)
        refine j_iadd hx hb dX3_isCutRight_54 ?_
        refine lv_iload hx hb dX3_isCutRight_55 (lv_at hl 1 rfl) ?_
        refine j_icmp_le (tgt := 64) hx hb dX3_isCutRight_57 (by decide) (by omega) (by omega) (fun c57 => ?_) (fun c57 => ?_)
        · refine j_iconst hx hb dX3_isCutRight_64 ?_
          exact hret st hH dX3_isCutRight_65 (Nat.le_of_ble_eq_true rfl) (Nat.le_of_ble_eq_true rfl) (by decide) (⟨by unfold cutRO; first | exact (bI_t ⟨c36, by omega, by omega⟩).symm | exact (bI_f (fun q => c36 q.1)).symm | exact (bI_f (fun q => by omega)).symm, rfl⟩)
        · refine j_iconst hx hb dX3_isCutRight_60 ?_
          refine lv_goto (tgt := 65) hx hb dX3_isCutRight_61 (by decide) ?_
          exact hret st hH dX3_isCutRight_65 (Nat.le_of_ble_eq_true rfl) (Nat.le_of_ble_eq_true rfl) (by decide) (⟨by unfold cutRO; first | exact (bI_t ⟨c36, by omega, by omega⟩).symm | exact (bI_f (fun q => c36 q.1)).symm | exact (bI_f (fun q => by omega)).symm, rfl⟩)
theorem cw_X3_isCut {R : Room} {s : State} {args : Array Value} {own : String} {index lev mc ms : Nat} (hts : ∀ w ∈ lw_all, w.before args s = true) (hl : Cond.methodLink own index yX3_isCut ∈ lw_all) (hR1 : (rmL lev mc ms).frames + 1 ≤ R.frames) (hR2 : 8 + (4 + 11) + (rmL lev mc ms).locals ≤ R.locals) : CallW R s args own RX3 index yX3_isCut cX3_isCut 4 (some .boolean) (ws_ yX3_isCut cX3_isCut 4 (some .boolean)) (rmL lev mc ms) mc ms 3 :=
  cwV 3 hts (lw_V hl q2500 qs77 q116 q2501) rfl rfl rfl (by decide +kernel) ⟨hR1, hR2⟩
set_option maxHeartbeats 4000000 in
theorem m_X3_isCut {E : jE} (l : Launch) (o : Nat) (st : Ms) (w0 : Wl) (T : Int) (n : Int) (al : Prop) (a : Int) (h1 : PWF T (st 0)) (h2 : 0 ≤ n) (h3 : n < st 0 2) (h4 : PLC st) (h5 : SHC st) (h6 : 0 ≤ a ∧ a ≤ 20) : Met l yX3_isCut (ws_ yX3_isCut cX3_isCut 4 (some .boolean)) (rmL 5 0 0) (va_Pc [.ref o, .int (iI n), .int (iI (bI al)), .int (iI a)] (jP E (wM E o st w0))) (jQi E (fun u : Ms => wM E o u w0) (fun z u => z = bI (cutO (st 0) n al a) ∧ u = st)) 0 0 (jA E) := by
  refine j_metZ (by decide) (Nat.le_of_ble_eq_true rfl) ?_
  intro p e s m args below meth c Q hx hb hml hown hnm hts hV hH hret ls hl
  have hl : lv_has ls 4 [(0, .ref o), (1, .int (iI n)), (2, .int (iI (bI al))), (3, .int (iI a))] := hl
  refine lv_iload_n hx hb dX3_isCut_0 rfl (lv_at hl 2 rfl) ?_
  refine j_ifeq_b (tgt := 32) hx hb dX3_isCut_1 (by decide) (fun c1 => ?_) (fun c1 => ?_)
  · refine lv_aload_n hx hb dX3_isCut_32 rfl (lv_at hl 0 rfl) ?_
    refine lv_iload_n hx hb dX3_isCut_33 rfl (lv_at hl 1 rfl) ?_
    refine j_iconst hx hb dX3_isCut_34 ?_
    refine lv_iload_n hx hb dX3_isCut_35 rfl (lv_at hl 3 rfl) ?_
    refine j_callif (va_runV (As := [.int (iI n), .int (iI (bI True)), .int (iI a)]) (rest := []) ⟨hx, hb, hml, hown, hts⟩ (m_X3_isCutRight l o st w0 _ n True a (h1) (by omega) (by omega) (h4) (h5) (by omega)) (cw_X3_isCutRight hts q2517 (Nat.le_of_ble_eq_true rfl) (Nat.le_of_ble_eq_true rfl)) (j_preV hV hH wM_o rfl) rfl rfl hl.1 (by simp only [bI_T, bI_F]; rfl) (lv_room (Nat.le_of_ble_eq_true rfl)) dX3_isCut_36 ⟨Nat.le_of_ble_eq_true rfl, Nat.le_of_ble_eq_true rfl⟩) hH (fun H locs hH => ?_)
    refine j_ifne_b (tgt := 52) hx hb dX3_isCut_39 (by decide) (fun c39 => ?_) (fun c39 => ?_)
    · refine j_iconst hx hb dX3_isCut_52 ?_
      refine lv_goto (tgt := 57) hx hb dX3_isCut_53 (by decide) ?_
      exact hret st hH dX3_isCut_57 (Nat.le_of_ble_eq_true rfl) (Nat.le_of_ble_eq_true rfl) (by decide) (⟨by first | exact bT (Or.inl ⟨c1, Or.inl c11⟩) | exact bT (Or.inl ⟨c1, Or.inr c21⟩) | exact bF (fun q => q.elim (fun q => q.2.elim c11 c21) (fun q => q.1 c1)) | exact bT (Or.inr ⟨c1, Or.inl c39⟩) | exact bT (Or.inr ⟨c1, Or.inr c49⟩) | exact bF (fun q => q.elim (fun q => c1 q.1) (fun q => q.2.elim c39 c49)), rfl⟩)
    · refine lv_aload_n hx hb dX3_isCut_42 rfl (lv_at hl 0 rfl) ?_
      refine lv_iload_n hx hb dX3_isCut_43 rfl (lv_at hl 1 rfl) ?_
      refine j_iconst hx hb dX3_isCut_44 ?_
      refine lv_iload_n hx hb dX3_isCut_45 rfl (lv_at hl 3 rfl) ?_
      refine j_callif (va_runV (As := [.int (iI n), .int (iI (bI False)), .int (iI a)]) (rest := []) ⟨hx, hb, hml, hown, hts⟩ (m_X3_isCutRight l o st w0 _ n False a (h1) (by omega) (by omega) (h4) (h5) (by omega)) (cw_X3_isCutRight hts q2517 (Nat.le_of_ble_eq_true rfl) (Nat.le_of_ble_eq_true rfl)) (j_preV hV hH wM_o rfl) rfl rfl hl.1 (by simp only [bI_T, bI_F]; rfl) (lv_room (Nat.le_of_ble_eq_true rfl)) dX3_isCut_46 ⟨Nat.le_of_ble_eq_true rfl, Nat.le_of_ble_eq_true rfl⟩) hH (fun H locs hH => ?_)
      refine j_ifeq_b (tgt := 56) hx hb dX3_isCut_49 (by decide) (fun c49 => ?_) (fun c49 => ?_)
      · refine j_iconst hx hb dX3_isCut_56 ?_
        exact hret st hH dX3_isCut_57 (Nat.le_of_ble_eq_true rfl) (Nat.le_of_ble_eq_true rfl) (by decide) (⟨by first | exact bT (Or.inl ⟨c1, Or.inl c11⟩) | exact bT (Or.inl ⟨c1, Or.inr c21⟩) | exact bF (fun q => q.elim (fun q => q.2.elim c11 c21) (fun q => q.1 c1)) | exact bT (Or.inr ⟨c1, Or.inl c39⟩) | exact bT (Or.inr ⟨c1, Or.inr c49⟩) | exact bF (fun q => q.elim (fun q => c1 q.1) (fun q => q.2.elim c39 c49)), rfl⟩)
      · refine j_iconst hx hb dX3_isCut_52 ?_
        refine lv_goto (tgt := 57) hx hb dX3_isCut_53 (by decide) ?_
        exact hret st hH dX3_isCut_57 (Nat.le_of_ble_eq_true rfl) (Nat.le_of_ble_eq_true rfl) (by decide) (⟨by first | exact bT (Or.inl ⟨c1, Or.inl c11⟩) | exact bT (Or.inl ⟨c1, Or.inr c21⟩) | exact bF (fun q => q.elim (fun q => q.2.elim c11 c21) (fun q => q.1 c1)) | exact bT (Or.inr ⟨c1, Or.inl c39⟩) | exact bT (Or.inr ⟨c1, Or.inr c49⟩) | exact bF (fun q => q.elim (fun q => c1 q.1) (fun q => q.2.elim c39 c49)), rfl⟩)
  · refine lv_aload_n hx hb dX3_isCut_4 rfl (lv_at hl 0 rfl) ?_
    refine lv_iload_n hx hb dX3_isCut_5 rfl (lv_at hl 1 rfl) ?_
    refine j_iconst hx hb dX3_isCut_6 ?_
    refine lv_iload_n hx hb dX3_isCut_7 rfl (lv_at hl 3 rfl) ?_
    refine j_callif (va_runV (As := [.int (iI n), .int (iI (bI True)), .int (iI a)]) (rest := []) ⟨hx, hb, hml, hown, hts⟩ (m_X3_isCutLeft l o st w0 _ n True a (h1) (by omega) (by omega) (h4) (h5) (by omega)) (cw_X3_isCutLeft hts q2502 (Nat.le_of_ble_eq_true rfl) (Nat.le_of_ble_eq_true rfl)) (j_preV hV hH wM_o rfl) rfl rfl hl.1 (by simp only [bI_T, bI_F]; rfl) (lv_room (Nat.le_of_ble_eq_true rfl)) dX3_isCut_8 ⟨Nat.le_of_ble_eq_true rfl, Nat.le_of_ble_eq_true rfl⟩) hH (fun H locs hH => ?_)
    refine j_ifne_b (tgt := 24) hx hb dX3_isCut_11 (by decide) (fun c11 => ?_) (fun c11 => ?_)
    · refine j_iconst hx hb dX3_isCut_24 ?_
      refine lv_goto (tgt := 57) hx hb dX3_isCut_25 (by decide) ?_
      exact hret st hH dX3_isCut_57 (Nat.le_of_ble_eq_true rfl) (Nat.le_of_ble_eq_true rfl) (by decide) (⟨by first | exact bT (Or.inl ⟨c1, Or.inl c11⟩) | exact bT (Or.inl ⟨c1, Or.inr c21⟩) | exact bF (fun q => q.elim (fun q => q.2.elim c11 c21) (fun q => q.1 c1)) | exact bT (Or.inr ⟨c1, Or.inl c39⟩) | exact bT (Or.inr ⟨c1, Or.inr c49⟩) | exact bF (fun q => q.elim (fun q => c1 q.1) (fun q => q.2.elim c39 c49)), rfl⟩)
    · refine lv_aload_n hx hb dX3_isCut_14 rfl (lv_at hl 0 rfl) ?_
      refine lv_iload_n hx hb dX3_isCut_15 rfl (lv_at hl 1 rfl) ?_
      refine j_iconst hx hb dX3_isCut_16 ?_
      refine lv_iload_n hx hb dX3_isCut_17 rfl (lv_at hl 3 rfl) ?_
      refine j_callif (va_runV (As := [.int (iI n), .int (iI (bI False)), .int (iI a)]) (rest := []) ⟨hx, hb, hml, hown, hts⟩ (m_X3_isCutLeft l o st w0 _ n False a (h1) (by omega) (by omega) (h4) (h5) (by omega)) (cw_X3_isCutLeft hts q2502 (Nat.le_of_ble_eq_true rfl) (Nat.le_of_ble_eq_true rfl)) (j_preV hV hH wM_o rfl) rfl rfl hl.1 (by simp only [bI_T, bI_F]; rfl) (lv_room (Nat.le_of_ble_eq_true rfl)) dX3_isCut_18 ⟨Nat.le_of_ble_eq_true rfl, Nat.le_of_ble_eq_true rfl⟩) hH (fun H locs hH => ?_)
      refine j_ifeq_b (tgt := 28) hx hb dX3_isCut_21 (by decide) (fun c21 => ?_) (fun c21 => ?_)
      · refine j_iconst hx hb dX3_isCut_28 ?_
        refine lv_goto (tgt := 57) hx hb dX3_isCut_29 (by decide) ?_
        exact hret st hH dX3_isCut_57 (Nat.le_of_ble_eq_true rfl) (Nat.le_of_ble_eq_true rfl) (by decide) (⟨by first | exact bT (Or.inl ⟨c1, Or.inl c11⟩) | exact bT (Or.inl ⟨c1, Or.inr c21⟩) | exact bF (fun q => q.elim (fun q => q.2.elim c11 c21) (fun q => q.1 c1)) | exact bT (Or.inr ⟨c1, Or.inl c39⟩) | exact bT (Or.inr ⟨c1, Or.inr c49⟩) | exact bF (fun q => q.elim (fun q => c1 q.1) (fun q => q.2.elim c39 c49)), rfl⟩)
      · refine j_iconst hx hb dX3_isCut_24 ?_
        refine lv_goto (tgt := 57) hx hb dX3_isCut_25 (by decide) ?_
        exact hret st hH dX3_isCut_57 (Nat.le_of_ble_eq_true rfl) (Nat.le_of_ble_eq_true rfl) (by decide) (⟨by first | exact bT (Or.inl ⟨c1, Or.inl c11⟩) | exact bT (Or.inl ⟨c1, Or.inr c21⟩) | exact bF (fun q => q.elim (fun q => q.2.elim c11 c21) (fun q => q.1 c1)) | exact bT (Or.inr ⟨c1, Or.inl c39⟩) | exact bT (Or.inr ⟨c1, Or.inr c49⟩) | exact bF (fun q => q.elim (fun q => c1 q.1) (fun q => q.2.elim c39 c49)), rfl⟩)
theorem cw_X3_mask {R : Room} {s : State} {args : Array Value} {own : String} {index lev mc ms : Nat} (hts : ∀ w ∈ lw_all, w.before args s = true) (hl : Cond.methodLink own index yX3_mask ∈ lw_all) (hR1 : (rmL lev mc ms).frames + 1 ≤ R.frames) (hR2 : 8 + (6 + 11) + (rmL lev mc ms).locals ≤ R.locals) : CallW R s args own RX3 index yX3_mask cX3_mask 6 (some .int) (ws_ yX3_mask cX3_mask 6 (some .int)) (rmL lev mc ms) mc ms 1 :=
  cwV 1 hts (lw_V hl q2496 qs76 q116 q2497) rfl rfl rfl (by decide +kernel) ⟨hR1, hR2⟩
set_option maxHeartbeats 4000000 in
theorem m_X3_mask {E : jE} (l : Launch) (o : Nat) (st : Ms) (w0 : Wl) (T : Int) (al : Prop) (h1 : PWF T (st 0)) (h2 : PLC st) (h3 : SHC st) (h4 : ORC st) : Met l yX3_mask (ws_ yX3_mask cX3_mask 6 (some .int)) (rmL 6 0 0) (va_Pc [.ref o, .int (iI (bI al))] (jP E (wM E o st w0))) (jQi E (fun u : Ms => wM E o u w0) (fun z u => z = mskO (st 0) al ∧ u = st)) 0 0 (jA E) := by
  refine j_metI (by decide) (Nat.le_of_ble_eq_true rfl) ?_
  intro p e s m args below meth c Q hx hb hml hown hnm hts hV hH hret ls hl
  have hl : lv_has ls 6 [(0, .ref o), (1, .int (iI (bI al)))] := hl
  have hA := h1.A
  have hcn := cntO_b h1
  refine j_iconst hx hb dX3_mask_0 ?_
  refine j_istore_n (lv' := fun x1 => [(2, .int (iI x1)), (0, .ref o), (1, .int (iI (bI al)))]) hx hb dX3_mask_1 rfl hl (by decide) (fun _ => rfl) (fun x1 ex1 ls hl => ?_)
  refine j_iconst hx hb dX3_mask_2 ?_
  refine j_istore_n (lv' := fun x2 => [(3, .int (iI x2)), (2, .int (iI x1)), (0, .ref o), (1, .int (iI (bI al)))]) hx hb dX3_mask_3 rfl hl (by decide) (fun _ => rfl) (fun x2 ex2 ls hl => ?_)
  have L4 : ∀ (n_ : Nat), ∀ (a : Int) (more : Int) (hm_ : 2 * (21 - a) + more < (n_ : Int)) (i1 : 0 ≤ a ∧ a ≤ 20) (i2 : more = 0 ∨ more = 1) (i3 : more = 1 → mskO (st 0) al = mskF (st 0) al 21 a) (i4 : more = 0 → mskO (st 0) al = a) (H : Heap) (locs : List Loc), jH E s.heap (wM E o st w0) H locs → ∀ ls : Array Slot, lv_has ls 6 [(0, .ref o), (1, .int (iI (bI al))), (2, .int (iI a)), (3, .int (iI more))] → W p l e (rmL 6 0 0) s m args below meth c H locs 0 0 Q (F0 m 4 ls []) := by
    intro n_
    induction n_ with
    | zero =>
      intro a more hm_ i1 i2 i3 i4 H locs hH ls hl
      exact absurd hm_ (by omega)
    | succ n_ ih_4 =>
      intro a more hm_ i1 i2 i3 i4 H locs hH ls hl
      have hnb := nxtO_b h1 al i1
      refine lv_iload_n hx hb dX3_mask_4 rfl (lv_at hl 3 rfl) ?_
      refine j_if_eq (tgt := 87) hx hb dX3_mask_5 (by decide) (by omega) (fun c5 => ?_) (fun c5 => ?_)
      · refine lv_iload_n hx hb dX3_mask_87 rfl (lv_at hl 2 rfl) ?_
        exact hret st hH dX3_mask_88 (Nat.le_of_ble_eq_true rfl) (Nat.le_of_ble_eq_true rfl) (⟨(i4 c5).symm, rfl⟩)
      · refine lv_iload_n hx hb dX3_mask_8 rfl (lv_at hl 2 rfl) ?_
        refine j_istore (lv' := fun x3 => [(4, .int (iI x3)), (0, .ref o), (1, .int (iI (bI al))), (2, .int (iI a)), (3, .int (iI more))]) hx hb dX3_mask_9 hl (by decide) (fun _ => rfl) (fun x3 ex3 ls hl => ?_)
        refine j_iconst hx hb dX3_mask_11 ?_
        refine j_istore (lv' := fun x4 => [(5, .int (iI x4)), (4, .int (iI x3)), (0, .ref o), (1, .int (iI (bI al))), (2, .int (iI a)), (3, .int (iI more))]) hx hb dX3_mask_12 hl (by decide) (fun _ => rfl) (fun x4 ex4 ls hl => ?_)
        have L14 : ∀ (n_ : Nat), ∀ (nx : Int) (it : Int) (hm_ : cntO (st 0) - it < (n_ : Int)) (j1 : 0 ≤ it) (j2 : it ≤ cntO (st 0)) (j3 : nx = nxtF (st 0) al a it.toNat) (H : Heap) (locs : List Loc), jH E s.heap (wM E o st w0) H locs → ∀ ls : Array Slot, lv_has ls 6 [(0, .ref o), (1, .int (iI (bI al))), (2, .int (iI a)), (4, .int (iI nx)), (5, .int (iI it))] → W p l e (rmL 6 0 0) s m args below meth c H locs 0 0 Q (F0 m 14 ls []) := by
          intro n_
          induction n_ with
          | zero =>
            intro nx it hm_ j1 j2 j3 H locs hH ls hl
            exact absurd hm_ (by omega)
          | succ n_ ih_14 =>
            intro nx it hm_ j1 j2 j3 H locs hH ls hl
            have hnf := nxtF_b h1 al i1 it.toNat (by omega)
            refine lv_iload hx hb dX3_mask_14 (lv_at hl 4 rfl) ?_
            refine lv_aload_n hx hb dX3_mask_16 rfl (lv_at hl 0 rfl) ?_
            refine j_get hx hb hts hown hV hH wM_o rfl in_X3 14 (Nat.le_of_ble_eq_true rfl) q2243 (fun _ h => h) rfl dX3_mask_17 ?_
            refine j_top (b := cntO (st 0)) (h4.1) ?_
            refine j_icmp_ge (tgt := 69) hx hb dX3_mask_20 (by decide) (by omega) (by omega) (fun c20 => ?_) (fun c20 => ?_)
            · have hnx : nx = nxtO (st 0) al a := by rw [j3]; unfold nxtO; rw [show it.toNat = (cntO (st 0)).toNat by omega]
              refine lv_iload hx hb dX3_mask_69 (lv_at hl 3 rfl) ?_
              refine lv_iload_n hx hb dX3_mask_71 rfl (lv_at hl 2 rfl) ?_
              refine j_icmp_le (tgt := 79) hx hb dX3_mask_72 (by decide) (by omega) (by omega) (fun c72 => ?_) (fun c72 => ?_)
              · refine j_iconst hx hb dX3_mask_79 ?_
                refine j_istore_n (lv' := fun x5 => [(3, .int (iI x5)), (0, .ref o), (1, .int (iI (bI al))), (2, .int (iI a)), (4, .int (iI nx)), (5, .int (iI it))]) hx hb dX3_mask_80 rfl hl (by decide) (fun _ => rfl) (fun x5 ex5 ls hl => ?_)
                refine lv_iload hx hb dX3_mask_81 (lv_at hl 4 rfl) ?_
                refine j_istore_n (lv' := fun x6 => [(2, .int (iI x6)), (3, .int (iI x5)), (0, .ref o), (1, .int (iI (bI al))), (4, .int (iI nx)), (5, .int (iI it))]) hx hb dX3_mask_83 rfl hl (by decide) (fun _ => rfl) (fun x6 ex6 ls hl => ?_)
                refine lv_goto (tgt := 4) hx hb dX3_mask_84 (by decide) ?_
                exact ih_4 x6 x5 (by omega) (by omega) (by omega) (by intro h1m; first | omega | (rw [i3 (by omega), ex6, hnx]; rw [show mskF (st 0) al 21 a = mskF (st 0) al 20 (nxtO (st 0) al a) from if_pos (by omega)]; exact mskF_more h1 al 20 21 _ (by omega) (by omega) (by omega) (by omega))) (by intro h0m; first | omega | (rw [i3 (by omega), mskF_end (by omega)]; omega)) _ _ hH ls (lv_sub hl [2, 3, 0, 1] rfl)
              · refine j_iconst hx hb dX3_mask_75 ?_
                refine lv_goto (tgt := 80) hx hb dX3_mask_76 (by decide) ?_
                refine j_istore_n (lv' := fun x7 => [(3, .int (iI x7)), (0, .ref o), (1, .int (iI (bI al))), (2, .int (iI a)), (4, .int (iI nx)), (5, .int (iI it))]) hx hb dX3_mask_80 rfl hl (by decide) (fun _ => rfl) (fun x7 ex7 ls hl => ?_)
                refine lv_iload hx hb dX3_mask_81 (lv_at hl 4 rfl) ?_
                refine j_istore_n (lv' := fun x8 => [(2, .int (iI x8)), (3, .int (iI x7)), (0, .ref o), (1, .int (iI (bI al))), (4, .int (iI nx)), (5, .int (iI it))]) hx hb dX3_mask_83 rfl hl (by decide) (fun _ => rfl) (fun x8 ex8 ls hl => ?_)
                refine lv_goto (tgt := 4) hx hb dX3_mask_84 (by decide) ?_
                exact ih_4 x8 x7 (by omega) (by omega) (by omega) (by intro h1m; first | omega | (rw [i3 (by omega), ex8, hnx]; rw [show mskF (st 0) al 21 a = mskF (st 0) al 20 (nxtO (st 0) al a) from if_pos (by omega)]; exact mskF_more h1 al 20 21 _ (by omega) (by omega) (by omega) (by omega))) (by intro h0m; first | omega | (rw [i3 (by omega), mskF_end (by omega)]; omega)) _ _ hH ls (lv_sub hl [2, 3, 0, 1] rfl)
            · have hob := ordO_b h1 j1 c20
              have hsb := shO_box h1 hob.1 hob.2.1 hob.2.2
              have hB := h1.B
              refine lv_aload_n hx hb dX3_mask_23 rfl (lv_at hl 0 rfl) ?_
              refine lv_aload_n hx hb dX3_mask_24 rfl (lv_at hl 0 rfl) ?_
              refine j_get hx hb hts hown hV hH wM_o rfl in_X3 13 (Nat.le_of_ble_eq_true rfl) q2242 (fun _ h => h) rfl dX3_mask_25 ?_
              refine lv_iload hx hb dX3_mask_28 (lv_at hl 4 rfl) ?_
              refine j_iald (n := 20) hx hb hV hH wM_13 (by omega) (by omega) dX3_mask_30 ?_
              refine j_top (b := ordO (st 0) it) (h4.2 it j1 c20) ?_
              refine lv_iload_n hx hb dX3_mask_31 rfl (lv_at hl 1 rfl) ?_
              refine lv_iload_n hx hb dX3_mask_32 rfl (lv_at hl 2 rfl) ?_
              refine j_callif (va_runV (As := [.int (iI (ordO (st 0) it)), .int (iI (bI al)), .int (iI a)]) (rest := []) ⟨hx, hb, hml, hown, hts⟩ (m_X3_isCut l o st w0 _ (ordO (st 0) it) al a (h1) (hob.1) (hob.2.1) (h2) (h3) (by omega)) (cw_X3_isCut hts q2498 (Nat.le_of_ble_eq_true rfl) (Nat.le_of_ble_eq_true rfl)) (j_preV hV hH wM_o rfl) rfl rfl hl.1 rfl (lv_room (Nat.le_of_ble_eq_true rfl)) dX3_mask_33 ⟨Nat.le_of_ble_eq_true rfl, Nat.le_of_ble_eq_true rfl⟩) hH (fun H locs hH => ?_)
              refine j_ifeq_b (tgt := 59) hx hb dX3_mask_36 (by decide) (fun c36 => ?_) (fun c36 => ?_)
              · refine lv_iload hx hb dX3_mask_59 (lv_at hl 3 rfl) ?_
                refine j_istore (lv' := fun x9 => [(4, .int (iI x9)), (0, .ref o), (1, .int (iI (bI al))), (2, .int (iI a)), (5, .int (iI it))]) hx hb dX3_mask_61 hl (by decide) (fun _ => rfl) (fun x9 ex9 ls hl => ?_)
                refine j_iinc (k := 4) (lv' := fun x10 => [(5, .int (iI x10)), (4, .int (iI x9)), (0, .ref o), (1, .int (iI (bI al))), (2, .int (iI a))]) hx hb dX3_mask_63 hl rfl (by decide) (fun _ => rfl) (fun x10 ex10 ls hl => ?_)
                refine lv_goto (tgt := 14) hx hb dX3_mask_66 (by decide) ?_
                exact ih_14 x9 x10 (by omega) (by omega) (by omega) (by rw [ex9, ex10, show (it + 1).toNat = it.toNat + 1 by omega, nxtF, show ((it.toNat : Nat) : Int) = it by omega, ← j3]; first | exact (pI_t c36).symm | exact (pI_f c36).symm) _ _ hH ls (lv_sub hl [2, 3, 4, 1, 0] rfl)
              · refine lv_iload hx hb dX3_mask_39 (lv_at hl 3 rfl) ?_
                refine lv_aload_n hx hb dX3_mask_41 rfl (lv_at hl 0 rfl) ?_
                refine j_get hx hb hts hown hV hH wM_o rfl in_X3 11 (Nat.le_of_ble_eq_true rfl) q2240 (fun _ h => h) rfl dX3_mask_42 ?_
                refine lv_aload_n hx hb dX3_mask_45 rfl (lv_at hl 0 rfl) ?_
                refine j_get hx hb hts hown hV hH wM_o rfl in_X3 13 (Nat.le_of_ble_eq_true rfl) q2242 (fun _ h => h) rfl dX3_mask_46 ?_
                refine lv_iload hx hb dX3_mask_49 (lv_at hl 4 rfl) ?_
                refine j_iald (n := 20) hx hb hV hH wM_13 (by omega) (by omega) dX3_mask_51 ?_
                refine j_top (b := ordO (st 0) it) (h4.2 it j1 c20) ?_
                refine j_iald (n := 20) hx hb hV hH wM_11 (by omega) (by omega) dX3_mask_52 ?_
                refine j_top (b := shO (st 0) (ordO (st 0) it)) (h3 _ hob.1 hob.2.1) ?_
                refine j_callip (va_runS (As := [.int (iI nx), .int (iI (shO (st 0) (ordO (st 0) it)))]) (rest := []) ⟨hx, hb, hml, hown, hts⟩ (m_X3_greater l _ nx (shO (st 0) (ordO (st 0) it)) (by omega) (by omega)) (cw_X3_greater hts q2521 (Nat.le_of_ble_eq_true rfl) (Nat.le_of_ble_eq_true rfl)) (j_preS hV hH) rfl rfl hl.1 rfl (lv_room (Nat.le_of_ble_eq_true rfl)) dX3_mask_53 ⟨Nat.le_of_ble_eq_true rfl, Nat.le_of_ble_eq_true rfl⟩) hH (fun H locs hH => ?_)
                refine lv_goto (tgt := 61) hx hb dX3_mask_56 (by decide) ?_
                refine j_istore (lv' := fun x11 => [(4, .int (iI x11)), (0, .ref o), (1, .int (iI (bI al))), (2, .int (iI a)), (5, .int (iI it))]) hx hb dX3_mask_61 hl (by decide) (fun _ => rfl) (fun x11 ex11 ls hl => ?_)
                refine j_iinc (k := 4) (lv' := fun x12 => [(5, .int (iI x12)), (4, .int (iI x11)), (0, .ref o), (1, .int (iI (bI al))), (2, .int (iI a))]) hx hb dX3_mask_63 hl rfl (by decide) (fun _ => rfl) (fun x12 ex12 ls hl => ?_)
                refine lv_goto (tgt := 14) hx hb dX3_mask_66 (by decide) ?_
                exact ih_14 x11 x12 (by omega) (by omega) (by omega) (by rw [ex11, ex12, show (it + 1).toNat = it.toNat + 1 by omega, nxtF, show ((it.toNat : Nat) : Int) = it by omega, ← j3]; first | exact (pI_t c36).symm | exact (pI_f c36).symm) _ _ hH ls (lv_sub hl [2, 3, 4, 1, 0] rfl)
        exact L14 ((cntO (st 0) - x4).toNat + 1) x3 x4 (by omega) (by omega) (by omega) (by rw [ex3, ex4]; rfl) _ _ hH ls (lv_sub hl [2, 3, 4, 1, 0] rfl)
  exact L4 ((2 * (21 - x1) + x2).toNat + 1) x1 x2 (by omega) (by omega) (by omega) (by intro _; rw [ex1]; rfl) (by omega) _ _ hH ls (lv_sub hl [2, 3, 1, 0] rfl)
