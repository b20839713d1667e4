/-! THE REFERENCE's METHODS: the public queries -/
set_option maxRecDepth 100000
theorem cw_X3_node {R : Room} {s : State} {args : Array Value} {own : String} {index lev mc ms : Nat} (hts : ∀ w ∈ lw_all, w.before args s = true) (hl : Cond.methodLink own index yX3_node ∈ lw_all) (hR1 : (rmL lev mc ms).frames + 1 ≤ R.frames) (hR2 : 8 + (3 + 11) + (rmL lev mc ms).locals ≤ R.locals) : CallW R s args own RX3 index yX3_node cX3_node 3 (some .int) (ws_ yX3_node cX3_node 3 (some .int)) (rmL lev mc ms) mc ms 2 :=
  cwV 2 hts (lw_V hl q2460 q2461 q116 q2462) rfl rfl rfl (by decide +kernel) ⟨hR1, hR2⟩
set_option maxHeartbeats 4000000 in
theorem m_X3_node {E : jE} (l : Launch) (o : Nat) (st : Ms) (w0 : Wl) (T : Int) (node : Int) (what : Int) (h1 : PWF T (st 0)) (h2 : -2147483648 ≤ node ∧ node ≤ 2147483647) (h3 : -2147483648 ≤ what ∧ what ≤ 2147483647) : Met l yX3_node (ws_ yX3_node cX3_node 3 (some .int)) (rmL 8 0 0) (va_Pc [.ref o, .int (iI node), .int (iI what)] (jP E (wM E o st w0))) (jQi E (fun u : Ms => wM E o (svO (su st 6 0 (cdN (st 0) node what)) u) w0) (fun z u => z = if cdN (st 0) node what = 0 then nodV (st 0) node what else 0)) 0 0 (jA E) := by
  refine j_metI (by decide) (Nat.le_of_ble_eq_true rfl) ?_
  intro p e s m args below meth c Q hx hb hml hown hnm hts hV hH hret ls hl
  have hl : lv_has ls 3 [(0, .ref o), (1, .int (iI node)), (2, .int (iI what))] := hl
  have hA := h1.A
  have hB := h1.B
  have hC := h1.C
  have hcd := cdN_or (st 0) node what
  refine lv_aload_n hx hb dX3_node_0 rfl (lv_at hl 0 rfl) ?_
  refine lv_aload_n hx hb dX3_node_1 rfl (lv_at hl 0 rfl) ?_
  refine lv_iload_n hx hb dX3_node_2 rfl (lv_at hl 1 rfl) ?_
  refine j_callif (va_runV (As := [.int (iI node)]) (rest := [.ref o]) ⟨hx, hb, hml, hown, hts⟩ (m_X3_isNode l o st w0 _ node (h1) (by omega)) (cw_X3_isNode hts q2335 (Nat.le_of_ble_eq_true rfl) (Nat.le_of_ble_eq_true rfl)) (j_preV hV hH wM_o rfl) rfl rfl hl.1 rfl (lv_room (Nat.le_of_ble_eq_true rfl)) dX3_node_3 ⟨Nat.le_of_ble_eq_true rfl, Nat.le_of_ble_eq_true rfl⟩) hH (fun H locs hH => ?_)
  refine j_ifne_b (tgt := 13) hx hb dX3_node_6 (by decide) (fun c6 => ?_) (fun c6 => ?_)
  · refine lv_iload_n hx hb dX3_node_13 rfl (lv_at hl 2 rfl) ?_
    refine j_iconst hx hb dX3_node_14 ?_
    refine j_bipush hx hb dX3_node_15 (by decide) ?_
    refine j_callip (va_runS (As := [.int (iI what), .int (iI 0), .int (iI 15)]) (rest := [.ref o]) ⟨hx, hb, hml, hown, hts⟩ (m_X3_in l _ what 0 15 (by omega) (by omega) (by omega)) (cw_X3_in hts q2313 (Nat.le_of_ble_eq_true rfl) (Nat.le_of_ble_eq_true rfl)) (j_preS hV hH) rfl rfl hl.1 rfl (lv_room (Nat.le_of_ble_eq_true rfl)) dX3_node_17 ⟨Nat.le_of_ble_eq_true rfl, Nat.le_of_ble_eq_true rfl⟩) hH (fun H locs hH => ?_)
    refine j_ifeq_b (tgt := 27) hx hb dX3_node_20 (by decide) (fun c20 => ?_) (fun c20 => ?_)
    · refine j_iconst hx hb dX3_node_27 ?_
      refine j_top (b := cdN (st 0) node what) (by omega) ?_
      refine j_put hx hb hts hown hV hH wM_o rfl in_X3 tyX3 tyX3_ok nmX3 6 (Nat.le_of_ble_eq_true rfl) q2235 (fun _ h => h) rfl rfl rfl (Nat.le_of_ble_eq_true rfl) dX3_node_28 (fun H locs hH => ?_)
      rw [wM_f6] at hH
      refine lv_aload_n hx hb dX3_node_31 rfl (lv_at hl 0 rfl) ?_
      refine j_get hx hb hts hown hV hH wM_o rfl in_X3 6 (Nat.le_of_ble_eq_true rfl) q2235 (fun _ h => h) rfl dX3_node_32 ?_
      refine j_top (b := cdN (st 0) node what) rfl ?_
      refine j_if_eq (tgt := 40) hx hb dX3_node_35 (by decide) (by omega) (fun c35 => ?_) (fun c35 => ?_)
      · refine lv_aload_n hx hb dX3_node_40 rfl (lv_at hl 0 rfl) ?_
        refine j_callv (va_runV (As := []) (rest := []) ⟨hx, hb, hml, hown, hts⟩ (m_X3_survey l o (su st 6 0 (cdN (st 0) node what)) w0 _ (h1)) (cw_X3_survey hts q2463 (Nat.le_of_ble_eq_true rfl) (Nat.le_of_ble_eq_true rfl)) (j_preV hV hH wM_o rfl) rfl rfl hl.1 rfl (lv_room (Nat.le_of_ble_eq_true rfl)) dX3_node_41 ⟨Nat.le_of_ble_eq_true rfl, Nat.le_of_ble_eq_true rfl⟩) hH (fun u H locs hp hH => ?_)
        obtain ⟨u2, huu2⟩ : ∃ q, q = u := ⟨_, rfl⟩
        subst huu2
        have hH : jH E s.heap (wM E o (svO (su st 6 0 (cdN (st 0) node what)) u2) w0) H locs := hH
        have hp41 : (fun u => SVC (svO (su st 6 0 (cdN (st 0) node what)) u)) u2 := hp
        refine lv_aload_n hx hb dX3_node_44 rfl (lv_at hl 0 rfl) ?_
        refine lv_iload_n hx hb dX3_node_45 rfl (lv_at hl 1 rfl) ?_
        refine lv_iload_n hx hb dX3_node_46 rfl (lv_at hl 2 rfl) ?_
        refine j_callif (va_runV (As := [.int (iI node), .int (iI what)]) (rest := []) ⟨hx, hb, hml, hown, hts⟩ (m_X3_nodeOf l o (svO (su st 6 0 (cdN (st 0) node what)) u2) w0 _ node what (h1) (hp41) (by omega) (show node < st 0 2 by omega) (by omega)) (cw_X3_nodeOf hts q2532 (Nat.le_of_ble_eq_true rfl) (Nat.le_of_ble_eq_true rfl)) (j_preV hV hH wM_o rfl) rfl rfl hl.1 rfl (lv_room (Nat.le_of_ble_eq_true rfl)) dX3_node_47 ⟨Nat.le_of_ble_eq_true rfl, Nat.le_of_ble_eq_true rfl⟩) hH (fun H locs hH => ?_)
        refine j_top (b := nodV (st 0) node what) rfl ?_
        exact hret u2 hH dX3_node_50 (Nat.le_of_ble_eq_true rfl) (Nat.le_of_ble_eq_true rfl) ((by rw [if_pos (by omega)]))
      · refine j_iconst hx hb dX3_node_38 ?_
        have hH : jH E s.heap (wM E o (svO (su st 6 0 (cdN (st 0) node what)) (su st 6 0 (cdN (st 0) node what))) w0) H locs := by rw [svO_self]; exact hH
        exact hret (su st 6 0 (cdN (st 0) node what)) hH dX3_node_39 (Nat.le_of_ble_eq_true rfl) (Nat.le_of_ble_eq_true rfl) ((by rw [if_neg (by omega)]))
    · refine j_iconst hx hb dX3_node_23 ?_
      refine lv_goto (tgt := 28) hx hb dX3_node_24 (by decide) ?_
      refine j_top (b := cdN (st 0) node what) (by omega) ?_
      refine j_put hx hb hts hown hV hH wM_o rfl in_X3 tyX3 tyX3_ok nmX3 6 (Nat.le_of_ble_eq_true rfl) q2235 (fun _ h => h) rfl rfl rfl (Nat.le_of_ble_eq_true rfl) dX3_node_28 (fun H locs hH => ?_)
      rw [wM_f6] at hH
      refine lv_aload_n hx hb dX3_node_31 rfl (lv_at hl 0 rfl) ?_
      refine j_get hx hb hts hown hV hH wM_o rfl in_X3 6 (Nat.le_of_ble_eq_true rfl) q2235 (fun _ h => h) rfl dX3_node_32 ?_
      refine j_top (b := cdN (st 0) node what) rfl ?_
      refine j_if_eq (tgt := 40) hx hb dX3_node_35 (by decide) (by omega) (fun c35 => ?_) (fun c35 => ?_)
      · refine lv_aload_n hx hb dX3_node_40 rfl (lv_at hl 0 rfl) ?_
        refine j_callv (va_runV (As := []) (rest := []) ⟨hx, hb, hml, hown, hts⟩ (m_X3_survey l o (su st 6 0 (cdN (st 0) node what)) w0 _ (h1)) (cw_X3_survey hts q2463 (Nat.le_of_ble_eq_true rfl) (Nat.le_of_ble_eq_true rfl)) (j_preV hV hH wM_o rfl) rfl rfl hl.1 rfl (lv_room (Nat.le_of_ble_eq_true rfl)) dX3_node_41 ⟨Nat.le_of_ble_eq_true rfl, Nat.le_of_ble_eq_true rfl⟩) hH (fun u H locs hp hH => ?_)
        obtain ⟨u4, huu4⟩ : ∃ q, q = u := ⟨_, rfl⟩
        subst huu4
        have hH : jH E s.heap (wM E o (svO (su st 6 0 (cdN (st 0) node what)) u4) w0) H locs := hH
        have hp41 : (fun u => SVC (svO (su st 6 0 (cdN (st 0) node what)) u)) u4 := hp
        refine lv_aload_n hx hb dX3_node_44 rfl (lv_at hl 0 rfl) ?_
        refine lv_iload_n hx hb dX3_node_45 rfl (lv_at hl 1 rfl) ?_
        refine lv_iload_n hx hb dX3_node_46 rfl (lv_at hl 2 rfl) ?_
        refine j_callif (va_runV (As := [.int (iI node), .int (iI what)]) (rest := []) ⟨hx, hb, hml, hown, hts⟩ (m_X3_nodeOf l o (svO (su st 6 0 (cdN (st 0) node what)) u4) w0 _ node what (h1) (hp41) (by omega) (show node < st 0 2 by omega) (by omega)) (cw_X3_nodeOf hts q2532 (Nat.le_of_ble_eq_true rfl) (Nat.le_of_ble_eq_true rfl)) (j_preV hV hH wM_o rfl) rfl rfl hl.1 rfl (lv_room (Nat.le_of_ble_eq_true rfl)) dX3_node_47 ⟨Nat.le_of_ble_eq_true rfl, Nat.le_of_ble_eq_true rfl⟩) hH (fun H locs hH => ?_)
        refine j_top (b := nodV (st 0) node what) rfl ?_
        exact hret u4 hH dX3_node_50 (Nat.le_of_ble_eq_true rfl) (Nat.le_of_ble_eq_true rfl) ((by rw [if_pos (by omega)]))
      · refine j_iconst hx hb dX3_node_38 ?_
        have hH : jH E s.heap (wM E o (svO (su st 6 0 (cdN (st 0) node what)) (su st 6 0 (cdN (st 0) node what))) w0) H locs := by rw [svO_self]; exact hH
        exact hret (su st 6 0 (cdN (st 0) node what)) hH dX3_node_39 (Nat.le_of_ble_eq_true rfl) (Nat.le_of_ble_eq_true rfl) ((by rw [if_neg (by omega)]))
  · refine j_iconst hx hb dX3_node_9 ?_
    refine lv_goto (tgt := 28) hx hb dX3_node_10 (by decide) ?_
    refine j_top (b := cdN (st 0) node what) (by omega) ?_
    refine j_put hx hb hts hown hV hH wM_o rfl in_X3 tyX3 tyX3_ok nmX3 6 (Nat.le_of_ble_eq_true rfl) q2235 (fun _ h => h) rfl rfl rfl (Nat.le_of_ble_eq_true rfl) dX3_node_28 (fun H locs hH => ?_)
    rw [wM_f6] at hH
    refine lv_aload_n hx hb dX3_node_31 rfl (lv_at hl 0 rfl) ?_
    refine j_get hx hb hts hown hV hH wM_o rfl in_X3 6 (Nat.le_of_ble_eq_true rfl) q2235 (fun _ h => h) rfl dX3_node_32 ?_
    refine j_top (b := cdN (st 0) node what) rfl ?_
    refine j_if_eq (tgt := 40) hx hb dX3_node_35 (by decide) (by omega) (fun c35 => ?_) (fun c35 => ?_)
    · refine lv_aload_n hx hb dX3_node_40 rfl (lv_at hl 0 rfl) ?_
      refine j_callv (va_runV (As := []) (rest := []) ⟨hx, hb, hml, hown, hts⟩ (m_X3_survey l o (su st 6 0 (cdN (st 0) node what)) w0 _ (h1)) (cw_X3_survey hts q2463 (Nat.le_of_ble_eq_true rfl) (Nat.le_of_ble_eq_true rfl)) (j_preV hV hH wM_o rfl) rfl rfl hl.1 rfl (lv_room (Nat.le_of_ble_eq_true rfl)) dX3_node_41 ⟨Nat.le_of_ble_eq_true rfl, Nat.le_of_ble_eq_true rfl⟩) hH (fun u H locs hp hH => ?_)
      obtain ⟨u6, huu6⟩ : ∃ q, q = u := ⟨_, rfl⟩
      subst huu6
      have hH : jH E s.heap (wM E o (svO (su st 6 0 (cdN (st 0) node what)) u6) w0) H locs := hH
      have hp41 : (fun u => SVC (svO (su st 6 0 (cdN (st 0) node what)) u)) u6 := hp
      refine lv_aload_n hx hb dX3_node_44 rfl (lv_at hl 0 rfl) ?_
      refine lv_iload_n hx hb dX3_node_45 rfl (lv_at hl 1 rfl) ?_
      refine lv_iload_n hx hb dX3_node_46 rfl (lv_at hl 2 rfl) ?_
      refine j_callif (va_runV (As := [.int (iI node), .int (iI what)]) (rest := []) ⟨hx, hb, hml, hown, hts⟩ (m_X3_nodeOf l o (svO (su st 6 0 (cdN (st 0) node what)) u6) w0 _ node what (h1) (hp41) (by omega) (show node < st 0 2 by omega) (by omega)) (cw_X3_nodeOf hts q2532 (Nat.le_of_ble_eq_true rfl) (Nat.le_of_ble_eq_true rfl)) (j_preV hV hH wM_o rfl) rfl rfl hl.1 rfl (lv_room (Nat.le_of_ble_eq_true rfl)) dX3_node_47 ⟨Nat.le_of_ble_eq_true rfl, Nat.le_of_ble_eq_true rfl⟩) hH (fun H locs hH => ?_)
      refine j_top (b := nodV (st 0) node what) rfl ?_
      exact hret u6 hH dX3_node_50 (Nat.le_of_ble_eq_true rfl) (Nat.le_of_ble_eq_true rfl) ((by rw [if_pos (by omega)]))
    · refine j_iconst hx hb dX3_node_38 ?_
      have hH : jH E s.heap (wM E o (svO (su st 6 0 (cdN (st 0) node what)) (su st 6 0 (cdN (st 0) node what))) w0) H locs := by rw [svO_self]; exact hH
      exact hret (su st 6 0 (cdN (st 0) node what)) hH dX3_node_39 (Nat.le_of_ble_eq_true rfl) (Nat.le_of_ble_eq_true rfl) ((by rw [if_neg (by omega)]))
theorem cw_X3_title {R : Room} {s : State} {args : Array Value} {own : String} {index lev mc ms : Nat} (hts : ∀ w ∈ lw_all, w.before args s = true) (hl : Cond.methodLink own index yX3_title ∈ lw_all) (hR1 : (rmL lev mc ms).frames + 1 ≤ R.frames) (hR2 : 8 + (2 + 11) + (rmL lev mc ms).locals ≤ R.locals) : CallW R s args own RX3 index yX3_title cX3_title 2 (some .int) (ws_ yX3_title cX3_title 2 (some .int)) (rmL lev mc ms) mc ms 1 :=
  cwV 1 hts (lw_V hl q2557 q2558 q116 q2559) rfl rfl rfl (by decide +kernel) ⟨hR1, hR2⟩
set_option maxHeartbeats 4000000 in
theorem m_X3_title {E : jE} (l : Launch) (o : Nat) (st : Ms) (w0 : Wl) (T : Int) (what : Int) (h1 : PWF T (st 0)) (h2 : -2147483648 ≤ what ∧ what ≤ 2147483647) : Met l yX3_title (ws_ yX3_title cX3_title 2 (some .int)) (rmL 8 0 0) (va_Pc [.ref o, .int (iI what)] (jP E (wM E o st w0))) (jQi E (fun u : Ms => wM E o (svO (su st 6 0 (cdB 0 6 what)) u) w0) (fun z u => z = if cdB 0 6 what = 0 then titV (st 0) what else 0)) 0 0 (jA E) := by
  refine j_metI (by decide) (Nat.le_of_ble_eq_true rfl) ?_
  intro p e s m args below meth c Q hx hb hml hown hnm hts hV hH hret ls hl
  have hl : lv_has ls 2 [(0, .ref o), (1, .int (iI what))] := hl
  have hA := h1.A
  have hB := h1.B
  have hC := h1.C
  have hcd := cdB_or 0 6 what
  refine lv_aload_n hx hb dX3_title_0 rfl (lv_at hl 0 rfl) ?_
  refine lv_iload_n hx hb dX3_title_1 rfl (lv_at hl 1 rfl) ?_
  refine j_iconst hx hb dX3_title_2 ?_
  refine j_bipush hx hb dX3_title_3 (by decide) ?_
  refine j_callip (va_runS (As := [.int (iI what), .int (iI 0), .int (iI 6)]) (rest := [.ref o]) ⟨hx, hb, hml, hown, hts⟩ (m_X3_in l _ what 0 6 (by omega) (by omega) (by omega)) (cw_X3_in hts q2313 (Nat.le_of_ble_eq_true rfl) (Nat.le_of_ble_eq_true rfl)) (j_preS hV hH) rfl rfl hl.1 rfl (lv_room (Nat.le_of_ble_eq_true rfl)) dX3_title_5 ⟨Nat.le_of_ble_eq_true rfl, Nat.le_of_ble_eq_true rfl⟩) hH (fun H locs hH => ?_)
  refine j_ifeq_b (tgt := 15) hx hb dX3_title_8 (by decide) (fun c8 => ?_) (fun c8 => ?_)
  · refine j_iconst hx hb dX3_title_15 ?_
    refine j_top (b := cdB 0 6 what) (by omega) ?_
    refine j_put hx hb hts hown hV hH wM_o rfl in_X3 tyX3 tyX3_ok nmX3 6 (Nat.le_of_ble_eq_true rfl) q2235 (fun _ h => h) rfl rfl rfl (Nat.le_of_ble_eq_true rfl) dX3_title_16 (fun H locs hH => ?_)
    rw [wM_f6] at hH
    refine lv_aload_n hx hb dX3_title_19 rfl (lv_at hl 0 rfl) ?_
    refine j_get hx hb hts hown hV hH wM_o rfl in_X3 6 (Nat.le_of_ble_eq_true rfl) q2235 (fun _ h => h) rfl dX3_title_20 ?_
    refine j_top (b := cdB 0 6 what) rfl ?_
    refine j_if_eq (tgt := 28) hx hb dX3_title_23 (by decide) (by omega) (fun c23 => ?_) (fun c23 => ?_)
    · refine lv_aload_n hx hb dX3_title_28 rfl (lv_at hl 0 rfl) ?_
      refine j_callv (va_runV (As := []) (rest := []) ⟨hx, hb, hml, hown, hts⟩ (m_X3_survey l o (su st 6 0 (cdB 0 6 what)) w0 _ (h1)) (cw_X3_survey hts q2463 (Nat.le_of_ble_eq_true rfl) (Nat.le_of_ble_eq_true rfl)) (j_preV hV hH wM_o rfl) rfl rfl hl.1 rfl (lv_room (Nat.le_of_ble_eq_true rfl)) dX3_title_29 ⟨Nat.le_of_ble_eq_true rfl, Nat.le_of_ble_eq_true rfl⟩) hH (fun u H locs hp hH => ?_)
      obtain ⟨u2, huu2⟩ : ∃ q, q = u := ⟨_, rfl⟩
      subst huu2
      have hH : jH E s.heap (wM E o (svO (su st 6 0 (cdB 0 6 what)) u2) w0) H locs := hH
      have hp29 : (fun u => SVC (svO (su st 6 0 (cdB 0 6 what)) u)) u2 := hp
      refine lv_aload_n hx hb dX3_title_32 rfl (lv_at hl 0 rfl) ?_
      refine lv_iload_n hx hb dX3_title_33 rfl (lv_at hl 1 rfl) ?_
      refine j_callif (va_runV (As := [.int (iI what)]) (rest := []) ⟨hx, hb, hml, hown, hts⟩ (m_X3_titleOf l o (svO (su st 6 0 (cdB 0 6 what)) u2) w0 _ what (h1) (hp29) (by omega)) (cw_X3_titleOf hts q2560 (Nat.le_of_ble_eq_true rfl) (Nat.le_of_ble_eq_true rfl)) (j_preV hV hH wM_o rfl) rfl rfl hl.1 rfl (lv_room (Nat.le_of_ble_eq_true rfl)) dX3_title_34 ⟨Nat.le_of_ble_eq_true rfl, Nat.le_of_ble_eq_true rfl⟩) hH (fun H locs hH => ?_)
      refine j_top (b := titV (st 0) what) rfl ?_
      exact hret u2 hH dX3_title_37 (Nat.le_of_ble_eq_true rfl) (Nat.le_of_ble_eq_true rfl) ((by rw [if_pos (by omega)]))
    · refine j_iconst hx hb dX3_title_26 ?_
      have hH : jH E s.heap (wM E o (svO (su st 6 0 (cdB 0 6 what)) (su st 6 0 (cdB 0 6 what))) w0) H locs := by rw [svO_self]; exact hH
      exact hret (su st 6 0 (cdB 0 6 what)) hH dX3_title_27 (Nat.le_of_ble_eq_true rfl) (Nat.le_of_ble_eq_true rfl) ((by rw [if_neg (by omega)]))
  · refine j_iconst hx hb dX3_title_11 ?_
    refine lv_goto (tgt := 16) hx hb dX3_title_12 (by decide) ?_
    refine j_top (b := cdB 0 6 what) (by omega) ?_
    refine j_put hx hb hts hown hV hH wM_o rfl in_X3 tyX3 tyX3_ok nmX3 6 (Nat.le_of_ble_eq_true rfl) q2235 (fun _ h => h) rfl rfl rfl (Nat.le_of_ble_eq_true rfl) dX3_title_16 (fun H locs hH => ?_)
    rw [wM_f6] at hH
    refine lv_aload_n hx hb dX3_title_19 rfl (lv_at hl 0 rfl) ?_
    refine j_get hx hb hts hown hV hH wM_o rfl in_X3 6 (Nat.le_of_ble_eq_true rfl) q2235 (fun _ h => h) rfl dX3_title_20 ?_
    refine j_top (b := cdB 0 6 what) rfl ?_
    refine j_if_eq (tgt := 28) hx hb dX3_title_23 (by decide) (by omega) (fun c23 => ?_) (fun c23 => ?_)
    · refine lv_aload_n hx hb dX3_title_28 rfl (lv_at hl 0 rfl) ?_
      refine j_callv (va_runV (As := []) (rest := []) ⟨hx, hb, hml, hown, hts⟩ (m_X3_survey l o (su st 6 0 (cdB 0 6 what)) w0 _ (h1)) (cw_X3_survey hts q2463 (Nat.le_of_ble_eq_true rfl) (Nat.le_of_ble_eq_true rfl)) (j_preV hV hH wM_o rfl) rfl rfl hl.1 rfl (lv_room (Nat.le_of_ble_eq_true rfl)) dX3_title_29 ⟨Nat.le_of_ble_eq_true rfl, Nat.le_of_ble_eq_true rfl⟩) hH (fun u H locs hp hH => ?_)
      obtain ⟨u4, huu4⟩ : ∃ q, q = u := ⟨_, rfl⟩
      subst huu4
      have hH : jH E s.heap (wM E o (svO (su st 6 0 (cdB 0 6 what)) u4) w0) H locs := hH
      have hp29 : (fun u => SVC (svO (su st 6 0 (cdB 0 6 what)) u)) u4 := hp
      refine lv_aload_n hx hb dX3_title_32 rfl (lv_at hl 0 rfl) ?_
      refine lv_iload_n hx hb dX3_title_33 rfl (lv_at hl 1 rfl) ?_
      refine j_callif (va_runV (As := [.int (iI what)]) (rest := []) ⟨hx, hb, hml, hown, hts⟩ (m_X3_titleOf l o (svO (su st 6 0 (cdB 0 6 what)) u4) w0 _ what (h1) (hp29) (by omega)) (cw_X3_titleOf hts q2560 (Nat.le_of_ble_eq_true rfl) (Nat.le_of_ble_eq_true rfl)) (j_preV hV hH wM_o rfl) rfl rfl hl.1 rfl (lv_room (Nat.le_of_ble_eq_true rfl)) dX3_title_34 ⟨Nat.le_of_ble_eq_true rfl, Nat.le_of_ble_eq_true rfl⟩) hH (fun H locs hH => ?_)
      refine j_top (b := titV (st 0) what) rfl ?_
      exact hret u4 hH dX3_title_37 (Nat.le_of_ble_eq_true rfl) (Nat.le_of_ble_eq_true rfl) ((by rw [if_pos (by omega)]))
    · refine j_iconst hx hb dX3_title_26 ?_
      have hH : jH E s.heap (wM E o (svO (su st 6 0 (cdB 0 6 what)) (su st 6 0 (cdB 0 6 what))) w0) H locs := by rw [svO_self]; exact hH
      exact hret (su st 6 0 (cdB 0 6 what)) hH dX3_title_27 (Nat.le_of_ble_eq_true rfl) (Nat.le_of_ble_eq_true rfl) ((by rw [if_neg (by omega)]))
theorem cw_X3_whole {R : Room} {s : State} {args : Array Value} {own : String} {index lev mc ms : Nat} (hts : ∀ w ∈ lw_all, w.before args s = true) (hl : Cond.methodLink own index yX3_whole ∈ lw_all) (hR1 : (rmL lev mc ms).frames + 1 ≤ R.frames) (hR2 : 8 + (2 + 11) + (rmL lev mc ms).locals ≤ R.locals) : CallW R s args own RX3 index yX3_whole cX3_whole 2 (some .int) (ws_ yX3_whole cX3_whole 2 (some .int)) (rmL lev mc ms) mc ms 1 :=
  cwV 1 hts (lw_V hl q2565 q2566 q116 q2567) rfl rfl rfl (by decide +kernel) ⟨hR1, hR2⟩
set_option maxHeartbeats 4000000 in
theorem m_X3_whole {E : jE} (l : Launch) (o : Nat) (st : Ms) (w0 : Wl) (T : Int) (what : Int) (h1 : PWF T (st 0)) (h2 : -2147483648 ≤ what ∧ what ≤ 2147483647) (h3 : T ≤ 1000000000) : Met l yX3_whole (ws_ yX3_whole cX3_whole 2 (some .int)) (rmL 8 0 0) (va_Pc [.ref o, .int (iI what)] (jP E (wM E o st w0))) (jQi E (fun u : Ms => wM E o (svO (su st 6 0 (cdB 0 15 what)) u) w0) (fun z u => z = if cdB 0 15 what = 0 then whoV (st 0) what else 0)) 0 0 (jA E) := by
  refine j_metI (by decide) (Nat.le_of_ble_eq_true rfl) ?_
  intro p e s m args below meth c Q hx hb hml hown hnm hts hV hH hret ls hl
  have hl : lv_has ls 2 [(0, .ref o), (1, .int (iI what))] := hl
  have hA := h1.A
  have hB := h1.B
  have hC := h1.C
  have hcd := cdB_or 0 15 what
  refine lv_aload_n hx hb dX3_whole_0 rfl (lv_at hl 0 rfl) ?_
  refine lv_iload_n hx hb dX3_whole_1 rfl (lv_at hl 1 rfl) ?_
  refine j_iconst hx hb dX3_whole_2 ?_
  refine j_bipush hx hb dX3_whole_3 (by decide) ?_
  refine j_callip (va_runS (As := [.int (iI what), .int (iI 0), .int (iI 15)]) (rest := [.ref o]) ⟨hx, hb, hml, hown, hts⟩ (m_X3_in l _ what 0 15 (by omega) (by omega) (by omega)) (cw_X3_in hts q2313 (Nat.le_of_ble_eq_true rfl) (Nat.le_of_ble_eq_true rfl)) (j_preS hV hH) rfl rfl hl.1 rfl (lv_room (Nat.le_of_ble_eq_true rfl)) dX3_whole_5 ⟨Nat.le_of_ble_eq_true rfl, Nat.le_of_ble_eq_true rfl⟩) hH (fun H locs hH => ?_)
  refine j_ifeq_b (tgt := 15) hx hb dX3_whole_8 (by decide) (fun c8 => ?_) (fun c8 => ?_)
  · refine j_iconst hx hb dX3_whole_15 ?_
    refine j_top (b := cdB 0 15 what) (by omega) ?_
    refine j_put hx hb hts hown hV hH wM_o rfl in_X3 tyX3 tyX3_ok nmX3 6 (Nat.le_of_ble_eq_true rfl) q2235 (fun _ h => h) rfl rfl rfl (Nat.le_of_ble_eq_true rfl) dX3_whole_16 (fun H locs hH => ?_)
    rw [wM_f6] at hH
    refine lv_aload_n hx hb dX3_whole_19 rfl (lv_at hl 0 rfl) ?_
    refine j_get hx hb hts hown hV hH wM_o rfl in_X3 6 (Nat.le_of_ble_eq_true rfl) q2235 (fun _ h => h) rfl dX3_whole_20 ?_
    refine j_top (b := cdB 0 15 what) rfl ?_
    refine j_if_eq (tgt := 28) hx hb dX3_whole_23 (by decide) (by omega) (fun c23 => ?_) (fun c23 => ?_)
    · refine lv_aload_n hx hb dX3_whole_28 rfl (lv_at hl 0 rfl) ?_
      refine j_callv (va_runV (As := []) (rest := []) ⟨hx, hb, hml, hown, hts⟩ (m_X3_survey l o (su st 6 0 (cdB 0 15 what)) w0 _ (h1)) (cw_X3_survey hts q2463 (Nat.le_of_ble_eq_true rfl) (Nat.le_of_ble_eq_true rfl)) (j_preV hV hH wM_o rfl) rfl rfl hl.1 rfl (lv_room (Nat.le_of_ble_eq_true rfl)) dX3_whole_29 ⟨Nat.le_of_ble_eq_true rfl, Nat.le_of_ble_eq_true rfl⟩) hH (fun u H locs hp hH => ?_)
      obtain ⟨u2, huu2⟩ : ∃ q, q = u := ⟨_, rfl⟩
      subst huu2
      have hH : jH E s.heap (wM E o (svO (su st 6 0 (cdB 0 15 what)) u2) w0) H locs := hH
      have hp29 : (fun u => SVC (svO (su st 6 0 (cdB 0 15 what)) u)) u2 := hp
      refine lv_aload_n hx hb dX3_whole_32 rfl (lv_at hl 0 rfl) ?_
      refine lv_iload_n hx hb dX3_whole_33 rfl (lv_at hl 1 rfl) ?_
      refine j_callif (va_runV (As := [.int (iI what)]) (rest := []) ⟨hx, hb, hml, hown, hts⟩ (m_X3_wholeOf l o (svO (su st 6 0 (cdB 0 15 what)) u2) w0 _ what (h1) (hp29) (by omega) (by omega)) (cw_X3_wholeOf hts q2568 (Nat.le_of_ble_eq_true rfl) (Nat.le_of_ble_eq_true rfl)) (j_preV hV hH wM_o rfl) rfl rfl hl.1 rfl (lv_room (Nat.le_of_ble_eq_true rfl)) dX3_whole_34 ⟨Nat.le_of_ble_eq_true rfl, Nat.le_of_ble_eq_true rfl⟩) hH (fun H locs hH => ?_)
      refine j_top (b := whoV (st 0) what) rfl ?_
      exact hret u2 hH dX3_whole_37 (Nat.le_of_ble_eq_true rfl) (Nat.le_of_ble_eq_true rfl) ((by rw [if_pos (by omega)]))
    · refine j_iconst hx hb dX3_whole_26 ?_
      have hH : jH E s.heap (wM E o (svO (su st 6 0 (cdB 0 15 what)) (su st 6 0 (cdB 0 15 what))) w0) H locs := by rw [svO_self]; exact hH
      exact hret (su st 6 0 (cdB 0 15 what)) hH dX3_whole_27 (Nat.le_of_ble_eq_true rfl) (Nat.le_of_ble_eq_true rfl) ((by rw [if_neg (by omega)]))
  · refine j_iconst hx hb dX3_whole_11 ?_
    refine lv_goto (tgt := 16) hx hb dX3_whole_12 (by decide) ?_
    refine j_top (b := cdB 0 15 what) (by omega) ?_
    refine j_put hx hb hts hown hV hH wM_o rfl in_X3 tyX3 tyX3_ok nmX3 6 (Nat.le_of_ble_eq_true rfl) q2235 (fun _ h => h) rfl rfl rfl (Nat.le_of_ble_eq_true rfl) dX3_whole_16 (fun H locs hH => ?_)
    rw [wM_f6] at hH
    refine lv_aload_n hx hb dX3_whole_19 rfl (lv_at hl 0 rfl) ?_
    refine j_get hx hb hts hown hV hH wM_o rfl in_X3 6 (Nat.le_of_ble_eq_true rfl) q2235 (fun _ h => h) rfl dX3_whole_20 ?_
    refine j_top (b := cdB 0 15 what) rfl ?_
    refine j_if_eq (tgt := 28) hx hb dX3_whole_23 (by decide) (by omega) (fun c23 => ?_) (fun c23 => ?_)
    · refine lv_aload_n hx hb dX3_whole_28 rfl (lv_at hl 0 rfl) ?_
      refine j_callv (va_runV (As := []) (rest := []) ⟨hx, hb, hml, hown, hts⟩ (m_X3_survey l o (su st 6 0 (cdB 0 15 what)) w0 _ (h1)) (cw_X3_survey hts q2463 (Nat.le_of_ble_eq_true rfl) (Nat.le_of_ble_eq_true rfl)) (j_preV hV hH wM_o rfl) rfl rfl hl.1 rfl (lv_room (Nat.le_of_ble_eq_true rfl)) dX3_whole_29 ⟨Nat.le_of_ble_eq_true rfl, Nat.le_of_ble_eq_true rfl⟩) hH (fun u H locs hp hH => ?_)
      obtain ⟨u4, huu4⟩ : ∃ q, q = u := ⟨_, rfl⟩
      subst huu4
      have hH : jH E s.heap (wM E o (svO (su st 6 0 (cdB 0 15 what)) u4) w0) H locs := hH
      have hp29 : (fun u => SVC (svO (su st 6 0 (cdB 0 15 what)) u)) u4 := hp
      refine lv_aload_n hx hb dX3_whole_32 rfl (lv_at hl 0 rfl) ?_
      refine lv_iload_n hx hb dX3_whole_33 rfl (lv_at hl 1 rfl) ?_
      refine j_callif (va_runV (As := [.int (iI what)]) (rest := []) ⟨hx, hb, hml, hown, hts⟩ (m_X3_wholeOf l o (svO (su st 6 0 (cdB 0 15 what)) u4) w0 _ what (h1) (hp29) (by omega) (by omega)) (cw_X3_wholeOf hts q2568 (Nat.le_of_ble_eq_true rfl) (Nat.le_of_ble_eq_true rfl)) (j_preV hV hH wM_o rfl) rfl rfl hl.1 rfl (lv_room (Nat.le_of_ble_eq_true rfl)) dX3_whole_34 ⟨Nat.le_of_ble_eq_true rfl, Nat.le_of_ble_eq_true rfl⟩) hH (fun H locs hH => ?_)
      refine j_top (b := whoV (st 0) what) rfl ?_
      exact hret u4 hH dX3_whole_37 (Nat.le_of_ble_eq_true rfl) (Nat.le_of_ble_eq_true rfl) ((by rw [if_pos (by omega)]))
    · refine j_iconst hx hb dX3_whole_26 ?_
      have hH : jH E s.heap (wM E o (svO (su st 6 0 (cdB 0 15 what)) (su st 6 0 (cdB 0 15 what))) w0) H locs := by rw [svO_self]; exact hH
      exact hret (su st 6 0 (cdB 0 15 what)) hH dX3_whole_27 (Nat.le_of_ble_eq_true rfl) (Nat.le_of_ble_eq_true rfl) ((by rw [if_neg (by omega)]))
theorem cw_X3_shade {R : Room} {s : State} {args : Array Value} {own : String} {index lev mc ms : Nat} (hts : ∀ w ∈ lw_all, w.before args s = true) (hl : Cond.methodLink own index yX3_shade ∈ lw_all) (hR1 : (rmL lev mc ms).frames + 1 ≤ R.frames) (hR2 : 8 + (4 + 11) + (rmL lev mc ms).locals ≤ R.locals) : CallW R s args own RX3 index yX3_shade cX3_shade 4 (some .int) (ws_ yX3_shade cX3_shade 4 (some .int)) (rmL lev mc ms) mc ms 3 :=
  cwV 3 hts (lw_V hl q2573 q2574 q116 q2575) rfl rfl rfl (by decide +kernel) ⟨hR1, hR2⟩
set_option maxHeartbeats 4000000 in
theorem m_X3_shade {E : jE} (l : Launch) (o : Nat) (st : Ms) (w0 : Wl) (T : Int) (left : Prop) (col : Int) (row : Int) (h1 : PWF T (st 0)) (h2 : -2147483648 ≤ col ∧ col ≤ 2147483647) (h3 : -2147483648 ≤ row ∧ row ≤ 2147483647) : Met l yX3_shade (ws_ yX3_shade cX3_shade 4 (some .int)) (rmL 8 0 0) (va_Pc [.ref o, .int (iI (bI left)), .int (iI col), .int (iI row)] (jP E (wM E o st w0))) (jQi E (fun u : Ms => wM E o (svO (su st 6 0 (cdC (st 0) col row)) u) w0) (fun z u => z = if cdC (st 0) col row = 0 then shadO (st 0) left col row else 0)) 0 0 (jA E) := by
  refine j_metI (by decide) (Nat.le_of_ble_eq_true rfl) ?_
  intro p e s m args below meth c Q hx hb hml hown hnm hts hV hH hret ls hl
  have hl : lv_has ls 4 [(0, .ref o), (1, .int (iI (bI left))), (2, .int (iI col)), (3, .int (iI row))] := hl
  have hA := h1.A
  have hB := h1.B
  have hC := h1.C
  have hcd := cdC_or (st 0) col row
  refine lv_aload_n hx hb dX3_shade_0 rfl (lv_at hl 0 rfl) ?_
  refine lv_aload_n hx hb dX3_shade_1 rfl (lv_at hl 0 rfl) ?_
  refine lv_iload_n hx hb dX3_shade_2 rfl (lv_at hl 2 rfl) ?_
  refine lv_iload_n hx hb dX3_shade_3 rfl (lv_at hl 3 rfl) ?_
  refine j_callif (va_runV (As := [.int (iI col), .int (iI row)]) (rest := [.ref o]) ⟨hx, hb, hml, hown, hts⟩ (m_X3_isCell l o st w0 _ col row (h1) (by omega) (by omega)) (cw_X3_isCell hts q2576 (Nat.le_of_ble_eq_true rfl) (Nat.le_of_ble_eq_true rfl)) (j_preV hV hH wM_o rfl) rfl rfl hl.1 rfl (lv_room (Nat.le_of_ble_eq_true rfl)) dX3_shade_4 ⟨Nat.le_of_ble_eq_true rfl, Nat.le_of_ble_eq_true rfl⟩) hH (fun H locs hH => ?_)
  refine j_ifeq_b (tgt := 14) hx hb dX3_shade_7 (by decide) (fun c7 => ?_) (fun c7 => ?_)
  · refine j_iconst hx hb dX3_shade_14 ?_
    refine j_top (b := cdC (st 0) col row) (by omega) ?_
    refine j_put hx hb hts hown hV hH wM_o rfl in_X3 tyX3 tyX3_ok nmX3 6 (Nat.le_of_ble_eq_true rfl) q2235 (fun _ h => h) rfl rfl rfl (Nat.le_of_ble_eq_true rfl) dX3_shade_15 (fun H locs hH => ?_)
    rw [wM_f6] at hH
    refine lv_aload_n hx hb dX3_shade_18 rfl (lv_at hl 0 rfl) ?_
    refine j_get hx hb hts hown hV hH wM_o rfl in_X3 6 (Nat.le_of_ble_eq_true rfl) q2235 (fun _ h => h) rfl dX3_shade_19 ?_
    refine j_top (b := cdC (st 0) col row) rfl ?_
    refine j_if_eq (tgt := 27) hx hb dX3_shade_22 (by decide) (by omega) (fun c22 => ?_) (fun c22 => ?_)
    · refine lv_aload_n hx hb dX3_shade_27 rfl (lv_at hl 0 rfl) ?_
      refine j_callv (va_runV (As := []) (rest := []) ⟨hx, hb, hml, hown, hts⟩ (m_X3_survey l o (su st 6 0 (cdC (st 0) col row)) w0 _ (h1)) (cw_X3_survey hts q2463 (Nat.le_of_ble_eq_true rfl) (Nat.le_of_ble_eq_true rfl)) (j_preV hV hH wM_o rfl) rfl rfl hl.1 rfl (lv_room (Nat.le_of_ble_eq_true rfl)) dX3_shade_28 ⟨Nat.le_of_ble_eq_true rfl, Nat.le_of_ble_eq_true rfl⟩) hH (fun u H locs hp hH => ?_)
      obtain ⟨u2, huu2⟩ : ∃ q, q = u := ⟨_, rfl⟩
      subst huu2
      have hH : jH E s.heap (wM E o (svO (su st 6 0 (cdC (st 0) col row)) u2) w0) H locs := hH
      have hp28 : (fun u => SVC (svO (su st 6 0 (cdC (st 0) col row)) u)) u2 := hp
      refine lv_aload_n hx hb dX3_shade_31 rfl (lv_at hl 0 rfl) ?_
      refine lv_iload_n hx hb dX3_shade_32 rfl (lv_at hl 1 rfl) ?_
      refine lv_iload_n hx hb dX3_shade_33 rfl (lv_at hl 2 rfl) ?_
      refine lv_iload_n hx hb dX3_shade_34 rfl (lv_at hl 3 rfl) ?_
      refine j_callif (va_runV (As := [.int (iI (bI left)), .int (iI col), .int (iI row)]) (rest := []) ⟨hx, hb, hml, hown, hts⟩ (m_X3_shadeOf l o (svO (su st 6 0 (cdC (st 0) col row)) u2) w0 _ left col row (h1) (hp28) (by omega) (by omega)) (cw_X3_shadeOf hts q2580 (Nat.le_of_ble_eq_true rfl) (Nat.le_of_ble_eq_true rfl)) (j_preV hV hH wM_o rfl) rfl rfl hl.1 rfl (lv_room (Nat.le_of_ble_eq_true rfl)) dX3_shade_35 ⟨Nat.le_of_ble_eq_true rfl, Nat.le_of_ble_eq_true rfl⟩) hH (fun H locs hH => ?_)
      refine j_top (b := shadO (st 0) left col row) rfl ?_
      exact hret u2 hH dX3_shade_38 (Nat.le_of_ble_eq_true rfl) (Nat.le_of_ble_eq_true rfl) ((by rw [if_pos (by omega)]))
    · refine j_iconst hx hb dX3_shade_25 ?_
      have hH : jH E s.heap (wM E o (svO (su st 6 0 (cdC (st 0) col row)) (su st 6 0 (cdC (st 0) col row))) w0) H locs := by rw [svO_self]; exact hH
      exact hret (su st 6 0 (cdC (st 0) col row)) hH dX3_shade_26 (Nat.le_of_ble_eq_true rfl) (Nat.le_of_ble_eq_true rfl) ((by rw [if_neg (by omega)]))
  · refine j_iconst hx hb dX3_shade_10 ?_
    refine lv_goto (tgt := 15) hx hb dX3_shade_11 (by decide) ?_
    refine j_top (b := cdC (st 0) col row) (by omega) ?_
    refine j_put hx hb hts hown hV hH wM_o rfl in_X3 tyX3 tyX3_ok nmX3 6 (Nat.le_of_ble_eq_true rfl) q2235 (fun _ h => h) rfl rfl rfl (Nat.le_of_ble_eq_true rfl) dX3_shade_15 (fun H locs hH => ?_)
    rw [wM_f6] at hH
    refine lv_aload_n hx hb dX3_shade_18 rfl (lv_at hl 0 rfl) ?_
    refine j_get hx hb hts hown hV hH wM_o rfl in_X3 6 (Nat.le_of_ble_eq_true rfl) q2235 (fun _ h => h) rfl dX3_shade_19 ?_
    refine j_top (b := cdC (st 0) col row) rfl ?_
    refine j_if_eq (tgt := 27) hx hb dX3_shade_22 (by decide) (by omega) (fun c22 => ?_) (fun c22 => ?_)
    · refine lv_aload_n hx hb dX3_shade_27 rfl (lv_at hl 0 rfl) ?_
      refine j_callv (va_runV (As := []) (rest := []) ⟨hx, hb, hml, hown, hts⟩ (m_X3_survey l o (su st 6 0 (cdC (st 0) col row)) w0 _ (h1)) (cw_X3_survey hts q2463 (Nat.le_of_ble_eq_true rfl) (Nat.le_of_ble_eq_true rfl)) (j_preV hV hH wM_o rfl) rfl rfl hl.1 rfl (lv_room (Nat.le_of_ble_eq_true rfl)) dX3_shade_28 ⟨Nat.le_of_ble_eq_true rfl, Nat.le_of_ble_eq_true rfl⟩) hH (fun u H locs hp hH => ?_)
      obtain ⟨u4, huu4⟩ : ∃ q, q = u := ⟨_, rfl⟩
      subst huu4
      have hH : jH E s.heap (wM E o (svO (su st 6 0 (cdC (st 0) col row)) u4) w0) H locs := hH
      have hp28 : (fun u => SVC (svO (su st 6 0 (cdC (st 0) col row)) u)) u4 := hp
      refine lv_aload_n hx hb dX3_shade_31 rfl (lv_at hl 0 rfl) ?_
      refine lv_iload_n hx hb dX3_shade_32 rfl (lv_at hl 1 rfl) ?_
      refine lv_iload_n hx hb dX3_shade_33 rfl (lv_at hl 2 rfl) ?_
      refine lv_iload_n hx hb dX3_shade_34 rfl (lv_at hl 3 rfl) ?_
      refine j_callif (va_runV (As := [.int (iI (bI left)), .int (iI col), .int (iI row)]) (rest := []) ⟨hx, hb, hml, hown, hts⟩ (m_X3_shadeOf l o (svO (su st 6 0 (cdC (st 0) col row)) u4) w0 _ left col row (h1) (hp28) (by omega) (by omega)) (cw_X3_shadeOf hts q2580 (Nat.le_of_ble_eq_true rfl) (Nat.le_of_ble_eq_true rfl)) (j_preV hV hH wM_o rfl) rfl rfl hl.1 rfl (lv_room (Nat.le_of_ble_eq_true rfl)) dX3_shade_35 ⟨Nat.le_of_ble_eq_true rfl, Nat.le_of_ble_eq_true rfl⟩) hH (fun H locs hH => ?_)
      refine j_top (b := shadO (st 0) left col row) rfl ?_
      exact hret u4 hH dX3_shade_38 (Nat.le_of_ble_eq_true rfl) (Nat.le_of_ble_eq_true rfl) ((by rw [if_pos (by omega)]))
    · refine j_iconst hx hb dX3_shade_25 ?_
      have hH : jH E s.heap (wM E o (svO (su st 6 0 (cdC (st 0) col row)) (su st 6 0 (cdC (st 0) col row))) w0) H locs := by rw [svO_self]; exact hH
      exact hret (su st 6 0 (cdC (st 0) col row)) hH dX3_shade_26 (Nat.le_of_ble_eq_true rfl) (Nat.le_of_ble_eq_true rfl) ((by rw [if_neg (by omega)]))
theorem cw_X3_shown {R : Room} {s : State} {args : Array Value} {own : String} {index lev mc ms : Nat} (hts : ∀ w ∈ lw_all, w.before args s = true) (hl : Cond.methodLink own index yX3_shown ∈ lw_all) (hR1 : (rmL lev mc ms).frames + 1 ≤ R.frames) (hR2 : 8 + (4 + 11) + (rmL lev mc ms).locals ≤ R.locals) : CallW R s args own RX3 index yX3_shown cX3_shown 4 (some .int) (ws_ yX3_shown cX3_shown 4 (some .int)) (rmL lev mc ms) mc ms 3 :=
  cwV 3 hts (lw_V hl q2593 q2594 q116 q2595) rfl rfl rfl (by decide +kernel) ⟨hR1, hR2⟩
set_option maxHeartbeats 4000000 in
theorem m_X3_shown {E : jE} (l : Launch) (o : Nat) (st : Ms) (w0 : Wl) (T : Int) (left : Prop) (col : Int) (row : Int) (h1 : PWF T (st 0)) (h2 : -2147483648 ≤ col ∧ col ≤ 2147483647) (h3 : -2147483648 ≤ row ∧ row ≤ 2147483647) : Met l yX3_shown (ws_ yX3_shown cX3_shown 4 (some .int)) (rmL 8 0 0) (va_Pc [.ref o, .int (iI (bI left)), .int (iI col), .int (iI row)] (jP E (wM E o st w0))) (jQi E (fun u : Ms => wM E o (svO (su st 6 0 (cdC (st 0) col row)) u) w0) (fun z u => z = if cdC (st 0) col row = 0 then topO (st 0) left col row else 0)) 0 0 (jA E) := by
  refine j_metI (by decide) (Nat.le_of_ble_eq_true rfl) ?_
  intro p e s m args below meth c Q hx hb hml hown hnm hts hV hH hret ls hl
  have hl : lv_has ls 4 [(0, .ref o), (1, .int (iI (bI left))), (2, .int (iI col)), (3, .int (iI row))] := hl
  have hA := h1.A
  have hB := h1.B
  have hC := h1.C
  have hcd := cdC_or (st 0) col row
  refine lv_aload_n hx hb dX3_shown_0 rfl (lv_at hl 0 rfl) ?_
  refine lv_aload_n hx hb dX3_shown_1 rfl (lv_at hl 0 rfl) ?_
  refine lv_iload_n hx hb dX3_shown_2 rfl (lv_at hl 2 rfl) ?_
  refine lv_iload_n hx hb dX3_shown_3 rfl (lv_at hl 3 rfl) ?_
  refine j_callif (va_runV (As := [.int (iI col), .int (iI row)]) (rest := [.ref o]) ⟨hx, hb, hml, hown, hts⟩ (m_X3_isCell l o st w0 _ col row (h1) (by omega) (by omega)) (cw_X3_isCell hts q2576 (Nat.le_of_ble_eq_true rfl) (Nat.le_of_ble_eq_true rfl)) (j_preV hV hH wM_o rfl) rfl rfl hl.1 rfl (lv_room (Nat.le_of_ble_eq_true rfl)) dX3_shown_4 ⟨Nat.le_of_ble_eq_true rfl, Nat.le_of_ble_eq_true rfl⟩) hH (fun H locs hH => ?_)
  refine j_ifeq_b (tgt := 14) hx hb dX3_shown_7 (by decide) (fun c7 => ?_) (fun c7 => ?_)
  · refine j_iconst hx hb dX3_shown_14 ?_
    refine j_top (b := cdC (st 0) col row) (by omega) ?_
    refine j_put hx hb hts hown hV hH wM_o rfl in_X3 tyX3 tyX3_ok nmX3 6 (Nat.le_of_ble_eq_true rfl) q2235 (fun _ h => h) rfl rfl rfl (Nat.le_of_ble_eq_true rfl) dX3_shown_15 (fun H locs hH => ?_)
    rw [wM_f6] at hH
    refine lv_aload_n hx hb dX3_shown_18 rfl (lv_at hl 0 rfl) ?_
    refine j_get hx hb hts hown hV hH wM_o rfl in_X3 6 (Nat.le_of_ble_eq_true rfl) q2235 (fun _ h => h) rfl dX3_shown_19 ?_
    refine j_top (b := cdC (st 0) col row) rfl ?_
    refine j_if_eq (tgt := 27) hx hb dX3_shown_22 (by decide) (by omega) (fun c22 => ?_) (fun c22 => ?_)
    · refine lv_aload_n hx hb dX3_shown_27 rfl (lv_at hl 0 rfl) ?_
      refine j_callv (va_runV (As := []) (rest := []) ⟨hx, hb, hml, hown, hts⟩ (m_X3_survey l o (su st 6 0 (cdC (st 0) col row)) w0 _ (h1)) (cw_X3_survey hts q2463 (Nat.le_of_ble_eq_true rfl) (Nat.le_of_ble_eq_true rfl)) (j_preV hV hH wM_o rfl) rfl rfl hl.1 rfl (lv_room (Nat.le_of_ble_eq_true rfl)) dX3_shown_28 ⟨Nat.le_of_ble_eq_true rfl, Nat.le_of_ble_eq_true rfl⟩) hH (fun u H locs hp hH => ?_)
      obtain ⟨u2, huu2⟩ : ∃ q, q = u := ⟨_, rfl⟩
      subst huu2
      have hH : jH E s.heap (wM E o (svO (su st 6 0 (cdC (st 0) col row)) u2) w0) H locs := hH
      have hp28 : (fun u => SVC (svO (su st 6 0 (cdC (st 0) col row)) u)) u2 := hp
      refine lv_aload_n hx hb dX3_shown_31 rfl (lv_at hl 0 rfl) ?_
      refine lv_iload_n hx hb dX3_shown_32 rfl (lv_at hl 1 rfl) ?_
      refine lv_iload_n hx hb dX3_shown_33 rfl (lv_at hl 2 rfl) ?_
      refine lv_iload_n hx hb dX3_shown_34 rfl (lv_at hl 3 rfl) ?_
      refine j_callif (va_runV (As := [.int (iI (bI left)), .int (iI col), .int (iI row)]) (rest := []) ⟨hx, hb, hml, hown, hts⟩ (m_X3_top l o (svO (su st 6 0 (cdC (st 0) col row)) u2) w0 _ left col row (h1) (hp28) (by omega) (by omega)) (cw_X3_top hts q2584 (Nat.le_of_ble_eq_true rfl) (Nat.le_of_ble_eq_true rfl)) (j_preV hV hH wM_o rfl) rfl rfl hl.1 rfl (lv_room (Nat.le_of_ble_eq_true rfl)) dX3_shown_35 ⟨Nat.le_of_ble_eq_true rfl, Nat.le_of_ble_eq_true rfl⟩) hH (fun H locs hH => ?_)
      refine j_top (b := topO (st 0) left col row) rfl ?_
      exact hret u2 hH dX3_shown_38 (Nat.le_of_ble_eq_true rfl) (Nat.le_of_ble_eq_true rfl) ((by rw [if_pos (by omega)]))
    · refine j_iconst hx hb dX3_shown_25 ?_
      have hH : jH E s.heap (wM E o (svO (su st 6 0 (cdC (st 0) col row)) (su st 6 0 (cdC (st 0) col row))) w0) H locs := by rw [svO_self]; exact hH
      exact hret (su st 6 0 (cdC (st 0) col row)) hH dX3_shown_26 (Nat.le_of_ble_eq_true rfl) (Nat.le_of_ble_eq_true rfl) ((by rw [if_neg (by omega)]))
  · refine j_iconst hx hb dX3_shown_10 ?_
    refine lv_goto (tgt := 15) hx hb dX3_shown_11 (by decide) ?_
    refine j_top (b := cdC (st 0) col row) (by omega) ?_
    refine j_put hx hb hts hown hV hH wM_o rfl in_X3 tyX3 tyX3_ok nmX3 6 (Nat.le_of_ble_eq_true rfl) q2235 (fun _ h => h) rfl rfl rfl (Nat.le_of_ble_eq_true rfl) dX3_shown_15 (fun H locs hH => ?_)
    rw [wM_f6] at hH
    refine lv_aload_n hx hb dX3_shown_18 rfl (lv_at hl 0 rfl) ?_
    refine j_get hx hb hts hown hV hH wM_o rfl in_X3 6 (Nat.le_of_ble_eq_true rfl) q2235 (fun _ h => h) rfl dX3_shown_19 ?_
    refine j_top (b := cdC (st 0) col row) rfl ?_
    refine j_if_eq (tgt := 27) hx hb dX3_shown_22 (by decide) (by omega) (fun c22 => ?_) (fun c22 => ?_)
    · refine lv_aload_n hx hb dX3_shown_27 rfl (lv_at hl 0 rfl) ?_
      refine j_callv (va_runV (As := []) (rest := []) ⟨hx, hb, hml, hown, hts⟩ (m_X3_survey l o (su st 6 0 (cdC (st 0) col row)) w0 _ (h1)) (cw_X3_survey hts q2463 (Nat.le_of_ble_eq_true rfl) (Nat.le_of_ble_eq_true rfl)) (j_preV hV hH wM_o rfl) rfl rfl hl.1 rfl (lv_room (Nat.le_of_ble_eq_true rfl)) dX3_shown_28 ⟨Nat.le_of_ble_eq_true rfl, Nat.le_of_ble_eq_true rfl⟩) hH (fun u H locs hp hH => ?_)
      obtain ⟨u4, huu4⟩ : ∃ q, q = u := ⟨_, rfl⟩
      subst huu4
      have hH : jH E s.heap (wM E o (svO (su st 6 0 (cdC (st 0) col row)) u4) w0) H locs := hH
      have hp28 : (fun u => SVC (svO (su st 6 0 (cdC (st 0) col row)) u)) u4 := hp
      refine lv_aload_n hx hb dX3_shown_31 rfl (lv_at hl 0 rfl) ?_
      refine lv_iload_n hx hb dX3_shown_32 rfl (lv_at hl 1 rfl) ?_
      refine lv_iload_n hx hb dX3_shown_33 rfl (lv_at hl 2 rfl) ?_
      refine lv_iload_n hx hb dX3_shown_34 rfl (lv_at hl 3 rfl) ?_
      refine j_callif (va_runV (As := [.int (iI (bI left)), .int (iI col), .int (iI row)]) (rest := []) ⟨hx, hb, hml, hown, hts⟩ (m_X3_top l o (svO (su st 6 0 (cdC (st 0) col row)) u4) w0 _ left col row (h1) (hp28) (by omega) (by omega)) (cw_X3_top hts q2584 (Nat.le_of_ble_eq_true rfl) (Nat.le_of_ble_eq_true rfl)) (j_preV hV hH wM_o rfl) rfl rfl hl.1 rfl (lv_room (Nat.le_of_ble_eq_true rfl)) dX3_shown_35 ⟨Nat.le_of_ble_eq_true rfl, Nat.le_of_ble_eq_true rfl⟩) hH (fun H locs hH => ?_)
      refine j_top (b := topO (st 0) left col row) rfl ?_
      exact hret u4 hH dX3_shown_38 (Nat.le_of_ble_eq_true rfl) (Nat.le_of_ble_eq_true rfl) ((by rw [if_pos (by omega)]))
    · refine j_iconst hx hb dX3_shown_25 ?_
      have hH : jH E s.heap (wM E o (svO (su st 6 0 (cdC (st 0) col row)) (su st 6 0 (cdC (st 0) col row))) w0) H locs := by rw [svO_self]; exact hH
      exact hret (su st 6 0 (cdC (st 0) col row)) hH dX3_shown_26 (Nat.le_of_ble_eq_true rfl) (Nat.le_of_ble_eq_true rfl) ((by rw [if_neg (by omega)]))
theorem cw_X3_ghost {R : Room} {s : State} {args : Array Value} {own : String} {index lev mc ms : Nat} (hts : ∀ w ∈ lw_all, w.before args s = true) (hl : Cond.methodLink own index yX3_ghost ∈ lw_all) (hR1 : (rmL lev mc ms).frames + 1 ≤ R.frames) (hR2 : 8 + (3 + 11) + (rmL lev mc ms).locals ≤ R.locals) : CallW R s args own RX3 index yX3_ghost cX3_ghost 3 (some .int) (ws_ yX3_ghost cX3_ghost 3 (some .int)) (rmL lev mc ms) mc ms 2 :=
  cwV 2 hts (lw_V hl q2597 q2598 q116 q2599) rfl rfl rfl (by decide +kernel) ⟨hR1, hR2⟩
set_option maxHeartbeats 4000000 in
theorem m_X3_ghost {E : jE} (l : Launch) (o : Nat) (st : Ms) (w0 : Wl) (T : Int) (col : Int) (row : Int) (h1 : PWF T (st 0)) (h2 : -2147483648 ≤ col ∧ col ≤ 2147483647) (h3 : -2147483648 ≤ row ∧ row ≤ 2147483647) : Met l yX3_ghost (ws_ yX3_ghost cX3_ghost 3 (some .int)) (rmL 8 0 0) (va_Pc [.ref o, .int (iI col), .int (iI row)] (jP E (wM E o st w0))) (jQi E (fun u : Ms => wM E o (svO (su st 6 0 (cdC (st 0) col row)) u) w0) (fun z u => z = if cdC (st 0) col row = 0 then ghoO (st 0) col row else 0)) 0 0 (jA E) := by
  refine j_metI (by decide) (Nat.le_of_ble_eq_true rfl) ?_
  intro p e s m args below meth c Q hx hb hml hown hnm hts hV hH hret ls hl
  have hl : lv_has ls 3 [(0, .ref o), (1, .int (iI col)), (2, .int (iI row))] := hl
  have hA := h1.A
  have hB := h1.B
  have hC := h1.C
  have hcd := cdC_or (st 0) col row
  refine lv_aload_n hx hb dX3_ghost_0 rfl (lv_at hl 0 rfl) ?_
  refine lv_aload_n hx hb dX3_ghost_1 rfl (lv_at hl 0 rfl) ?_
  refine lv_iload_n hx hb dX3_ghost_2 rfl (lv_at hl 1 rfl) ?_
  refine lv_iload_n hx hb dX3_ghost_3 rfl (lv_at hl 2 rfl) ?_
  refine j_callif (va_runV (As := [.int (iI col), .int (iI row)]) (rest := [.ref o]) ⟨hx, hb, hml, hown, hts⟩ (m_X3_isCell l o st w0 _ col row (h1) (by omega) (by omega)) (cw_X3_isCell hts q2576 (Nat.le_of_ble_eq_true rfl) (Nat.le_of_ble_eq_true rfl)) (j_preV hV hH wM_o rfl) rfl rfl hl.1 rfl (lv_room (Nat.le_of_ble_eq_true rfl)) dX3_ghost_4 ⟨Nat.le_of_ble_eq_true rfl, Nat.le_of_ble_eq_true rfl⟩) hH (fun H locs hH => ?_)
  refine j_ifeq_b (tgt := 14) hx hb dX3_ghost_7 (by decide) (fun c7 => ?_) (fun c7 => ?_)
  · refine j_iconst hx hb dX3_ghost_14 ?_
    refine j_top (b := cdC (st 0) col row) (by omega) ?_
    refine j_put hx hb hts hown hV hH wM_o rfl in_X3 tyX3 tyX3_ok nmX3 6 (Nat.le_of_ble_eq_true rfl) q2235 (fun _ h => h) rfl rfl rfl (Nat.le_of_ble_eq_true rfl) dX3_ghost_15 (fun H locs hH => ?_)
    rw [wM_f6] at hH
    refine lv_aload_n hx hb dX3_ghost_18 rfl (lv_at hl 0 rfl) ?_
    refine j_get hx hb hts hown hV hH wM_o rfl in_X3 6 (Nat.le_of_ble_eq_true rfl) q2235 (fun _ h => h) rfl dX3_ghost_19 ?_
    refine j_top (b := cdC (st 0) col row) rfl ?_
    refine j_if_eq (tgt := 27) hx hb dX3_ghost_22 (by decide) (by omega) (fun c22 => ?_) (fun c22 => ?_)
    · refine lv_aload_n hx hb dX3_ghost_27 rfl (lv_at hl 0 rfl) ?_
      refine j_callv (va_runV (As := []) (rest := []) ⟨hx, hb, hml, hown, hts⟩ (m_X3_survey l o (su st 6 0 (cdC (st 0) col row)) w0 _ (h1)) (cw_X3_survey hts q2463 (Nat.le_of_ble_eq_true rfl) (Nat.le_of_ble_eq_true rfl)) (j_preV hV hH wM_o rfl) rfl rfl hl.1 rfl (lv_room (Nat.le_of_ble_eq_true rfl)) dX3_ghost_28 ⟨Nat.le_of_ble_eq_true rfl, Nat.le_of_ble_eq_true rfl⟩) hH (fun u H locs hp hH => ?_)
      obtain ⟨u2, huu2⟩ : ∃ q, q = u := ⟨_, rfl⟩
      subst huu2
      have hH : jH E s.heap (wM E o (svO (su st 6 0 (cdC (st 0) col row)) u2) w0) H locs := hH
      have hp28 : (fun u => SVC (svO (su st 6 0 (cdC (st 0) col row)) u)) u2 := hp
      refine lv_aload_n hx hb dX3_ghost_31 rfl (lv_at hl 0 rfl) ?_
      refine lv_iload_n hx hb dX3_ghost_32 rfl (lv_at hl 1 rfl) ?_
      refine lv_iload_n hx hb dX3_ghost_33 rfl (lv_at hl 2 rfl) ?_
      refine j_callif (va_runV (As := [.int (iI col), .int (iI row)]) (rest := []) ⟨hx, hb, hml, hown, hts⟩ (m_X3_ghostOf l o (svO (su st 6 0 (cdC (st 0) col row)) u2) w0 _ col row (h1) (hp28) (by omega) (by omega)) (cw_X3_ghostOf hts q2600 (Nat.le_of_ble_eq_true rfl) (Nat.le_of_ble_eq_true rfl)) (j_preV hV hH wM_o rfl) rfl rfl hl.1 rfl (lv_room (Nat.le_of_ble_eq_true rfl)) dX3_ghost_34 ⟨Nat.le_of_ble_eq_true rfl, Nat.le_of_ble_eq_true rfl⟩) hH (fun H locs hH => ?_)
      refine j_top (b := ghoO (st 0) col row) rfl ?_
      exact hret u2 hH dX3_ghost_37 (Nat.le_of_ble_eq_true rfl) (Nat.le_of_ble_eq_true rfl) ((by rw [if_pos (by omega)]))
    · refine j_iconst hx hb dX3_ghost_25 ?_
      have hH : jH E s.heap (wM E o (svO (su st 6 0 (cdC (st 0) col row)) (su st 6 0 (cdC (st 0) col row))) w0) H locs := by rw [svO_self]; exact hH
      exact hret (su st 6 0 (cdC (st 0) col row)) hH dX3_ghost_26 (Nat.le_of_ble_eq_true rfl) (Nat.le_of_ble_eq_true rfl) ((by rw [if_neg (by omega)]))
  · refine j_iconst hx hb dX3_ghost_10 ?_
    refine lv_goto (tgt := 15) hx hb dX3_ghost_11 (by decide) ?_
    refine j_top (b := cdC (st 0) col row) (by omega) ?_
    refine j_put hx hb hts hown hV hH wM_o rfl in_X3 tyX3 tyX3_ok nmX3 6 (Nat.le_of_ble_eq_true rfl) q2235 (fun _ h => h) rfl rfl rfl (Nat.le_of_ble_eq_true rfl) dX3_ghost_15 (fun H locs hH => ?_)
    rw [wM_f6] at hH
    refine lv_aload_n hx hb dX3_ghost_18 rfl (lv_at hl 0 rfl) ?_
    refine j_get hx hb hts hown hV hH wM_o rfl in_X3 6 (Nat.le_of_ble_eq_true rfl) q2235 (fun _ h => h) rfl dX3_ghost_19 ?_
    refine j_top (b := cdC (st 0) col row) rfl ?_
    refine j_if_eq (tgt := 27) hx hb dX3_ghost_22 (by decide) (by omega) (fun c22 => ?_) (fun c22 => ?_)
    · refine lv_aload_n hx hb dX3_ghost_27 rfl (lv_at hl 0 rfl) ?_
      refine j_callv (va_runV (As := []) (rest := []) ⟨hx, hb, hml, hown, hts⟩ (m_X3_survey l o (su st 6 0 (cdC (st 0) col row)) w0 _ (h1)) (cw_X3_survey hts q2463 (Nat.le_of_ble_eq_true rfl) (Nat.le_of_ble_eq_true rfl)) (j_preV hV hH wM_o rfl) rfl rfl hl.1 rfl (lv_room (Nat.le_of_ble_eq_true rfl)) dX3_ghost_28 ⟨Nat.le_of_ble_eq_true rfl, Nat.le_of_ble_eq_true rfl⟩) hH (fun u H locs hp hH => ?_)
      obtain ⟨u4, huu4⟩ : ∃ q, q = u := ⟨_, rfl⟩
      subst huu4
      have hH : jH E s.heap (wM E o (svO (su st 6 0 (cdC (st 0) col row)) u4) w0) H locs := hH
      have hp28 : (fun u => SVC (svO (su st 6 0 (cdC (st 0) col row)) u)) u4 := hp
      refine lv_aload_n hx hb dX3_ghost_31 rfl (lv_at hl 0 rfl) ?_
      refine lv_iload_n hx hb dX3_ghost_32 rfl (lv_at hl 1 rfl) ?_
      refine lv_iload_n hx hb dX3_ghost_33 rfl (lv_at hl 2 rfl) ?_
      refine j_callif (va_runV (As := [.int (iI col), .int (iI row)]) (rest := []) ⟨hx, hb, hml, hown, hts⟩ (m_X3_ghostOf l o (svO (su st 6 0 (cdC (st 0) col row)) u4) w0 _ col row (h1) (hp28) (by omega) (by omega)) (cw_X3_ghostOf hts q2600 (Nat.le_of_ble_eq_true rfl) (Nat.le_of_ble_eq_true rfl)) (j_preV hV hH wM_o rfl) rfl rfl hl.1 rfl (lv_room (Nat.le_of_ble_eq_true rfl)) dX3_ghost_34 ⟨Nat.le_of_ble_eq_true rfl, Nat.le_of_ble_eq_true rfl⟩) hH (fun H locs hH => ?_)
      refine j_top (b := ghoO (st 0) col row) rfl ?_
      exact hret u4 hH dX3_ghost_37 (Nat.le_of_ble_eq_true rfl) (Nat.le_of_ble_eq_true rfl) ((by rw [if_pos (by omega)]))
    · refine j_iconst hx hb dX3_ghost_25 ?_
      have hH : jH E s.heap (wM E o (svO (su st 6 0 (cdC (st 0) col row)) (su st 6 0 (cdC (st 0) col row))) w0) H locs := by rw [svO_self]; exact hH
      exact hret (su st 6 0 (cdC (st 0) col row)) hH dX3_ghost_26 (Nat.le_of_ble_eq_true rfl) (Nat.le_of_ble_eq_true rfl) ((by rw [if_neg (by omega)]))
theorem cw_X3_painted {R : Room} {s : State} {args : Array Value} {own : String} {index lev mc ms : Nat} (hts : ∀ w ∈ lw_all, w.before args s = true) (hl : Cond.methodLink own index yX3_painted ∈ lw_all) (hR1 : (rmL lev mc ms).frames + 1 ≤ R.frames) (hR2 : 8 + (2 + 11) + (rmL lev mc ms).locals ≤ R.locals) : CallW R s args own RX3 index yX3_painted cX3_painted 2 (some .int) (ws_ yX3_painted cX3_painted 2 (some .int)) (rmL lev mc ms) mc ms 1 :=
  cwV 1 hts (lw_V hl q2545 q2546 q116 q2547) rfl rfl rfl (by decide +kernel) ⟨hR1, hR2⟩
set_option maxHeartbeats 4000000 in
theorem m_X3_painted {E : jE} (l : Launch) (o : Nat) (st : Ms) (w0 : Wl) (T : Int) (k : Int) (h1 : PWF T (st 0)) (h2 : -2147483648 ≤ k ∧ k ≤ 2147483647) : Met l yX3_painted (ws_ yX3_painted cX3_painted 2 (some .int)) (rmL 8 0 0) (va_Pc [.ref o, .int (iI k)] (jP E (wM E o st w0))) (jQi E (fun u : Ms => wM E o (svO (su st 6 0 (cdP k)) u) w0) (fun z u => z = if cdP k = 0 then (if k < cntO (st 0) then ordO (st 0) k else -1000) else 0)) 0 0 (jA E) := by
  refine j_metI (by decide) (Nat.le_of_ble_eq_true rfl) ?_
  intro p e s m args below meth c Q hx hb hml hown hnm hts hV hH hret ls hl
  have hl : lv_has ls 2 [(0, .ref o), (1, .int (iI k))] := hl
  have hA := h1.A
  have hB := h1.B
  have hC := h1.C
  have hcd := cdP_or k
  refine lv_aload_n hx hb dX3_painted_0 rfl (lv_at hl 0 rfl) ?_
  refine lv_iload_n hx hb dX3_painted_1 rfl (lv_at hl 1 rfl) ?_
  refine j_if_ge (tgt := 9) hx hb dX3_painted_2 (by decide) (by omega) (fun c2 => ?_) (fun c2 => ?_)
  · refine j_iconst hx hb dX3_painted_9 ?_
    refine j_top (b := cdP k) (by omega) ?_
    refine j_put hx hb hts hown hV hH wM_o rfl in_X3 tyX3 tyX3_ok nmX3 6 (Nat.le_of_ble_eq_true rfl) q2235 (fun _ h => h) rfl rfl rfl (Nat.le_of_ble_eq_true rfl) dX3_painted_10 (fun H locs hH => ?_)
    rw [wM_f6] at hH
    refine lv_aload_n hx hb dX3_painted_13 rfl (lv_at hl 0 rfl) ?_
    refine j_get hx hb hts hown hV hH wM_o rfl in_X3 6 (Nat.le_of_ble_eq_true rfl) q2235 (fun _ h => h) rfl dX3_painted_14 ?_
    refine j_top (b := cdP k) rfl ?_
    refine j_if_eq (tgt := 22) hx hb dX3_painted_17 (by decide) (by omega) (fun c17 => ?_) (fun c17 => ?_)
    · refine lv_aload_n hx hb dX3_painted_22 rfl (lv_at hl 0 rfl) ?_
      refine j_callv (va_runV (As := []) (rest := []) ⟨hx, hb, hml, hown, hts⟩ (m_X3_survey l o (su st 6 0 (cdP k)) w0 _ (h1)) (cw_X3_survey hts q2463 (Nat.le_of_ble_eq_true rfl) (Nat.le_of_ble_eq_true rfl)) (j_preV hV hH wM_o rfl) rfl rfl hl.1 rfl (lv_room (Nat.le_of_ble_eq_true rfl)) dX3_painted_23 ⟨Nat.le_of_ble_eq_true rfl, Nat.le_of_ble_eq_true rfl⟩) hH (fun u H locs hp hH => ?_)
      obtain ⟨u2, huu2⟩ : ∃ q, q = u := ⟨_, rfl⟩
      subst huu2
      have hH : jH E s.heap (wM E o (svO (su st 6 0 (cdP k)) u2) w0) H locs := hH
      have hp23 : (fun u => SVC (svO (su st 6 0 (cdP k)) u)) u2 := hp
      refine lv_iload_n hx hb dX3_painted_26 rfl (lv_at hl 1 rfl) ?_
      refine lv_aload_n hx hb dX3_painted_27 rfl (lv_at hl 0 rfl) ?_
      refine j_get hx hb hts hown hV hH wM_o rfl in_X3 14 (Nat.le_of_ble_eq_true rfl) q2243 (fun _ h => h) rfl dX3_painted_28 ?_
      have hcn := cntO_b h1
      obtain ⟨hPL, hSH, hOR, hMK, hTI, hPC⟩ := id hp23
      refine j_top (b := cntO (st 0)) (hOR.1) ?_
      refine j_icmp_ge (tgt := 43) hx hb dX3_painted_31 (by decide) (by omega) (by omega) (fun c31 => ?_) (fun c31 => ?_)
      · refine j_sipush hx hb dX3_painted_43 (by decide) ?_
        exact hret u2 hH dX3_painted_46 (Nat.le_of_ble_eq_true rfl) (Nat.le_of_ble_eq_true rfl) ((by rw [if_pos (by omega)]; first | exact (if_pos c31).symm | exact (if_neg (by omega)).symm))
      · refine lv_aload_n hx hb dX3_painted_34 rfl (lv_at hl 0 rfl) ?_
        refine j_get hx hb hts hown hV hH wM_o rfl in_X3 13 (Nat.le_of_ble_eq_true rfl) q2242 (fun _ h => h) rfl dX3_painted_35 ?_
        refine lv_iload_n hx hb dX3_painted_38 rfl (lv_at hl 1 rfl) ?_
        refine j_iald (n := 20) hx hb hV hH wM_13 (by omega) (by omega) dX3_painted_39 ?_
        refine j_top (b := ordO (st 0) k) (hOR.2 k (by omega) c31) ?_
        refine lv_goto (tgt := 46) hx hb dX3_painted_40 (by decide) ?_
        exact hret u2 hH dX3_painted_46 (Nat.le_of_ble_eq_true rfl) (Nat.le_of_ble_eq_true rfl) ((by rw [if_pos (by omega)]; first | exact (if_pos c31).symm | exact (if_neg (by omega)).symm))
    · refine j_iconst hx hb dX3_painted_20 ?_
      have hH : jH E s.heap (wM E o (svO (su st 6 0 (cdP k)) (su st 6 0 (cdP k))) w0) H locs := by rw [svO_self]; exact hH
      exact hret (su st 6 0 (cdP k)) hH dX3_painted_21 (Nat.le_of_ble_eq_true rfl) (Nat.le_of_ble_eq_true rfl) ((by rw [if_neg (by omega)]))
  · refine j_iconst hx hb dX3_painted_5 ?_
    refine lv_goto (tgt := 10) hx hb dX3_painted_6 (by decide) ?_
    refine j_top (b := cdP k) (by omega) ?_
    refine j_put hx hb hts hown hV hH wM_o rfl in_X3 tyX3 tyX3_ok nmX3 6 (Nat.le_of_ble_eq_true rfl) q2235 (fun _ h => h) rfl rfl rfl (Nat.le_of_ble_eq_true rfl) dX3_painted_10 (fun H locs hH => ?_)
    rw [wM_f6] at hH
    refine lv_aload_n hx hb dX3_painted_13 rfl (lv_at hl 0 rfl) ?_
    refine j_get hx hb hts hown hV hH wM_o rfl in_X3 6 (Nat.le_of_ble_eq_true rfl) q2235 (fun _ h => h) rfl dX3_painted_14 ?_
    refine j_top (b := cdP k) rfl ?_
    refine j_if_eq (tgt := 22) hx hb dX3_painted_17 (by decide) (by omega) (fun c17 => ?_) (fun c17 => ?_)
    · refine lv_aload_n hx hb dX3_painted_22 rfl (lv_at hl 0 rfl) ?_
      refine j_callv (va_runV (As := []) (rest := []) ⟨hx, hb, hml, hown, hts⟩ (m_X3_survey l o (su st 6 0 (cdP k)) w0 _ (h1)) (cw_X3_survey hts q2463 (Nat.le_of_ble_eq_true rfl) (Nat.le_of_ble_eq_true rfl)) (j_preV hV hH wM_o rfl) rfl rfl hl.1 rfl (lv_room (Nat.le_of_ble_eq_true rfl)) dX3_painted_23 ⟨Nat.le_of_ble_eq_true rfl, Nat.le_of_ble_eq_true rfl⟩) hH (fun u H locs hp hH => ?_)
      obtain ⟨u4, huu4⟩ : ∃ q, q = u := ⟨_, rfl⟩
      subst huu4
      have hH : jH E s.heap (wM E o (svO (su st 6 0 (cdP k)) u4) w0) H locs := hH
      have hp23 : (fun u => SVC (svO (su st 6 0 (cdP k)) u)) u4 := hp
      refine lv_iload_n hx hb dX3_painted_26 rfl (lv_at hl 1 rfl) ?_
      refine lv_aload_n hx hb dX3_painted_27 rfl (lv_at hl 0 rfl) ?_
      refine j_get hx hb hts hown hV hH wM_o rfl in_X3 14 (Nat.le_of_ble_eq_true rfl) q2243 (fun _ h => h) rfl dX3_painted_28 ?_
      have hcn := cntO_b h1
      obtain ⟨hPL, hSH, hOR, hMK, hTI, hPC⟩ := id hp23
      refine j_top (b := cntO (st 0)) (hOR.1) ?_
      refine j_icmp_ge (tgt := 43) hx hb dX3_painted_31 (by decide) (by omega) (by omega) (fun c31 => ?_) (fun c31 => ?_)
      · refine j_sipush hx hb dX3_painted_43 (by decide) ?_
        exact hret u4 hH dX3_painted_46 (Nat.le_of_ble_eq_true rfl) (Nat.le_of_ble_eq_true rfl) ((by rw [if_pos (by omega)]; first | exact (if_pos c31).symm | exact (if_neg (by omega)).symm))
      · refine lv_aload_n hx hb dX3_painted_34 rfl (lv_at hl 0 rfl) ?_
        refine j_get hx hb hts hown hV hH wM_o rfl in_X3 13 (Nat.le_of_ble_eq_true rfl) q2242 (fun _ h => h) rfl dX3_painted_35 ?_
        refine lv_iload_n hx hb dX3_painted_38 rfl (lv_at hl 1 rfl) ?_
        refine j_iald (n := 20) hx hb hV hH wM_13 (by omega) (by omega) dX3_painted_39 ?_
        refine j_top (b := ordO (st 0) k) (hOR.2 k (by omega) c31) ?_
        refine lv_goto (tgt := 46) hx hb dX3_painted_40 (by decide) ?_
        exact hret u4 hH dX3_painted_46 (Nat.le_of_ble_eq_true rfl) (Nat.le_of_ble_eq_true rfl) ((by rw [if_pos (by omega)]; first | exact (if_pos c31).symm | exact (if_neg (by omega)).symm))
    · refine j_iconst hx hb dX3_painted_20 ?_
      have hH : jH E s.heap (wM E o (svO (su st 6 0 (cdP k)) (su st 6 0 (cdP k))) w0) H locs := by rw [svO_self]; exact hH
      exact hret (su st 6 0 (cdP k)) hH dX3_painted_21 (Nat.le_of_ble_eq_true rfl) (Nat.le_of_ble_eq_true rfl) ((by rw [if_neg (by omega)]))
theorem cw_X3_ghosts {R : Room} {s : State} {args : Array Value} {own : String} {index lev mc ms : Nat} (hts : ∀ w ∈ lw_all, w.before args s = true) (hl : Cond.methodLink own index yX3_ghosts ∈ lw_all) (hR1 : (rmL lev mc ms).frames + 1 ≤ R.frames) (hR2 : 8 + (2 + 11) + (rmL lev mc ms).locals ≤ R.locals) : CallW R s args own RX3 index yX3_ghosts cX3_ghosts 2 (some .int) (ws_ yX3_ghosts cX3_ghosts 2 (some .int)) (rmL lev mc ms) mc ms 1 :=
  cwV 1 hts (lw_V hl q2605 q2606 q116 q2607) rfl rfl rfl (by decide +kernel) ⟨hR1, hR2⟩
set_option maxHeartbeats 4000000 in
theorem m_X3_ghosts {E : jE} (l : Launch) (o : Nat) (st : Ms) (w0 : Wl) (T : Int) (least : Int) (h1 : PWF T (st 0)) (h2 : -2147483648 ≤ least ∧ least ≤ 2147483647) : Met l yX3_ghosts (ws_ yX3_ghosts cX3_ghosts 2 (some .int)) (rmL 9 0 0) (va_Pc [.ref o, .int (iI least)] (jP E (wM E o st w0))) (jQi E (fun u : Ms => wM E o (svO (su st 6 0 (cdB 1 15 least)) u) w0) (fun z u => z = if cdB 1 15 least = 0 then ghsO (st 0) least else 0)) 0 0 (jA E) := by
  refine j_metI (by decide) (Nat.le_of_ble_eq_true rfl) ?_
  intro p e s m args below meth c Q hx hb hml hown hnm hts hV hH hret ls hl
  have hl : lv_has ls 2 [(0, .ref o), (1, .int (iI least))] := hl
  have hA := h1.A
  have hB := h1.B
  have hC := h1.C
  have hcd := cdB_or 1 15 least
  refine lv_aload_n hx hb dX3_ghosts_0 rfl (lv_at hl 0 rfl) ?_
  refine lv_iload_n hx hb dX3_ghosts_1 rfl (lv_at hl 1 rfl) ?_
  refine j_iconst hx hb dX3_ghosts_2 ?_
  refine j_bipush hx hb dX3_ghosts_3 (by decide) ?_
  refine j_callip (va_runS (As := [.int (iI least), .int (iI 1), .int (iI 15)]) (rest := [.ref o]) ⟨hx, hb, hml, hown, hts⟩ (m_X3_in l _ least 1 15 (by omega) (by omega) (by omega)) (cw_X3_in hts q2313 (Nat.le_of_ble_eq_true rfl) (Nat.le_of_ble_eq_true rfl)) (j_preS hV hH) rfl rfl hl.1 rfl (lv_room (Nat.le_of_ble_eq_true rfl)) dX3_ghosts_5 ⟨Nat.le_of_ble_eq_true rfl, Nat.le_of_ble_eq_true rfl⟩) hH (fun H locs hH => ?_)
  refine j_ifeq_b (tgt := 15) hx hb dX3_ghosts_8 (by decide) (fun c8 => ?_) (fun c8 => ?_)
  · refine j_iconst hx hb dX3_ghosts_15 ?_
    refine j_top (b := cdB 1 15 least) (by omega) ?_
    refine j_put hx hb hts hown hV hH wM_o rfl in_X3 tyX3 tyX3_ok nmX3 6 (Nat.le_of_ble_eq_true rfl) q2235 (fun _ h => h) rfl rfl rfl (Nat.le_of_ble_eq_true rfl) dX3_ghosts_16 (fun H locs hH => ?_)
    rw [wM_f6] at hH
    refine lv_aload_n hx hb dX3_ghosts_19 rfl (lv_at hl 0 rfl) ?_
    refine j_get hx hb hts hown hV hH wM_o rfl in_X3 6 (Nat.le_of_ble_eq_true rfl) q2235 (fun _ h => h) rfl dX3_ghosts_20 ?_
    refine j_top (b := cdB 1 15 least) rfl ?_
    refine j_if_eq (tgt := 30) hx hb dX3_ghosts_23 (by decide) (by omega) (fun c23 => ?_) (fun c23 => ?_)
    · refine lv_aload_n hx hb dX3_ghosts_30 rfl (lv_at hl 0 rfl) ?_
      refine lv_iload_n hx hb dX3_ghosts_31 rfl (lv_at hl 1 rfl) ?_
      refine j_calli (va_runV (As := [.int (iI least)]) (rest := []) ⟨hx, hb, hml, hown, hts⟩ (m_X3_ghostsNow l o (su st 6 0 (cdB 1 15 least)) w0 _ least (h1) (by omega)) (cw_X3_ghostsNow hts q2608 (Nat.le_of_ble_eq_true rfl) (Nat.le_of_ble_eq_true rfl)) (j_preV hV hH wM_o rfl) rfl rfl hl.1 rfl (lv_room (Nat.le_of_ble_eq_true rfl)) dX3_ghosts_32 ⟨Nat.le_of_ble_eq_true rfl, Nat.le_of_ble_eq_true rfl⟩) hH (fun z u H locs hp hH => ?_)
      obtain ⟨z1, hzz1⟩ : ∃ q, q = z := ⟨_, rfl⟩
      subst hzz1
      obtain ⟨u2, huu2⟩ : ∃ q, q = u := ⟨_, rfl⟩
      subst huu2
      have hH : jH E s.heap (wM E o (svO (su st 6 0 (cdB 1 15 least)) u2) w0) H locs := hH
      have hp32 : (fun z u => z = ghsO (st 0) least) z1 u2 := hp
      exact hret u2 hH dX3_ghosts_35 (Nat.le_of_ble_eq_true rfl) (Nat.le_of_ble_eq_true rfl) ((by first | (rw [if_pos (by omega)]; exact hp32) | (rw [if_neg (by omega)])))
    · have hH : jH E s.heap (wM E o (svO ((su st 6 0 (cdB 1 15 least))) ((su st 6 0 (cdB 1 15 least)))) w0) H locs := by rw [svO_self]; exact hH
      refine j_iconst hx hb dX3_ghosts_26 ?_
      refine lv_goto (tgt := 35) hx hb dX3_ghosts_27 (by decide) ?_
      exact hret (su st 6 0 (cdB 1 15 least)) hH dX3_ghosts_35 (Nat.le_of_ble_eq_true rfl) (Nat.le_of_ble_eq_true rfl) ((by first | (rw [if_pos (by omega)]; exact hp32) | (rw [if_neg (by omega)])))
  · refine j_iconst hx hb dX3_ghosts_11 ?_
    refine lv_goto (tgt := 16) hx hb dX3_ghosts_12 (by decide) ?_
    refine j_top (b := cdB 1 15 least) (by omega) ?_
    refine j_put hx hb hts hown hV hH wM_o rfl in_X3 tyX3 tyX3_ok nmX3 6 (Nat.le_of_ble_eq_true rfl) q2235 (fun _ h => h) rfl rfl rfl (Nat.le_of_ble_eq_true rfl) dX3_ghosts_16 (fun H locs hH => ?_)
    rw [wM_f6] at hH
    refine lv_aload_n hx hb dX3_ghosts_19 rfl (lv_at hl 0 rfl) ?_
    refine j_get hx hb hts hown hV hH wM_o rfl in_X3 6 (Nat.le_of_ble_eq_true rfl) q2235 (fun _ h => h) rfl dX3_ghosts_20 ?_
    refine j_top (b := cdB 1 15 least) rfl ?_
    refine j_if_eq (tgt := 30) hx hb dX3_ghosts_23 (by decide) (by omega) (fun c23 => ?_) (fun c23 => ?_)
    · refine lv_aload_n hx hb dX3_ghosts_30 rfl (lv_at hl 0 rfl) ?_
      refine lv_iload_n hx hb dX3_ghosts_31 rfl (lv_at hl 1 rfl) ?_
      refine j_calli (va_runV (As := [.int (iI least)]) (rest := []) ⟨hx, hb, hml, hown, hts⟩ (m_X3_ghostsNow l o (su st 6 0 (cdB 1 15 least)) w0 _ least (h1) (by omega)) (cw_X3_ghostsNow hts q2608 (Nat.le_of_ble_eq_true rfl) (Nat.le_of_ble_eq_true rfl)) (j_preV hV hH wM_o rfl) rfl rfl hl.1 rfl (lv_room (Nat.le_of_ble_eq_true rfl)) dX3_ghosts_32 ⟨Nat.le_of_ble_eq_true rfl, Nat.le_of_ble_eq_true rfl⟩) hH (fun z u H locs hp hH => ?_)
      obtain ⟨z3, hzz3⟩ : ∃ q, q = z := ⟨_, rfl⟩
      subst hzz3
      obtain ⟨u4, huu4⟩ : ∃ q, q = u := ⟨_, rfl⟩
      subst huu4
      have hH : jH E s.heap (wM E o (svO (su st 6 0 (cdB 1 15 least)) u4) w0) H locs := hH
      have hp32 : (fun z u => z = ghsO (st 0) least) z3 u4 := hp
      exact hret u4 hH dX3_ghosts_35 (Nat.le_of_ble_eq_true rfl) (Nat.le_of_ble_eq_true rfl) ((by first | (rw [if_pos (by omega)]; exact hp32) | (rw [if_neg (by omega)])))
    · have hH : jH E s.heap (wM E o (svO ((su st 6 0 (cdB 1 15 least))) ((su st 6 0 (cdB 1 15 least)))) w0) H locs := by rw [svO_self]; exact hH
      refine j_iconst hx hb dX3_ghosts_26 ?_
      refine lv_goto (tgt := 35) hx hb dX3_ghosts_27 (by decide) ?_
      exact hret (su st 6 0 (cdB 1 15 least)) hH dX3_ghosts_35 (Nat.le_of_ble_eq_true rfl) (Nat.le_of_ble_eq_true rfl) ((by first | (rw [if_pos (by omega)]; exact hp32) | (rw [if_neg (by omega)])))
theorem cw_X3_scene {R : Room} {s : State} {args : Array Value} {own : String} {index lev mc ms : Nat} (hts : ∀ w ∈ lw_all, w.before args s = true) (hl : Cond.methodLink own index yX3_scene ∈ lw_all) (hR1 : (rmL lev mc ms).frames + 1 ≤ R.frames) (hR2 : 8 + (3 + 11) + (rmL lev mc ms).locals ≤ R.locals) : CallW R s args own RX3 index yX3_scene cX3_scene 3 (some .int) (ws_ yX3_scene cX3_scene 3 (some .int)) (rmL lev mc ms) mc ms 2 :=
  cwV 2 hts (lw_V hl q2549 q2550 q116 q2551) rfl rfl rfl (by decide +kernel) ⟨hR1, hR2⟩
set_option maxHeartbeats 4000000 in
theorem m_X3_scene {E : jE} (l : Launch) (o : Nat) (st : Ms) (w0 : Wl) (T : Int) (n : Int) (what : Int) (h1 : PWF T (st 0)) (h2 : -2147483648 ≤ n ∧ n ≤ 2147483647) (h3 : -2147483648 ≤ what ∧ what ≤ 2147483647) : Met l yX3_scene (ws_ yX3_scene cX3_scene 3 (some .int)) (rmL 3 0 0) (va_Pc [.ref o, .int (iI n), .int (iI what)] (jP E (wM E o st w0))) (jQi E (fun u : Ms => wM E o (svO (su st 6 0 (cdS (st 0) n what)) u) w0) (fun z u => z = if cdS (st 0) n what = 0 then scnV (st 0) n what else 0)) 0 0 (jA E) := by
  refine j_metI (by decide) (Nat.le_of_ble_eq_true rfl) ?_
  intro p e s m args below meth c Q hx hb hml hown hnm hts hV hH hret ls hl
  have hl : lv_has ls 3 [(0, .ref o), (1, .int (iI n)), (2, .int (iI what))] := hl
  have hA := h1.A
  have hB := h1.B
  have hC := h1.C
  have hcd := cdS_or (st 0) n what
  refine lv_aload_n hx hb dX3_scene_0 rfl (lv_at hl 0 rfl) ?_
  refine lv_iload_n hx hb dX3_scene_1 rfl (lv_at hl 1 rfl) ?_
  refine j_iconst hx hb dX3_scene_2 ?_
  refine lv_aload_n hx hb dX3_scene_3 rfl (lv_at hl 0 rfl) ?_
  refine j_get hx hb hts hown hV hH wM_o rfl in_X3 0 (Nat.le_of_ble_eq_true rfl) q2229 (fun _ h => h) rfl dX3_scene_4 ?_
  refine j_iconst hx hb dX3_scene_7 ?_
  refine j_iald (n := 198) hx hb hV hH wM_0 (by omega) (by omega) dX3_scene_8 ?_
  refine j_iconst hx hb dX3_scene_9 ?_
  refine j_isub hx hb dX3_scene_10 ?_
  refine j_callip (va_runS (As := [.int (iI n), .int (iI 0), .int (iI ((st 0 3) - 1))]) (rest := [.ref o]) ⟨hx, hb, hml, hown, hts⟩ (m_X3_in l _ n 0 ((st 0 3) - 1) (by omega) (by omega) (by omega)) (cw_X3_in hts q2313 (Nat.le_of_ble_eq_true rfl) (Nat.le_of_ble_eq_true rfl)) (j_preS hV hH) rfl rfl hl.1 rfl (lv_room (Nat.le_of_ble_eq_true rfl)) dX3_scene_11 ⟨Nat.le_of_ble_eq_true rfl, Nat.le_of_ble_eq_true rfl⟩) hH (fun H locs hH => ?_)
  refine j_ifne_b (tgt := 21) hx hb dX3_scene_14 (by decide) (fun c14 => ?_) (fun c14 => ?_)
  · refine lv_iload_n hx hb dX3_scene_21 rfl (lv_at hl 2 rfl) ?_
    refine j_iconst hx hb dX3_scene_22 ?_
    refine j_iconst hx hb dX3_scene_23 ?_
    refine j_callip (va_runS (As := [.int (iI what), .int (iI 0), .int (iI 3)]) (rest := [.ref o]) ⟨hx, hb, hml, hown, hts⟩ (m_X3_in l _ what 0 3 (by omega) (by omega) (by omega)) (cw_X3_in hts q2313 (Nat.le_of_ble_eq_true rfl) (Nat.le_of_ble_eq_true rfl)) (j_preS hV hH) rfl rfl hl.1 rfl (lv_room (Nat.le_of_ble_eq_true rfl)) dX3_scene_24 ⟨Nat.le_of_ble_eq_true rfl, Nat.le_of_ble_eq_true rfl⟩) hH (fun H locs hH => ?_)
    refine j_ifeq_b (tgt := 34) hx hb dX3_scene_27 (by decide) (fun c27 => ?_) (fun c27 => ?_)
    · refine j_iconst hx hb dX3_scene_34 ?_
      refine j_top (b := cdS (st 0) n what) (by omega) ?_
      refine j_put hx hb hts hown hV hH wM_o rfl in_X3 tyX3 tyX3_ok nmX3 6 (Nat.le_of_ble_eq_true rfl) q2235 (fun _ h => h) rfl rfl rfl (Nat.le_of_ble_eq_true rfl) dX3_scene_35 (fun H locs hH => ?_)
      rw [wM_f6] at hH
      refine lv_aload_n hx hb dX3_scene_38 rfl (lv_at hl 0 rfl) ?_
      refine j_get hx hb hts hown hV hH wM_o rfl in_X3 6 (Nat.le_of_ble_eq_true rfl) q2235 (fun _ h => h) rfl dX3_scene_39 ?_
      refine j_top (b := cdS (st 0) n what) rfl ?_
      refine j_if_eq (tgt := 49) hx hb dX3_scene_42 (by decide) (by omega) (fun c42 => ?_) (fun c42 => ?_)
      · refine lv_aload_n hx hb dX3_scene_49 rfl (lv_at hl 0 rfl) ?_
        refine lv_iload_n hx hb dX3_scene_50 rfl (lv_at hl 1 rfl) ?_
        refine lv_iload_n hx hb dX3_scene_51 rfl (lv_at hl 2 rfl) ?_
        refine j_callif (va_runV (As := [.int (iI n), .int (iI what)]) (rest := []) ⟨hx, hb, hml, hown, hts⟩ (m_X3_sceneOf l o (su st 6 0 (cdS (st 0) n what)) w0 _ n what (h1) (by omega) (show n < st 0 3 by omega) (by omega)) (cw_X3_sceneOf hts q2552 (Nat.le_of_ble_eq_true rfl) (Nat.le_of_ble_eq_true rfl)) (j_preV hV hH wM_o rfl) rfl rfl hl.1 rfl (lv_room (Nat.le_of_ble_eq_true rfl)) dX3_scene_52 ⟨Nat.le_of_ble_eq_true rfl, Nat.le_of_ble_eq_true rfl⟩) hH (fun H locs hH => ?_)
        refine j_top (b := scnV (st 0) n what) rfl ?_
        have hH : jH E s.heap (wM E o (svO ((su st 6 0 (cdS (st 0) n what))) ((su st 6 0 (cdS (st 0) n what)))) w0) H locs := by rw [svO_self]; exact hH
        exact hret (su st 6 0 (cdS (st 0) n what)) hH dX3_scene_55 (Nat.le_of_ble_eq_true rfl) (Nat.le_of_ble_eq_true rfl) ((by first | (rw [if_pos (by omega)]; done) | (rw [if_neg (by omega)])))
      · refine j_iconst hx hb dX3_scene_45 ?_
        refine lv_goto (tgt := 55) hx hb dX3_scene_46 (by decide) ?_
        have hH : jH E s.heap (wM E o (svO ((su st 6 0 (cdS (st 0) n what))) ((su st 6 0 (cdS (st 0) n what)))) w0) H locs := by rw [svO_self]; exact hH
        exact hret (su st 6 0 (cdS (st 0) n what)) hH dX3_scene_55 (Nat.le_of_ble_eq_true rfl) (Nat.le_of_ble_eq_true rfl) ((by first | (rw [if_pos (by omega)]; done) | (rw [if_neg (by omega)])))
    · refine j_iconst hx hb dX3_scene_30 ?_
      refine lv_goto (tgt := 35) hx hb dX3_scene_31 (by decide) ?_
      refine j_top (b := cdS (st 0) n what) (by omega) ?_
      refine j_put hx hb hts hown hV hH wM_o rfl in_X3 tyX3 tyX3_ok nmX3 6 (Nat.le_of_ble_eq_true rfl) q2235 (fun _ h => h) rfl rfl rfl (Nat.le_of_ble_eq_true rfl) dX3_scene_35 (fun H locs hH => ?_)
      rw [wM_f6] at hH
      refine lv_aload_n hx hb dX3_scene_38 rfl (lv_at hl 0 rfl) ?_
      refine j_get hx hb hts hown hV hH wM_o rfl in_X3 6 (Nat.le_of_ble_eq_true rfl) q2235 (fun _ h => h) rfl dX3_scene_39 ?_
      refine j_top (b := cdS (st 0) n what) rfl ?_
      refine j_if_eq (tgt := 49) hx hb dX3_scene_42 (by decide) (by omega) (fun c42 => ?_) (fun c42 => ?_)
      · refine lv_aload_n hx hb dX3_scene_49 rfl (lv_at hl 0 rfl) ?_
        refine lv_iload_n hx hb dX3_scene_50 rfl (lv_at hl 1 rfl) ?_
        refine lv_iload_n hx hb dX3_scene_51 rfl (lv_at hl 2 rfl) ?_
        refine j_callif (va_runV (As := [.int (iI n), .int (iI what)]) (rest := []) ⟨hx, hb, hml, hown, hts⟩ (m_X3_sceneOf l o (su st 6 0 (cdS (st 0) n what)) w0 _ n what (h1) (by omega) (show n < st 0 3 by omega) (by omega)) (cw_X3_sceneOf hts q2552 (Nat.le_of_ble_eq_true rfl) (Nat.le_of_ble_eq_true rfl)) (j_preV hV hH wM_o rfl) rfl rfl hl.1 rfl (lv_room (Nat.le_of_ble_eq_true rfl)) dX3_scene_52 ⟨Nat.le_of_ble_eq_true rfl, Nat.le_of_ble_eq_true rfl⟩) hH (fun H locs hH => ?_)
        refine j_top (b := scnV (st 0) n what) rfl ?_
        have hH : jH E s.heap (wM E o (svO ((su st 6 0 (cdS (st 0) n what))) ((su st 6 0 (cdS (st 0) n what)))) w0) H locs := by rw [svO_self]; exact hH
        exact hret (su st 6 0 (cdS (st 0) n what)) hH dX3_scene_55 (Nat.le_of_ble_eq_true rfl) (Nat.le_of_ble_eq_true rfl) ((by first | (rw [if_pos (by omega)]; done) | (rw [if_neg (by omega)])))
      · refine j_iconst hx hb dX3_scene_45 ?_
        refine lv_goto (tgt := 55) hx hb dX3_scene_46 (by decide) ?_
        have hH : jH E s.heap (wM E o (svO ((su st 6 0 (cdS (st 0) n what))) ((su st 6 0 (cdS (st 0) n what)))) w0) H locs := by rw [svO_self]; exact hH
        exact hret (su st 6 0 (cdS (st 0) n what)) hH dX3_scene_55 (Nat.le_of_ble_eq_true rfl) (Nat.le_of_ble_eq_true rfl) ((by first | (rw [if_pos (by omega)]; done) | (rw [if_neg (by omega)])))
  · refine j_iconst hx hb dX3_scene_17 ?_
    refine lv_goto (tgt := 35) hx hb dX3_scene_18 (by decide) ?_
    refine j_top (b := cdS (st 0) n what) (by omega) ?_
    refine j_put hx hb hts hown hV hH wM_o rfl in_X3 tyX3 tyX3_ok nmX3 6 (Nat.le_of_ble_eq_true rfl) q2235 (fun _ h => h) rfl rfl rfl (Nat.le_of_ble_eq_true rfl) dX3_scene_35 (fun H locs hH => ?_)
    rw [wM_f6] at hH
    refine lv_aload_n hx hb dX3_scene_38 rfl (lv_at hl 0 rfl) ?_
    refine j_get hx hb hts hown hV hH wM_o rfl in_X3 6 (Nat.le_of_ble_eq_true rfl) q2235 (fun _ h => h) rfl dX3_scene_39 ?_
    refine j_top (b := cdS (st 0) n what) rfl ?_
    refine j_if_eq (tgt := 49) hx hb dX3_scene_42 (by decide) (by omega) (fun c42 => ?_) (fun c42 => ?_)
    · refine lv_aload_n hx hb dX3_scene_49 rfl (lv_at hl 0 rfl) ?_
      refine lv_iload_n hx hb dX3_scene_50 rfl (lv_at hl 1 rfl) ?_
      refine lv_iload_n hx hb dX3_scene_51 rfl (lv_at hl 2 rfl) ?_
      refine j_callif (va_runV (As := [.int (iI n), .int (iI what)]) (rest := []) ⟨hx, hb, hml, hown, hts⟩ (m_X3_sceneOf l o (su st 6 0 (cdS (st 0) n what)) w0 _ n what (h1) (by omega) (show n < st 0 3 by omega) (by omega)) (cw_X3_sceneOf hts q2552 (Nat.le_of_ble_eq_true rfl) (Nat.le_of_ble_eq_true rfl)) (j_preV hV hH wM_o rfl) rfl rfl hl.1 rfl (lv_room (Nat.le_of_ble_eq_true rfl)) dX3_scene_52 ⟨Nat.le_of_ble_eq_true rfl, Nat.le_of_ble_eq_true rfl⟩) hH (fun H locs hH => ?_)
      refine j_top (b := scnV (st 0) n what) rfl ?_
      have hH : jH E s.heap (wM E o (svO ((su st 6 0 (cdS (st 0) n what))) ((su st 6 0 (cdS (st 0) n what)))) w0) H locs := by rw [svO_self]; exact hH
      exact hret (su st 6 0 (cdS (st 0) n what)) hH dX3_scene_55 (Nat.le_of_ble_eq_true rfl) (Nat.le_of_ble_eq_true rfl) ((by first | (rw [if_pos (by omega)]; done) | (rw [if_neg (by omega)])))
    · refine j_iconst hx hb dX3_scene_45 ?_
      refine lv_goto (tgt := 55) hx hb dX3_scene_46 (by decide) ?_
      have hH : jH E s.heap (wM E o (svO ((su st 6 0 (cdS (st 0) n what))) ((su st 6 0 (cdS (st 0) n what)))) w0) H locs := by rw [svO_self]; exact hH
      exact hret (su st 6 0 (cdS (st 0) n what)) hH dX3_scene_55 (Nat.le_of_ble_eq_true rfl) (Nat.le_of_ble_eq_true rfl) ((by first | (rw [if_pos (by omega)]; done) | (rw [if_neg (by omega)])))
