/-! THE REFERENCE's METHODS: the public writers -/
set_option maxRecDepth 100000
theorem cw_X3_notAdd {R : Room} {s : State} {args : Array Value} {own : String} {index lev mc ms : Nat} (hts : ∀ w ∈ lw_all, w.before args s = true) (hl : Cond.methodLink own index yX3_notAdd ∈ lw_all) (hR1 : (rmL lev mc ms).frames + 1 ≤ R.frames) (hR2 : 8 + (5 + 11) + (rmL lev mc ms).locals ≤ R.locals) : CallW R s args own RX3 index yX3_notAdd cX3_notAdd 5 (some .int) (ws_ yX3_notAdd cX3_notAdd 5 (some .int)) (rmL lev mc ms) mc ms 4 :=
  cwV 4 hts (lw_V hl q2333 qs49 q116 q2334) rfl rfl rfl (by decide +kernel) ⟨hR1, hR2⟩
set_option maxHeartbeats 4000000 in
theorem m_X3_notAdd {E : jE} (l : Launch) (o : Nat) (st : Ms) (w0 : Wl) (T : Int) (pa : Int) (dx : Int) (dy : Int) (dz : Int) (h1 : PWF T (st 0)) (h2 : -2147483648 ≤ pa ∧ pa ≤ 2147483647) (h3 : -2147483648 ≤ dx ∧ dx ≤ 2147483647) (h4 : -2147483648 ≤ dy ∧ dy ≤ 2147483647) (h5 : -2147483648 ≤ dz ∧ dz ≤ 2147483647) : Met l yX3_notAdd (ws_ yX3_notAdd cX3_notAdd 5 (some .int)) (rmL 3 0 0) (va_Pc [.ref o, .int (iI pa), .int (iI dx), .int (iI dy), .int (iI dz)] (jP E (wM E o st w0))) (jQi E (fun u : Ms => wM E o u w0) (fun z u => z = nAdd (st 0) pa dx dy dz ∧ u = st)) 0 0 (jA E) := by
  refine j_metI (by decide) (Nat.le_of_ble_eq_true rfl) ?_
  intro p e s m args below meth c Q hx hb hml hown hnm hts hV hH hret ls hl
  have hl : lv_has ls 5 [(0, .ref o), (1, .int (iI pa)), (2, .int (iI dx)), (3, .int (iI dy)), (4, .int (iI dz))] := hl
  have hA := h1.A
  have hor := nAdd_or (st 0) pa dx dy dz
  have hdb := depO_b h1 pa
  refine lv_iload_n hx hb dX3_notAdd_0 rfl (lv_at hl 1 rfl) ?_
  refine j_sipush hx hb dX3_notAdd_1 (by decide) ?_
  refine j_icmp_eq (tgt := 17) hx hb dX3_notAdd_4 (by decide) (by omega) (by omega) (fun c4 => ?_) (fun c4 => ?_)
  · refine lv_iload_n hx hb dX3_notAdd_17 rfl (lv_at hl 1 rfl) ?_
    refine j_sipush hx hb dX3_notAdd_18 (by decide) ?_
    refine j_icmp_eq (tgt := 32) hx hb dX3_notAdd_21 (by decide) (by omega) (by omega) (fun c21 => ?_) (fun c21 => ?_)
    · refine lv_iload_n hx hb dX3_notAdd_32 rfl (lv_at hl 2 rfl) ?_
      refine j_callip (va_runS (As := [.int (iI dx)]) (rest := []) ⟨hx, hb, hml, hown, hts⟩ (m_X3_isFar l _ dx (by omega)) (cw_X3_isFar hts q2347 (Nat.le_of_ble_eq_true rfl) (Nat.le_of_ble_eq_true rfl)) (j_preS hV hH) rfl rfl hl.1 rfl (lv_room (Nat.le_of_ble_eq_true rfl)) dX3_notAdd_33 ⟨Nat.le_of_ble_eq_true rfl, Nat.le_of_ble_eq_true rfl⟩) hH (fun H locs hH => ?_)
      refine j_ifeq_b (tgt := 54) hx hb dX3_notAdd_36 (by decide) (fun c36 => ?_) (fun c36 => ?_)
      · refine j_iconst hx hb dX3_notAdd_54 ?_
        exact hret st hH dX3_notAdd_55 (Nat.le_of_ble_eq_true rfl) (Nat.le_of_ble_eq_true rfl) ⟨by first | rfl | omega, rfl⟩
      · refine lv_iload_n hx hb dX3_notAdd_39 rfl (lv_at hl 3 rfl) ?_
        refine j_callip (va_runS (As := [.int (iI dy)]) (rest := []) ⟨hx, hb, hml, hown, hts⟩ (m_X3_isFar l _ dy (by omega)) (cw_X3_isFar hts q2347 (Nat.le_of_ble_eq_true rfl) (Nat.le_of_ble_eq_true rfl)) (j_preS hV hH) rfl rfl hl.1 rfl (lv_room (Nat.le_of_ble_eq_true rfl)) dX3_notAdd_40 ⟨Nat.le_of_ble_eq_true rfl, Nat.le_of_ble_eq_true rfl⟩) hH (fun H locs hH => ?_)
        refine j_ifeq_b (tgt := 54) hx hb dX3_notAdd_43 (by decide) (fun c43 => ?_) (fun c43 => ?_)
        · refine j_iconst hx hb dX3_notAdd_54 ?_
          exact hret st hH dX3_notAdd_55 (Nat.le_of_ble_eq_true rfl) (Nat.le_of_ble_eq_true rfl) ⟨by first | rfl | omega, rfl⟩
        · refine lv_iload hx hb dX3_notAdd_46 (lv_at hl 4 rfl) ?_
          refine j_callip (va_runS (As := [.int (iI dz)]) (rest := []) ⟨hx, hb, hml, hown, hts⟩ (m_X3_isFar l _ dz (by omega)) (cw_X3_isFar hts q2347 (Nat.le_of_ble_eq_true rfl) (Nat.le_of_ble_eq_true rfl)) (j_preS hV hH) rfl rfl hl.1 rfl (lv_room (Nat.le_of_ble_eq_true rfl)) dX3_notAdd_48 ⟨Nat.le_of_ble_eq_true rfl, Nat.le_of_ble_eq_true rfl⟩) hH (fun H locs hH => ?_)
          refine j_ifne_b (tgt := 56) hx hb dX3_notAdd_51 (by decide) (fun c51 => ?_) (fun c51 => ?_)
          · refine lv_aload_n hx hb dX3_notAdd_56 rfl (lv_at hl 0 rfl) ?_
            refine j_get hx hb hts hown hV hH wM_o rfl in_X3 0 (Nat.le_of_ble_eq_true rfl) q2229 (fun _ h => h) rfl dX3_notAdd_57 ?_
            refine j_iconst hx hb dX3_notAdd_60 ?_
            refine j_iald (n := 198) hx hb hV hH wM_0 (by omega) (by omega) dX3_notAdd_61 ?_
            refine j_bipush hx hb dX3_notAdd_62 (by decide) ?_
            refine j_icmp_eq (tgt := 83) hx hb dX3_notAdd_64 (by decide) (by omega) (by omega) (fun c64 => ?_) (fun c64 => ?_)
            · refine j_iconst hx hb dX3_notAdd_83 ?_
              refine lv_goto (tgt := 88) hx hb dX3_notAdd_84 (by decide) ?_
              exact hret st hH dX3_notAdd_88 (Nat.le_of_ble_eq_true rfl) (Nat.le_of_ble_eq_true rfl) ⟨by first | rfl | omega, rfl⟩
            · refine lv_iload_n hx hb dX3_notAdd_67 rfl (lv_at hl 1 rfl) ?_
              refine j_sipush hx hb dX3_notAdd_68 (by decide) ?_
              refine j_icmp_eq (tgt := 87) hx hb dX3_notAdd_71 (by decide) (by omega) (by omega) (fun c71 => ?_) (fun c71 => ?_)
              · refine j_iconst hx hb dX3_notAdd_87 ?_
                exact hret st hH dX3_notAdd_88 (Nat.le_of_ble_eq_true rfl) (Nat.le_of_ble_eq_true rfl) ⟨by first | rfl | omega, rfl⟩
              · refine lv_aload_n hx hb dX3_notAdd_74 rfl (lv_at hl 0 rfl) ?_
                refine lv_iload_n hx hb dX3_notAdd_75 rfl (lv_at hl 1 rfl) ?_
                refine j_callif (va_runV (As := [.int (iI pa)]) (rest := []) ⟨hx, hb, hml, hown, hts⟩ (m_X3_groupsAround l o st w0 _ pa (h1) (by omega) (by omega)) (cw_X3_groupsAround hts q2350 (Nat.le_of_ble_eq_true rfl) (Nat.le_of_ble_eq_true rfl)) (j_preV hV hH wM_o rfl) rfl rfl hl.1 rfl (lv_room (Nat.le_of_ble_eq_true rfl)) dX3_notAdd_76 ⟨Nat.le_of_ble_eq_true rfl, Nat.le_of_ble_eq_true rfl⟩) hH (fun H locs hH => ?_)
                refine j_iconst hx hb dX3_notAdd_79 ?_
                refine j_icmp_lt (tgt := 87) hx hb dX3_notAdd_80 (by decide) (by omega) (by omega) (fun c80 => ?_) (fun c80 => ?_)
                · refine j_iconst hx hb dX3_notAdd_87 ?_
                  exact hret st hH dX3_notAdd_88 (Nat.le_of_ble_eq_true rfl) (Nat.le_of_ble_eq_true rfl) ⟨by first | rfl | omega, rfl⟩
                · refine j_iconst hx hb dX3_notAdd_83 ?_
                  refine lv_goto (tgt := 88) hx hb dX3_notAdd_84 (by decide) ?_
                  exact hret st hH dX3_notAdd_88 (Nat.le_of_ble_eq_true rfl) (Nat.le_of_ble_eq_true rfl) ⟨by first | rfl | omega, rfl⟩
          · refine j_iconst hx hb dX3_notAdd_54 ?_
            exact hret st hH dX3_notAdd_55 (Nat.le_of_ble_eq_true rfl) (Nat.le_of_ble_eq_true rfl) ⟨by first | rfl | omega, rfl⟩
    · refine lv_aload_n hx hb dX3_notAdd_24 rfl (lv_at hl 0 rfl) ?_
      refine lv_iload_n hx hb dX3_notAdd_25 rfl (lv_at hl 1 rfl) ?_
      refine j_callif (va_runV (As := [.int (iI pa)]) (rest := []) ⟨hx, hb, hml, hown, hts⟩ (m_X3_isBox l o st w0 _ pa (h1) (by omega) (by omega)) (cw_X3_isBox hts q2339 (Nat.le_of_ble_eq_true rfl) (Nat.le_of_ble_eq_true rfl)) (j_preV hV hH wM_o rfl) rfl rfl hl.1 rfl (lv_room (Nat.le_of_ble_eq_true rfl)) dX3_notAdd_26 ⟨Nat.le_of_ble_eq_true rfl, Nat.le_of_ble_eq_true rfl⟩) hH (fun H locs hH => ?_)
      refine j_ifne_b (tgt := 54) hx hb dX3_notAdd_29 (by decide) (fun c29 => ?_) (fun c29 => ?_)
      · refine j_iconst hx hb dX3_notAdd_54 ?_
        exact hret st hH dX3_notAdd_55 (Nat.le_of_ble_eq_true rfl) (Nat.le_of_ble_eq_true rfl) ⟨by first | rfl | omega, rfl⟩
      · refine lv_iload_n hx hb dX3_notAdd_32 rfl (lv_at hl 2 rfl) ?_
        refine j_callip (va_runS (As := [.int (iI dx)]) (rest := []) ⟨hx, hb, hml, hown, hts⟩ (m_X3_isFar l _ dx (by omega)) (cw_X3_isFar hts q2347 (Nat.le_of_ble_eq_true rfl) (Nat.le_of_ble_eq_true rfl)) (j_preS hV hH) rfl rfl hl.1 rfl (lv_room (Nat.le_of_ble_eq_true rfl)) dX3_notAdd_33 ⟨Nat.le_of_ble_eq_true rfl, Nat.le_of_ble_eq_true rfl⟩) hH (fun H locs hH => ?_)
        refine j_ifeq_b (tgt := 54) hx hb dX3_notAdd_36 (by decide) (fun c36 => ?_) (fun c36 => ?_)
        · refine j_iconst hx hb dX3_notAdd_54 ?_
          exact hret st hH dX3_notAdd_55 (Nat.le_of_ble_eq_true rfl) (Nat.le_of_ble_eq_true rfl) ⟨by first | rfl | omega, rfl⟩
        · refine lv_iload_n hx hb dX3_notAdd_39 rfl (lv_at hl 3 rfl) ?_
          refine j_callip (va_runS (As := [.int (iI dy)]) (rest := []) ⟨hx, hb, hml, hown, hts⟩ (m_X3_isFar l _ dy (by omega)) (cw_X3_isFar hts q2347 (Nat.le_of_ble_eq_true rfl) (Nat.le_of_ble_eq_true rfl)) (j_preS hV hH) rfl rfl hl.1 rfl (lv_room (Nat.le_of_ble_eq_true rfl)) dX3_notAdd_40 ⟨Nat.le_of_ble_eq_true rfl, Nat.le_of_ble_eq_true rfl⟩) hH (fun H locs hH => ?_)
          refine j_ifeq_b (tgt := 54) hx hb dX3_notAdd_43 (by decide) (fun c43 => ?_) (fun c43 => ?_)
          · refine j_iconst hx hb dX3_notAdd_54 ?_
            exact hret st hH dX3_notAdd_55 (Nat.le_of_ble_eq_true rfl) (Nat.le_of_ble_eq_true rfl) ⟨by first | rfl | omega, rfl⟩
          · refine lv_iload hx hb dX3_notAdd_46 (lv_at hl 4 rfl) ?_
            refine j_callip (va_runS (As := [.int (iI dz)]) (rest := []) ⟨hx, hb, hml, hown, hts⟩ (m_X3_isFar l _ dz (by omega)) (cw_X3_isFar hts q2347 (Nat.le_of_ble_eq_true rfl) (Nat.le_of_ble_eq_true rfl)) (j_preS hV hH) rfl rfl hl.1 rfl (lv_room (Nat.le_of_ble_eq_true rfl)) dX3_notAdd_48 ⟨Nat.le_of_ble_eq_true rfl, Nat.le_of_ble_eq_true rfl⟩) hH (fun H locs hH => ?_)
            refine j_ifne_b (tgt := 56) hx hb dX3_notAdd_51 (by decide) (fun c51 => ?_) (fun c51 => ?_)
            · refine lv_aload_n hx hb dX3_notAdd_56 rfl (lv_at hl 0 rfl) ?_
              refine j_get hx hb hts hown hV hH wM_o rfl in_X3 0 (Nat.le_of_ble_eq_true rfl) q2229 (fun _ h => h) rfl dX3_notAdd_57 ?_
              refine j_iconst hx hb dX3_notAdd_60 ?_
              refine j_iald (n := 198) hx hb hV hH wM_0 (by omega) (by omega) dX3_notAdd_61 ?_
              refine j_bipush hx hb dX3_notAdd_62 (by decide) ?_
              refine j_icmp_eq (tgt := 83) hx hb dX3_notAdd_64 (by decide) (by omega) (by omega) (fun c64 => ?_) (fun c64 => ?_)
              · refine j_iconst hx hb dX3_notAdd_83 ?_
                refine lv_goto (tgt := 88) hx hb dX3_notAdd_84 (by decide) ?_
                exact hret st hH dX3_notAdd_88 (Nat.le_of_ble_eq_true rfl) (Nat.le_of_ble_eq_true rfl) ⟨by first | rfl | omega, rfl⟩
              · refine lv_iload_n hx hb dX3_notAdd_67 rfl (lv_at hl 1 rfl) ?_
                refine j_sipush hx hb dX3_notAdd_68 (by decide) ?_
                refine j_icmp_eq (tgt := 87) hx hb dX3_notAdd_71 (by decide) (by omega) (by omega) (fun c71 => ?_) (fun c71 => ?_)
                · refine j_iconst hx hb dX3_notAdd_87 ?_
                  exact hret st hH dX3_notAdd_88 (Nat.le_of_ble_eq_true rfl) (Nat.le_of_ble_eq_true rfl) ⟨by first | rfl | omega, rfl⟩
                · refine lv_aload_n hx hb dX3_notAdd_74 rfl (lv_at hl 0 rfl) ?_
                  refine lv_iload_n hx hb dX3_notAdd_75 rfl (lv_at hl 1 rfl) ?_
                  refine j_callif (va_runV (As := [.int (iI pa)]) (rest := []) ⟨hx, hb, hml, hown, hts⟩ (m_X3_groupsAround l o st w0 _ pa (h1) (by omega) (by omega)) (cw_X3_groupsAround hts q2350 (Nat.le_of_ble_eq_true rfl) (Nat.le_of_ble_eq_true rfl)) (j_preV hV hH wM_o rfl) rfl rfl hl.1 rfl (lv_room (Nat.le_of_ble_eq_true rfl)) dX3_notAdd_76 ⟨Nat.le_of_ble_eq_true rfl, Nat.le_of_ble_eq_true rfl⟩) hH (fun H locs hH => ?_)
                  refine j_iconst hx hb dX3_notAdd_79 ?_
                  refine j_icmp_lt (tgt := 87) hx hb dX3_notAdd_80 (by decide) (by omega) (by omega) (fun c80 => ?_) (fun c80 => ?_)
                  · refine j_iconst hx hb dX3_notAdd_87 ?_
                    exact hret st hH dX3_notAdd_88 (Nat.le_of_ble_eq_true rfl) (Nat.le_of_ble_eq_true rfl) ⟨by first | rfl | omega, rfl⟩
                  · refine j_iconst hx hb dX3_notAdd_83 ?_
                    refine lv_goto (tgt := 88) hx hb dX3_notAdd_84 (by decide) ?_
                    exact hret st hH dX3_notAdd_88 (Nat.le_of_ble_eq_true rfl) (Nat.le_of_ble_eq_true rfl) ⟨by first | rfl | omega, rfl⟩
            · refine j_iconst hx hb dX3_notAdd_54 ?_
              exact hret st hH dX3_notAdd_55 (Nat.le_of_ble_eq_true rfl) (Nat.le_of_ble_eq_true rfl) ⟨by first | rfl | omega, rfl⟩
  · refine lv_aload_n hx hb dX3_notAdd_7 rfl (lv_at hl 0 rfl) ?_
    refine lv_iload_n hx hb dX3_notAdd_8 rfl (lv_at hl 1 rfl) ?_
    refine j_callif (va_runV (As := [.int (iI pa)]) (rest := []) ⟨hx, hb, hml, hown, hts⟩ (m_X3_isNode l o st w0 _ pa (h1) (by omega)) (cw_X3_isNode hts q2335 (Nat.le_of_ble_eq_true rfl) (Nat.le_of_ble_eq_true rfl)) (j_preV hV hH wM_o rfl) rfl rfl hl.1 rfl (lv_room (Nat.le_of_ble_eq_true rfl)) dX3_notAdd_9 ⟨Nat.le_of_ble_eq_true rfl, Nat.le_of_ble_eq_true rfl⟩) hH (fun H locs hH => ?_)
    refine j_ifne_b (tgt := 17) hx hb dX3_notAdd_12 (by decide) (fun c12 => ?_) (fun c12 => ?_)
    · refine lv_iload_n hx hb dX3_notAdd_17 rfl (lv_at hl 1 rfl) ?_
      refine j_sipush hx hb dX3_notAdd_18 (by decide) ?_
      refine j_icmp_eq (tgt := 32) hx hb dX3_notAdd_21 (by decide) (by omega) (by omega) (fun c21 => ?_) (fun c21 => ?_)
      · refine lv_iload_n hx hb dX3_notAdd_32 rfl (lv_at hl 2 rfl) ?_
        refine j_callip (va_runS (As := [.int (iI dx)]) (rest := []) ⟨hx, hb, hml, hown, hts⟩ (m_X3_isFar l _ dx (by omega)) (cw_X3_isFar hts q2347 (Nat.le_of_ble_eq_true rfl) (Nat.le_of_ble_eq_true rfl)) (j_preS hV hH) rfl rfl hl.1 rfl (lv_room (Nat.le_of_ble_eq_true rfl)) dX3_notAdd_33 ⟨Nat.le_of_ble_eq_true rfl, Nat.le_of_ble_eq_true rfl⟩) hH (fun H locs hH => ?_)
        refine j_ifeq_b (tgt := 54) hx hb dX3_notAdd_36 (by decide) (fun c36 => ?_) (fun c36 => ?_)
        · refine j_iconst hx hb dX3_notAdd_54 ?_
          exact hret st hH dX3_notAdd_55 (Nat.le_of_ble_eq_true rfl) (Nat.le_of_ble_eq_true rfl) ⟨by first | rfl | omega, rfl⟩
        · refine lv_iload_n hx hb dX3_notAdd_39 rfl (lv_at hl 3 rfl) ?_
          refine j_callip (va_runS (As := [.int (iI dy)]) (rest := []) ⟨hx, hb, hml, hown, hts⟩ (m_X3_isFar l _ dy (by omega)) (cw_X3_isFar hts q2347 (Nat.le_of_ble_eq_true rfl) (Nat.le_of_ble_eq_true rfl)) (j_preS hV hH) rfl rfl hl.1 rfl (lv_room (Nat.le_of_ble_eq_true rfl)) dX3_notAdd_40 ⟨Nat.le_of_ble_eq_true rfl, Nat.le_of_ble_eq_true rfl⟩) hH (fun H locs hH => ?_)
          refine j_ifeq_b (tgt := 54) hx hb dX3_notAdd_43 (by decide) (fun c43 => ?_) (fun c43 => ?_)
          · refine j_iconst hx hb dX3_notAdd_54 ?_
            exact hret st hH dX3_notAdd_55 (Nat.le_of_ble_eq_true rfl) (Nat.le_of_ble_eq_true rfl) ⟨by first | rfl | omega, rfl⟩
          · refine lv_iload hx hb dX3_notAdd_46 (lv_at hl 4 rfl) ?_
            refine j_callip (va_runS (As := [.int (iI dz)]) (rest := []) ⟨hx, hb, hml, hown, hts⟩ (m_X3_isFar l _ dz (by omega)) (cw_X3_isFar hts q2347 (Nat.le_of_ble_eq_true rfl) (Nat.le_of_ble_eq_true rfl)) (j_preS hV hH) rfl rfl hl.1 rfl (lv_room (Nat.le_of_ble_eq_true rfl)) dX3_notAdd_48 ⟨Nat.le_of_ble_eq_true rfl, Nat.le_of_ble_eq_true rfl⟩) hH (fun H locs hH => ?_)
            refine j_ifne_b (tgt := 56) hx hb dX3_notAdd_51 (by decide) (fun c51 => ?_) (fun c51 => ?_)
            · refine lv_aload_n hx hb dX3_notAdd_56 rfl (lv_at hl 0 rfl) ?_
              refine j_get hx hb hts hown hV hH wM_o rfl in_X3 0 (Nat.le_of_ble_eq_true rfl) q2229 (fun _ h => h) rfl dX3_notAdd_57 ?_
              refine j_iconst hx hb dX3_notAdd_60 ?_
              refine j_iald (n := 198) hx hb hV hH wM_0 (by omega) (by omega) dX3_notAdd_61 ?_
              refine j_bipush hx hb dX3_notAdd_62 (by decide) ?_
              refine j_icmp_eq (tgt := 83) hx hb dX3_notAdd_64 (by decide) (by omega) (by omega) (fun c64 => ?_) (fun c64 => ?_)
              · refine j_iconst hx hb dX3_notAdd_83 ?_
                refine lv_goto (tgt := 88) hx hb dX3_notAdd_84 (by decide) ?_
                exact hret st hH dX3_notAdd_88 (Nat.le_of_ble_eq_true rfl) (Nat.le_of_ble_eq_true rfl) ⟨by first | rfl | omega, rfl⟩
              · refine lv_iload_n hx hb dX3_notAdd_67 rfl (lv_at hl 1 rfl) ?_
                refine j_sipush hx hb dX3_notAdd_68 (by decide) ?_
                refine j_icmp_eq (tgt := 87) hx hb dX3_notAdd_71 (by decide) (by omega) (by omega) (fun c71 => ?_) (fun c71 => ?_)
                · refine j_iconst hx hb dX3_notAdd_87 ?_
                  exact hret st hH dX3_notAdd_88 (Nat.le_of_ble_eq_true rfl) (Nat.le_of_ble_eq_true rfl) ⟨by first | rfl | omega, rfl⟩
                · refine lv_aload_n hx hb dX3_notAdd_74 rfl (lv_at hl 0 rfl) ?_
                  refine lv_iload_n hx hb dX3_notAdd_75 rfl (lv_at hl 1 rfl) ?_
                  refine j_callif (va_runV (As := [.int (iI pa)]) (rest := []) ⟨hx, hb, hml, hown, hts⟩ (m_X3_groupsAround l o st w0 _ pa (h1) (by omega) (by omega)) (cw_X3_groupsAround hts q2350 (Nat.le_of_ble_eq_true rfl) (Nat.le_of_ble_eq_true rfl)) (j_preV hV hH wM_o rfl) rfl rfl hl.1 rfl (lv_room (Nat.le_of_ble_eq_true rfl)) dX3_notAdd_76 ⟨Nat.le_of_ble_eq_true rfl, Nat.le_of_ble_eq_true rfl⟩) hH (fun H locs hH => ?_)
                  refine j_iconst hx hb dX3_notAdd_79 ?_
                  refine j_icmp_lt (tgt := 87) hx hb dX3_notAdd_80 (by decide) (by omega) (by omega) (fun c80 => ?_) (fun c80 => ?_)
                  · refine j_iconst hx hb dX3_notAdd_87 ?_
                    exact hret st hH dX3_notAdd_88 (Nat.le_of_ble_eq_true rfl) (Nat.le_of_ble_eq_true rfl) ⟨by first | rfl | omega, rfl⟩
                  · refine j_iconst hx hb dX3_notAdd_83 ?_
                    refine lv_goto (tgt := 88) hx hb dX3_notAdd_84 (by decide) ?_
                    exact hret st hH dX3_notAdd_88 (Nat.le_of_ble_eq_true rfl) (Nat.le_of_ble_eq_true rfl) ⟨by first | rfl | omega, rfl⟩
            · refine j_iconst hx hb dX3_notAdd_54 ?_
              exact hret st hH dX3_notAdd_55 (Nat.le_of_ble_eq_true rfl) (Nat.le_of_ble_eq_true rfl) ⟨by first | rfl | omega, rfl⟩
      · refine lv_aload_n hx hb dX3_notAdd_24 rfl (lv_at hl 0 rfl) ?_
        refine lv_iload_n hx hb dX3_notAdd_25 rfl (lv_at hl 1 rfl) ?_
        refine j_callif (va_runV (As := [.int (iI pa)]) (rest := []) ⟨hx, hb, hml, hown, hts⟩ (m_X3_isBox l o st w0 _ pa (h1) (by omega) (by omega)) (cw_X3_isBox hts q2339 (Nat.le_of_ble_eq_true rfl) (Nat.le_of_ble_eq_true rfl)) (j_preV hV hH wM_o rfl) rfl rfl hl.1 rfl (lv_room (Nat.le_of_ble_eq_true rfl)) dX3_notAdd_26 ⟨Nat.le_of_ble_eq_true rfl, Nat.le_of_ble_eq_true rfl⟩) hH (fun H locs hH => ?_)
        refine j_ifne_b (tgt := 54) hx hb dX3_notAdd_29 (by decide) (fun c29 => ?_) (fun c29 => ?_)
        · refine j_iconst hx hb dX3_notAdd_54 ?_
          exact hret st hH dX3_notAdd_55 (Nat.le_of_ble_eq_true rfl) (Nat.le_of_ble_eq_true rfl) ⟨by first | rfl | omega, rfl⟩
        · refine lv_iload_n hx hb dX3_notAdd_32 rfl (lv_at hl 2 rfl) ?_
          refine j_callip (va_runS (As := [.int (iI dx)]) (rest := []) ⟨hx, hb, hml, hown, hts⟩ (m_X3_isFar l _ dx (by omega)) (cw_X3_isFar hts q2347 (Nat.le_of_ble_eq_true rfl) (Nat.le_of_ble_eq_true rfl)) (j_preS hV hH) rfl rfl hl.1 rfl (lv_room (Nat.le_of_ble_eq_true rfl)) dX3_notAdd_33 ⟨Nat.le_of_ble_eq_true rfl, Nat.le_of_ble_eq_true rfl⟩) hH (fun H locs hH => ?_)
          refine j_ifeq_b (tgt := 54) hx hb dX3_notAdd_36 (by decide) (fun c36 => ?_) (fun c36 => ?_)
          · refine j_iconst hx hb dX3_notAdd_54 ?_
            exact hret st hH dX3_notAdd_55 (Nat.le_of_ble_eq_true rfl) (Nat.le_of_ble_eq_true rfl) ⟨by first | rfl | omega, rfl⟩
          · refine lv_iload_n hx hb dX3_notAdd_39 rfl (lv_at hl 3 rfl) ?_
            refine j_callip (va_runS (As := [.int (iI dy)]) (rest := []) ⟨hx, hb, hml, hown, hts⟩ (m_X3_isFar l _ dy (by omega)) (cw_X3_isFar hts q2347 (Nat.le_of_ble_eq_true rfl) (Nat.le_of_ble_eq_true rfl)) (j_preS hV hH) rfl rfl hl.1 rfl (lv_room (Nat.le_of_ble_eq_true rfl)) dX3_notAdd_40 ⟨Nat.le_of_ble_eq_true rfl, Nat.le_of_ble_eq_true rfl⟩) hH (fun H locs hH => ?_)
            refine j_ifeq_b (tgt := 54) hx hb dX3_notAdd_43 (by decide) (fun c43 => ?_) (fun c43 => ?_)
            · refine j_iconst hx hb dX3_notAdd_54 ?_
              exact hret st hH dX3_notAdd_55 (Nat.le_of_ble_eq_true rfl) (Nat.le_of_ble_eq_true rfl) ⟨by first | rfl | omega, rfl⟩
            · refine lv_iload hx hb dX3_notAdd_46 (lv_at hl 4 rfl) ?_
              refine j_callip (va_runS (As := [.int (iI dz)]) (rest := []) ⟨hx, hb, hml, hown, hts⟩ (m_X3_isFar l _ dz (by omega)) (cw_X3_isFar hts q2347 (Nat.le_of_ble_eq_true rfl) (Nat.le_of_ble_eq_true rfl)) (j_preS hV hH) rfl rfl hl.1 rfl (lv_room (Nat.le_of_ble_eq_true rfl)) dX3_notAdd_48 ⟨Nat.le_of_ble_eq_true rfl, Nat.le_of_ble_eq_true rfl⟩) hH (fun H locs hH => ?_)
              refine j_ifne_b (tgt := 56) hx hb dX3_notAdd_51 (by decide) (fun c51 => ?_) (fun c51 => ?_)
              · refine lv_aload_n hx hb dX3_notAdd_56 rfl (lv_at hl 0 rfl) ?_
                refine j_get hx hb hts hown hV hH wM_o rfl in_X3 0 (Nat.le_of_ble_eq_true rfl) q2229 (fun _ h => h) rfl dX3_notAdd_57 ?_
                refine j_iconst hx hb dX3_notAdd_60 ?_
                refine j_iald (n := 198) hx hb hV hH wM_0 (by omega) (by omega) dX3_notAdd_61 ?_
                refine j_bipush hx hb dX3_notAdd_62 (by decide) ?_
                refine j_icmp_eq (tgt := 83) hx hb dX3_notAdd_64 (by decide) (by omega) (by omega) (fun c64 => ?_) (fun c64 => ?_)
                · refine j_iconst hx hb dX3_notAdd_83 ?_
                  refine lv_goto (tgt := 88) hx hb dX3_notAdd_84 (by decide) ?_
                  exact hret st hH dX3_notAdd_88 (Nat.le_of_ble_eq_true rfl) (Nat.le_of_ble_eq_true rfl) ⟨by first | rfl | omega, rfl⟩
                · refine lv_iload_n hx hb dX3_notAdd_67 rfl (lv_at hl 1 rfl) ?_
                  refine j_sipush hx hb dX3_notAdd_68 (by decide) ?_
                  refine j_icmp_eq (tgt := 87) hx hb dX3_notAdd_71 (by decide) (by omega) (by omega) (fun c71 => ?_) (fun c71 => ?_)
                  · refine j_iconst hx hb dX3_notAdd_87 ?_
                    exact hret st hH dX3_notAdd_88 (Nat.le_of_ble_eq_true rfl) (Nat.le_of_ble_eq_true rfl) ⟨by first | rfl | omega, rfl⟩
                  · refine lv_aload_n hx hb dX3_notAdd_74 rfl (lv_at hl 0 rfl) ?_
                    refine lv_iload_n hx hb dX3_notAdd_75 rfl (lv_at hl 1 rfl) ?_
                    refine j_callif (va_runV (As := [.int (iI pa)]) (rest := []) ⟨hx, hb, hml, hown, hts⟩ (m_X3_groupsAround l o st w0 _ pa (h1) (by omega) (by omega)) (cw_X3_groupsAround hts q2350 (Nat.le_of_ble_eq_true rfl) (Nat.le_of_ble_eq_true rfl)) (j_preV hV hH wM_o rfl) rfl rfl hl.1 rfl (lv_room (Nat.le_of_ble_eq_true rfl)) dX3_notAdd_76 ⟨Nat.le_of_ble_eq_true rfl, Nat.le_of_ble_eq_true rfl⟩) hH (fun H locs hH => ?_)
                    refine j_iconst hx hb dX3_notAdd_79 ?_
                    refine j_icmp_lt (tgt := 87) hx hb dX3_notAdd_80 (by decide) (by omega) (by omega) (fun c80 => ?_) (fun c80 => ?_)
                    · refine j_iconst hx hb dX3_notAdd_87 ?_
                      exact hret st hH dX3_notAdd_88 (Nat.le_of_ble_eq_true rfl) (Nat.le_of_ble_eq_true rfl) ⟨by first | rfl | omega, rfl⟩
                    · refine j_iconst hx hb dX3_notAdd_83 ?_
                      refine lv_goto (tgt := 88) hx hb dX3_notAdd_84 (by decide) ?_
                      exact hret st hH dX3_notAdd_88 (Nat.le_of_ble_eq_true rfl) (Nat.le_of_ble_eq_true rfl) ⟨by first | rfl | omega, rfl⟩
              · refine j_iconst hx hb dX3_notAdd_54 ?_
                exact hret st hH dX3_notAdd_55 (Nat.le_of_ble_eq_true rfl) (Nat.le_of_ble_eq_true rfl) ⟨by first | rfl | omega, rfl⟩
    · refine j_iconst hx hb dX3_notAdd_15 ?_
      exact hret st hH dX3_notAdd_16 (Nat.le_of_ble_eq_true rfl) (Nat.le_of_ble_eq_true rfl) ⟨by first | rfl | omega, rfl⟩
theorem cw_X3_notBox {R : Room} {s : State} {args : Array Value} {own : String} {index lev mc ms : Nat} (hts : ∀ w ∈ lw_all, w.before args s = true) (hl : Cond.methodLink own index yX3_notBox ∈ lw_all) (hR1 : (rmL lev mc ms).frames + 1 ≤ R.frames) (hR2 : 8 + (8 + 11) + (rmL lev mc ms).locals ≤ R.locals) : CallW R s args own RX3 index yX3_notBox cX3_notBox 8 (some .int) (ws_ yX3_notBox cX3_notBox 8 (some .int)) (rmL lev mc ms) mc ms 6 :=
  cwV 6 hts (lw_V hl q2364 qs55 q116 q2365) rfl rfl rfl (by decide +kernel) ⟨hR1, hR2⟩
set_option maxHeartbeats 4000000 in
theorem m_X3_notBox {E : jE} (l : Launch) (o : Nat) (st : Ms) (w0 : Wl) (T : Int) (pa : Int) (dx : Int) (dy : Int) (dz : Int) (w1 : Int) (h1_ : Int) (h1 : PWF T (st 0)) (h2 : -2147483648 ≤ pa ∧ pa ≤ 2147483647) (h3 : -2147483648 ≤ dx ∧ dx ≤ 2147483647) (h4 : -2147483648 ≤ dy ∧ dy ≤ 2147483647) (h5 : -2147483648 ≤ dz ∧ dz ≤ 2147483647) (h6 : -2147483648 ≤ w1 ∧ w1 ≤ 2147483647) (h7 : -2147483648 ≤ h1_ ∧ h1_ ≤ 2147483647) : Met l yX3_notBox (ws_ yX3_notBox cX3_notBox 8 (some .int)) (rmL 4 0 0) (va_Pc [.ref o, .int (iI pa), .int (iI dx), .int (iI dy), .int (iI dz), .int (iI w1), .int (iI h1_)] (jP E (wM E o st w0))) (jQi E (fun u : Ms => wM E o u w0) (fun z u => z = nBox (st 0) pa dx dy dz w1 h1_ ∧ u = st)) 0 0 (jA E) := by
  refine j_metI (by decide) (Nat.le_of_ble_eq_true rfl) ?_
  intro p e s m args below meth c Q hx hb hml hown hnm hts hV hH hret ls hl
  have hl : lv_has ls 8 [(0, .ref o), (1, .int (iI pa)), (2, .int (iI dx)), (3, .int (iI dy)), (4, .int (iI dz)), (5, .int (iI w1)), (6, .int (iI h1_))] := hl
  have hor := nAdd_or (st 0) pa dx dy dz
  refine lv_aload_n hx hb dX3_notBox_0 rfl (lv_at hl 0 rfl) ?_
  refine lv_iload_n hx hb dX3_notBox_1 rfl (lv_at hl 1 rfl) ?_
  refine lv_iload_n hx hb dX3_notBox_2 rfl (lv_at hl 2 rfl) ?_
  refine lv_iload_n hx hb dX3_notBox_3 rfl (lv_at hl 3 rfl) ?_
  refine lv_iload hx hb dX3_notBox_4 (lv_at hl 4 rfl) ?_
  refine j_callif (va_runV (As := [.int (iI pa), .int (iI dx), .int (iI dy), .int (iI dz)]) (rest := []) ⟨hx, hb, hml, hown, hts⟩ (m_X3_notAdd l o st w0 _ pa dx dy dz (h1) (by omega) (by omega) (by omega) (by omega)) (cw_X3_notAdd hts q2331 (Nat.le_of_ble_eq_true rfl) (Nat.le_of_ble_eq_true rfl)) (j_preV hV hH wM_o rfl) rfl rfl hl.1 rfl (lv_room (Nat.le_of_ble_eq_true rfl)) dX3_notBox_6 ⟨Nat.le_of_ble_eq_true rfl, Nat.le_of_ble_eq_true rfl⟩) hH (fun H locs hH => ?_)
  refine j_istore (lv' := fun x1 => [(7, .int (iI x1)), (0, .ref o), (1, .int (iI pa)), (2, .int (iI dx)), (3, .int (iI dy)), (4, .int (iI dz)), (5, .int (iI w1)), (6, .int (iI h1_))]) hx hb dX3_notBox_9 hl (by decide) (fun _ => rfl) (fun x1 ex1 ls hl => ?_)
  refine lv_iload hx hb dX3_notBox_11 (lv_at hl 0 rfl) ?_
  refine j_iconst hx hb dX3_notBox_13 ?_
  refine j_icmp_eq (tgt := 43) hx hb dX3_notBox_14 (by decide) (by omega) (by omega) (fun c14 => ?_) (fun c14 => ?_)
  · refine lv_iload hx hb dX3_notBox_43 (lv_at hl 0 rfl) ?_
    exact hret st hH dX3_notBox_45 (Nat.le_of_ble_eq_true rfl) (Nat.le_of_ble_eq_true rfl) (⟨by unfold nBox; first | (rw [if_neg (by omega)]; omega) | (rw [if_pos (by omega)]), rfl⟩)
  · refine lv_iload hx hb dX3_notBox_17 (lv_at hl 6 rfl) ?_
    refine j_iconst hx hb dX3_notBox_19 ?_
    refine j_bipush hx hb dX3_notBox_20 (by decide) ?_
    refine j_callip (va_runS (As := [.int (iI w1), .int (iI 1), .int (iI 100)]) (rest := []) ⟨hx, hb, hml, hown, hts⟩ (m_X3_in l _ w1 1 100 (by omega) (by omega) (by omega)) (cw_X3_in hts q2313 (Nat.le_of_ble_eq_true rfl) (Nat.le_of_ble_eq_true rfl)) (j_preS hV hH) rfl rfl hl.1 rfl (lv_room (Nat.le_of_ble_eq_true rfl)) dX3_notBox_22 ⟨Nat.le_of_ble_eq_true rfl, Nat.le_of_ble_eq_true rfl⟩) hH (fun H locs hH => ?_)
    refine j_ifeq_b (tgt := 39) hx hb dX3_notBox_25 (by decide) (fun c25 => ?_) (fun c25 => ?_)
    · refine j_iconst hx hb dX3_notBox_39 ?_
      refine lv_goto (tgt := 45) hx hb dX3_notBox_40 (by decide) ?_
      exact hret st hH dX3_notBox_45 (Nat.le_of_ble_eq_true rfl) (Nat.le_of_ble_eq_true rfl) (⟨by unfold nBox; first | (rw [if_neg (by omega)]; omega) | (rw [if_pos (by omega)]), rfl⟩)
    · refine lv_iload hx hb dX3_notBox_28 (lv_at hl 7 rfl) ?_
      refine j_iconst hx hb dX3_notBox_30 ?_
      refine j_bipush hx hb dX3_notBox_31 (by decide) ?_
      refine j_callip (va_runS (As := [.int (iI h1_), .int (iI 1), .int (iI 100)]) (rest := []) ⟨hx, hb, hml, hown, hts⟩ (m_X3_in l _ h1_ 1 100 (by omega) (by omega) (by omega)) (cw_X3_in hts q2313 (Nat.le_of_ble_eq_true rfl) (Nat.le_of_ble_eq_true rfl)) (j_preS hV hH) rfl rfl hl.1 rfl (lv_room (Nat.le_of_ble_eq_true rfl)) dX3_notBox_33 ⟨Nat.le_of_ble_eq_true rfl, Nat.le_of_ble_eq_true rfl⟩) hH (fun H locs hH => ?_)
      refine j_ifne_b (tgt := 43) hx hb dX3_notBox_36 (by decide) (fun c36 => ?_) (fun c36 => ?_)
      · refine lv_iload hx hb dX3_notBox_43 (lv_at hl 0 rfl) ?_
        exact hret st hH dX3_notBox_45 (Nat.le_of_ble_eq_true rfl) (Nat.le_of_ble_eq_true rfl) (⟨by unfold nBox; first | (rw [if_neg (by omega)]; omega) | (rw [if_pos (by omega)]), rfl⟩)
      · refine j_iconst hx hb dX3_notBox_39 ?_
        refine lv_goto (tgt := 45) hx hb dX3_notBox_40 (by decide) ?_
        exact hret st hH dX3_notBox_45 (Nat.le_of_ble_eq_true rfl) (Nat.le_of_ble_eq_true rfl) (⟨by unfold nBox; first | (rw [if_neg (by omega)]; omega) | (rw [if_pos (by omega)]), rfl⟩)
theorem cw_X3_notMove {R : Room} {s : State} {args : Array Value} {own : String} {index lev mc ms : Nat} (hts : ∀ w ∈ lw_all, w.before args s = true) (hl : Cond.methodLink own index yX3_notMove ∈ lw_all) (hR1 : (rmL lev mc ms).frames + 1 ≤ R.frames) (hR2 : 8 + (5 + 11) + (rmL lev mc ms).locals ≤ R.locals) : CallW R s args own RX3 index yX3_notMove cX3_notMove 5 (some .int) (ws_ yX3_notMove cX3_notMove 5 (some .int)) (rmL lev mc ms) mc ms 4 :=
  cwV 4 hts (lw_V hl q2372 qs56 q116 q2373) rfl rfl rfl (by decide +kernel) ⟨hR1, hR2⟩
set_option maxHeartbeats 4000000 in
theorem m_X3_notMove {E : jE} (l : Launch) (o : Nat) (st : Ms) (w0 : Wl) (T : Int) (n : Int) (dx : Int) (dy : Int) (dz : Int) (h1 : PWF T (st 0)) (h2 : -2147483648 ≤ n ∧ n ≤ 2147483647) (h3 : -2147483648 ≤ dx ∧ dx ≤ 2147483647) (h4 : -2147483648 ≤ dy ∧ dy ≤ 2147483647) (h5 : -2147483648 ≤ dz ∧ dz ≤ 2147483647) : Met l yX3_notMove (ws_ yX3_notMove cX3_notMove 5 (some .int)) (rmL 3 0 0) (va_Pc [.ref o, .int (iI n), .int (iI dx), .int (iI dy), .int (iI dz)] (jP E (wM E o st w0))) (jQi E (fun u : Ms => wM E o u w0) (fun z u => z = nMove (st 0) n dx dy dz ∧ u = st)) 0 0 (jA E) := by
  refine j_metI (by decide) (Nat.le_of_ble_eq_true rfl) ?_
  intro p e s m args below meth c Q hx hb hml hown hnm hts hV hH hret ls hl
  have hl : lv_has ls 5 [(0, .ref o), (1, .int (iI n)), (2, .int (iI dx)), (3, .int (iI dy)), (4, .int (iI dz))] := hl
  refine lv_aload_n hx hb dX3_notMove_0 rfl (lv_at hl 0 rfl) ?_
  refine lv_iload_n hx hb dX3_notMove_1 rfl (lv_at hl 1 rfl) ?_
  refine j_callif (va_runV (As := [.int (iI n)]) (rest := []) ⟨hx, hb, hml, hown, hts⟩ (m_X3_isNode l o st w0 _ n (h1) (by omega)) (cw_X3_isNode hts q2335 (Nat.le_of_ble_eq_true rfl) (Nat.le_of_ble_eq_true rfl)) (j_preV hV hH wM_o rfl) rfl rfl hl.1 rfl (lv_room (Nat.le_of_ble_eq_true rfl)) dX3_notMove_2 ⟨Nat.le_of_ble_eq_true rfl, Nat.le_of_ble_eq_true rfl⟩) hH (fun H locs hH => ?_)
  refine j_ifne_b (tgt := 12) hx hb dX3_notMove_5 (by decide) (fun c5 => ?_) (fun c5 => ?_)
  · refine lv_iload_n hx hb dX3_notMove_12 rfl (lv_at hl 2 rfl) ?_
    refine j_callip (va_runS (As := [.int (iI dx)]) (rest := []) ⟨hx, hb, hml, hown, hts⟩ (m_X3_isFar l _ dx (by omega)) (cw_X3_isFar hts q2347 (Nat.le_of_ble_eq_true rfl) (Nat.le_of_ble_eq_true rfl)) (j_preS hV hH) rfl rfl hl.1 rfl (lv_room (Nat.le_of_ble_eq_true rfl)) dX3_notMove_13 ⟨Nat.le_of_ble_eq_true rfl, Nat.le_of_ble_eq_true rfl⟩) hH (fun H locs hH => ?_)
    refine j_ifeq_b (tgt := 38) hx hb dX3_notMove_16 (by decide) (fun c16 => ?_) (fun c16 => ?_)
    · refine j_iconst hx hb dX3_notMove_38 ?_
      exact hret st hH dX3_notMove_39 (Nat.le_of_ble_eq_true rfl) (Nat.le_of_ble_eq_true rfl) (⟨by unfold nMove; split <;> (try split) <;> omega, rfl⟩)
    · refine lv_iload_n hx hb dX3_notMove_19 rfl (lv_at hl 3 rfl) ?_
      refine j_callip (va_runS (As := [.int (iI dy)]) (rest := []) ⟨hx, hb, hml, hown, hts⟩ (m_X3_isFar l _ dy (by omega)) (cw_X3_isFar hts q2347 (Nat.le_of_ble_eq_true rfl) (Nat.le_of_ble_eq_true rfl)) (j_preS hV hH) rfl rfl hl.1 rfl (lv_room (Nat.le_of_ble_eq_true rfl)) dX3_notMove_20 ⟨Nat.le_of_ble_eq_true rfl, Nat.le_of_ble_eq_true rfl⟩) hH (fun H locs hH => ?_)
      refine j_ifeq_b (tgt := 38) hx hb dX3_notMove_23 (by decide) (fun c23 => ?_) (fun c23 => ?_)
      · refine j_iconst hx hb dX3_notMove_38 ?_
        exact hret st hH dX3_notMove_39 (Nat.le_of_ble_eq_true rfl) (Nat.le_of_ble_eq_true rfl) (⟨by unfold nMove; split <;> (try split) <;> omega, rfl⟩)
      · refine lv_iload hx hb dX3_notMove_26 (lv_at hl 4 rfl) ?_
        refine j_callip (va_runS (As := [.int (iI dz)]) (rest := []) ⟨hx, hb, hml, hown, hts⟩ (m_X3_isFar l _ dz (by omega)) (cw_X3_isFar hts q2347 (Nat.le_of_ble_eq_true rfl) (Nat.le_of_ble_eq_true rfl)) (j_preS hV hH) rfl rfl hl.1 rfl (lv_room (Nat.le_of_ble_eq_true rfl)) dX3_notMove_28 ⟨Nat.le_of_ble_eq_true rfl, Nat.le_of_ble_eq_true rfl⟩) hH (fun H locs hH => ?_)
        refine j_ifeq_b (tgt := 38) hx hb dX3_notMove_31 (by decide) (fun c31 => ?_) (fun c31 => ?_)
        · refine j_iconst hx hb dX3_notMove_38 ?_
          exact hret st hH dX3_notMove_39 (Nat.le_of_ble_eq_true rfl) (Nat.le_of_ble_eq_true rfl) (⟨by unfold nMove; split <;> (try split) <;> omega, rfl⟩)
        · refine j_iconst hx hb dX3_notMove_34 ?_
          refine lv_goto (tgt := 39) hx hb dX3_notMove_35 (by decide) ?_
          exact hret st hH dX3_notMove_39 (Nat.le_of_ble_eq_true rfl) (Nat.le_of_ble_eq_true rfl) (⟨by unfold nMove; split <;> (try split) <;> omega, rfl⟩)
  · refine j_iconst hx hb dX3_notMove_8 ?_
    refine lv_goto (tgt := 39) hx hb dX3_notMove_9 (by decide) ?_
    exact hret st hH dX3_notMove_39 (Nat.le_of_ble_eq_true rfl) (Nat.le_of_ble_eq_true rfl) (⟨by unfold nMove; split <;> (try split) <;> omega, rfl⟩)
theorem cw_X3_notRemove {R : Room} {s : State} {args : Array Value} {own : String} {index lev mc ms : Nat} (hts : ∀ w ∈ lw_all, w.before args s = true) (hl : Cond.methodLink own index yX3_notRemove ∈ lw_all) (hR1 : (rmL lev mc ms).frames + 1 ≤ R.frames) (hR2 : 8 + (2 + 11) + (rmL lev mc ms).locals ≤ R.locals) : CallW R s args own RX3 index yX3_notRemove cX3_notRemove 2 (some .int) (ws_ yX3_notRemove cX3_notRemove 2 (some .int)) (rmL lev mc ms) mc ms 1 :=
  cwV 1 hts (lw_V hl q2388 qs58 q116 q2389) rfl rfl rfl (by decide +kernel) ⟨hR1, hR2⟩
set_option maxHeartbeats 4000000 in
theorem m_X3_notRemove {E : jE} (l : Launch) (o : Nat) (st : Ms) (w0 : Wl) (T : Int) (n : Int) (h1 : PWF T (st 0)) (h2 : -2147483648 ≤ n ∧ n ≤ 2147483647) : Met l yX3_notRemove (ws_ yX3_notRemove cX3_notRemove 2 (some .int)) (rmL 3 0 0) (va_Pc [.ref o, .int (iI n)] (jP E (wM E o st w0))) (jQi E (fun u : Ms => wM E o u w0) (fun z u => z = nRem (st 0) n ∧ u = st)) 0 0 (jA E) := by
  refine j_metI (by decide) (Nat.le_of_ble_eq_true rfl) ?_
  intro p e s m args below meth c Q hx hb hml hown hnm hts hV hH hret ls hl
  have hl : lv_has ls 2 [(0, .ref o), (1, .int (iI n))] := hl
  refine lv_aload_n hx hb dX3_notRemove_0 rfl (lv_at hl 0 rfl) ?_
  refine lv_iload_n hx hb dX3_notRemove_1 rfl (lv_at hl 1 rfl) ?_
  refine j_callif (va_runV (As := [.int (iI n)]) (rest := []) ⟨hx, hb, hml, hown, hts⟩ (m_X3_isNode l o st w0 _ n (h1) (by omega)) (cw_X3_isNode hts q2335 (Nat.le_of_ble_eq_true rfl) (Nat.le_of_ble_eq_true rfl)) (j_preV hV hH wM_o rfl) rfl rfl hl.1 rfl (lv_room (Nat.le_of_ble_eq_true rfl)) dX3_notRemove_2 ⟨Nat.le_of_ble_eq_true rfl, Nat.le_of_ble_eq_true rfl⟩) hH (fun H locs hH => ?_)
  refine j_ifeq_b (tgt := 12) hx hb dX3_notRemove_5 (by decide) (fun c5 => ?_) (fun c5 => ?_)
  · refine j_iconst hx hb dX3_notRemove_12 ?_
    exact hret st hH dX3_notRemove_13 (Nat.le_of_ble_eq_true rfl) (Nat.le_of_ble_eq_true rfl) (⟨by unfold nRem; split <;> (try split) <;> omega, rfl⟩)
  · refine j_iconst hx hb dX3_notRemove_8 ?_
    refine lv_goto (tgt := 13) hx hb dX3_notRemove_9 (by decide) ?_
    exact hret st hH dX3_notRemove_13 (Nat.le_of_ble_eq_true rfl) (Nat.le_of_ble_eq_true rfl) (⟨by unfold nRem; split <;> (try split) <;> omega, rfl⟩)
theorem cw_X3_notScene {R : Room} {s : State} {args : Array Value} {own : String} {index lev mc ms : Nat} (hts : ∀ w ∈ lw_all, w.before args s = true) (hl : Cond.methodLink own index yX3_notScene ∈ lw_all) (hR1 : (rmL lev mc ms).frames + 1 ≤ R.frames) (hR2 : 8 + (4 + 11) + (rmL lev mc ms).locals ≤ R.locals) : CallW R s args own RX3 index yX3_notScene cX3_notScene 4 (some .int) (ws_ yX3_notScene cX3_notScene 4 (some .int)) (rmL lev mc ms) mc ms 3 :=
  cwV 3 hts (lw_V hl q2404 qs61 q116 q2405) rfl rfl rfl (by decide +kernel) ⟨hR1, hR2⟩
set_option maxHeartbeats 4000000 in
theorem m_X3_notScene {E : jE} (l : Launch) (o : Nat) (st : Ms) (w0 : Wl) (T : Int) (a : Int) (b : Int) (t : Int) (h1 : PWF T (st 0)) (h2 : -2147483648 ≤ a ∧ a ≤ 2147483647) (h3 : -2147483648 ≤ b ∧ b ≤ 2147483647) (h4 : -2147483648 ≤ t ∧ t ≤ 2147483647) : Met l yX3_notScene (ws_ yX3_notScene cX3_notScene 4 (some .int)) (rmL 2 0 0) (va_Pc [.ref o, .int (iI a), .int (iI b), .int (iI t)] (jP E (wM E o st w0))) (jQi E (fun u : Ms => wM E o u w0) (fun z u => z = nScn (st 0) a b t ∧ u = st)) 0 0 (jA E) := by
  refine j_metI (by decide) (Nat.le_of_ble_eq_true rfl) ?_
  intro p e s m args below meth c Q hx hb hml hown hnm hts hV hH hret ls hl
  have hl : lv_has ls 4 [(0, .ref o), (1, .int (iI a)), (2, .int (iI b)), (3, .int (iI t))] := hl
  have hA := h1.A
  refine lv_iload_n hx hb dX3_notScene_0 rfl (lv_at hl 1 rfl) ?_
  refine j_bipush hx hb dX3_notScene_1 (by decide) ?_
  refine j_iconst hx hb dX3_notScene_3 ?_
  refine j_callip (va_runS (As := [.int (iI a), .int (iI (-20)), .int (iI 0)]) (rest := []) ⟨hx, hb, hml, hown, hts⟩ (m_X3_in l _ a (-20) 0 (by omega) (by omega) (by omega)) (cw_X3_in hts q2313 (Nat.le_of_ble_eq_true rfl) (Nat.le_of_ble_eq_true rfl)) (j_preS hV hH) rfl rfl hl.1 rfl (lv_room (Nat.le_of_ble_eq_true rfl)) dX3_notScene_4 ⟨Nat.le_of_ble_eq_true rfl, Nat.le_of_ble_eq_true rfl⟩) hH (fun H locs hH => ?_)
  refine j_ifeq_b (tgt := 30) hx hb dX3_notScene_7 (by decide) (fun c7 => ?_) (fun c7 => ?_)
  · refine j_iconst hx hb dX3_notScene_30 ?_
    refine lv_goto (tgt := 50) hx hb dX3_notScene_31 (by decide) ?_
    exact hret st hH dX3_notScene_50 (Nat.le_of_ble_eq_true rfl) (Nat.le_of_ble_eq_true rfl) (⟨by unfold nScn; split <;> (try split) <;> omega, rfl⟩)
  · refine lv_iload_n hx hb dX3_notScene_10 rfl (lv_at hl 2 rfl) ?_
    refine j_iconst hx hb dX3_notScene_11 ?_
    refine j_bipush hx hb dX3_notScene_12 (by decide) ?_
    refine j_callip (va_runS (As := [.int (iI b), .int (iI 0), .int (iI 20)]) (rest := []) ⟨hx, hb, hml, hown, hts⟩ (m_X3_in l _ b 0 20 (by omega) (by omega) (by omega)) (cw_X3_in hts q2313 (Nat.le_of_ble_eq_true rfl) (Nat.le_of_ble_eq_true rfl)) (j_preS hV hH) rfl rfl hl.1 rfl (lv_room (Nat.le_of_ble_eq_true rfl)) dX3_notScene_14 ⟨Nat.le_of_ble_eq_true rfl, Nat.le_of_ble_eq_true rfl⟩) hH (fun H locs hH => ?_)
    refine j_ifeq_b (tgt := 30) hx hb dX3_notScene_17 (by decide) (fun c17 => ?_) (fun c17 => ?_)
    · refine j_iconst hx hb dX3_notScene_30 ?_
      refine lv_goto (tgt := 50) hx hb dX3_notScene_31 (by decide) ?_
      exact hret st hH dX3_notScene_50 (Nat.le_of_ble_eq_true rfl) (Nat.le_of_ble_eq_true rfl) (⟨by unfold nScn; split <;> (try split) <;> omega, rfl⟩)
    · refine lv_iload_n hx hb dX3_notScene_20 rfl (lv_at hl 3 rfl) ?_
      refine j_iconst hx hb dX3_notScene_21 ?_
      refine j_bipush hx hb dX3_notScene_22 (by decide) ?_
      refine j_callip (va_runS (As := [.int (iI t), .int (iI 1), .int (iI 50)]) (rest := []) ⟨hx, hb, hml, hown, hts⟩ (m_X3_in l _ t 1 50 (by omega) (by omega) (by omega)) (cw_X3_in hts q2313 (Nat.le_of_ble_eq_true rfl) (Nat.le_of_ble_eq_true rfl)) (j_preS hV hH) rfl rfl hl.1 rfl (lv_room (Nat.le_of_ble_eq_true rfl)) dX3_notScene_24 ⟨Nat.le_of_ble_eq_true rfl, Nat.le_of_ble_eq_true rfl⟩) hH (fun H locs hH => ?_)
      refine j_ifne_b (tgt := 34) hx hb dX3_notScene_27 (by decide) (fun c27 => ?_) (fun c27 => ?_)
      · refine lv_aload_n hx hb dX3_notScene_34 rfl (lv_at hl 0 rfl) ?_
        refine j_get hx hb hts hown hV hH wM_o rfl in_X3 0 (Nat.le_of_ble_eq_true rfl) q2229 (fun _ h => h) rfl dX3_notScene_35 ?_
        refine j_iconst hx hb dX3_notScene_38 ?_
        refine j_iald (n := 198) hx hb hV hH wM_0 (by omega) (by omega) dX3_notScene_39 ?_
        refine j_bipush hx hb dX3_notScene_40 (by decide) ?_
        refine j_icmp_ne (tgt := 49) hx hb dX3_notScene_42 (by decide) (by omega) (by omega) (fun c42 => ?_) (fun c42 => ?_)
        · refine j_iconst hx hb dX3_notScene_49 ?_
          exact hret st hH dX3_notScene_50 (Nat.le_of_ble_eq_true rfl) (Nat.le_of_ble_eq_true rfl) (⟨by unfold nScn; split <;> (try split) <;> omega, rfl⟩)
        · refine j_iconst hx hb dX3_notScene_45 ?_
          refine lv_goto (tgt := 50) hx hb dX3_notScene_46 (by decide) ?_
          exact hret st hH dX3_notScene_50 (Nat.le_of_ble_eq_true rfl) (Nat.le_of_ble_eq_true rfl) (⟨by unfold nScn; split <;> (try split) <;> omega, rfl⟩)
      · refine j_iconst hx hb dX3_notScene_30 ?_
        refine lv_goto (tgt := 50) hx hb dX3_notScene_31 (by decide) ?_
        exact hret st hH dX3_notScene_50 (Nat.le_of_ble_eq_true rfl) (Nat.le_of_ble_eq_true rfl) (⟨by unfold nScn; split <;> (try split) <;> omega, rfl⟩)
theorem cw_X3_notTitle {R : Room} {s : State} {args : Array Value} {own : String} {index lev mc ms : Nat} (hts : ∀ w ∈ lw_all, w.before args s = true) (hl : Cond.methodLink own index yX3_notTitle ∈ lw_all) (hR1 : (rmL lev mc ms).frames + 1 ≤ R.frames) (hR2 : 8 + (4 + 11) + (rmL lev mc ms).locals ≤ R.locals) : CallW R s args own RX3 index yX3_notTitle cX3_notTitle 4 (some .int) (ws_ yX3_notTitle cX3_notTitle 4 (some .int)) (rmL lev mc ms) mc ms 3 :=
  cwV 3 hts (lw_V hl q2427 qs64 q116 q2428) rfl rfl rfl (by decide +kernel) ⟨hR1, hR2⟩
set_option maxHeartbeats 4000000 in
theorem m_X3_notTitle {E : jE} (l : Launch) (o : Nat) (st : Ms) (w0 : Wl) (T : Int) (a : Int) (b : Int) (t : Int) (h1 : PWF T (st 0)) (h2 : -2147483648 ≤ a ∧ a ≤ 2147483647) (h3 : -2147483648 ≤ b ∧ b ≤ 2147483647) (h4 : -2147483648 ≤ t ∧ t ≤ 2147483647) : Met l yX3_notTitle (ws_ yX3_notTitle cX3_notTitle 4 (some .int)) (rmL 2 0 0) (va_Pc [.ref o, .int (iI a), .int (iI b), .int (iI t)] (jP E (wM E o st w0))) (jQi E (fun u : Ms => wM E o u w0) (fun z u => z = nTtl (st 0) a b t ∧ u = st)) 0 0 (jA E) := by
  refine j_metI (by decide) (Nat.le_of_ble_eq_true rfl) ?_
  intro p e s m args below meth c Q hx hb hml hown hnm hts hV hH hret ls hl
  have hl : lv_has ls 4 [(0, .ref o), (1, .int (iI a)), (2, .int (iI b)), (3, .int (iI t))] := hl
  have hA := h1.A
  refine lv_iload_n hx hb dX3_notTitle_0 rfl (lv_at hl 1 rfl) ?_
  refine j_iconst hx hb dX3_notTitle_1 ?_
  refine lv_aload_n hx hb dX3_notTitle_2 rfl (lv_at hl 0 rfl) ?_
  refine j_get hx hb hts hown hV hH wM_o rfl in_X3 0 (Nat.le_of_ble_eq_true rfl) q2229 (fun _ h => h) rfl dX3_notTitle_3 ?_
  refine j_iconst hx hb dX3_notTitle_6 ?_
  refine j_iald (n := 198) hx hb hV hH wM_0 (by omega) (by omega) dX3_notTitle_7 ?_
  refine j_iconst hx hb dX3_notTitle_8 ?_
  refine j_isub hx hb dX3_notTitle_9 ?_
  refine j_callip (va_runS (As := [.int (iI a), .int (iI 0), .int (iI ((st 0 0) - 1))]) (rest := []) ⟨hx, hb, hml, hown, hts⟩ (m_X3_in l _ a 0 ((st 0 0) - 1) (by omega) (by omega) (by omega)) (cw_X3_in hts q2313 (Nat.le_of_ble_eq_true rfl) (Nat.le_of_ble_eq_true rfl)) (j_preS hV hH) rfl rfl hl.1 rfl (lv_room (Nat.le_of_ble_eq_true rfl)) dX3_notTitle_10 ⟨Nat.le_of_ble_eq_true rfl, Nat.le_of_ble_eq_true rfl⟩) hH (fun H locs hH => ?_)
  refine j_ifeq_b (tgt := 46) hx hb dX3_notTitle_13 (by decide) (fun c13 => ?_) (fun c13 => ?_)
  · refine j_iconst hx hb dX3_notTitle_46 ?_
    exact hret st hH dX3_notTitle_47 (Nat.le_of_ble_eq_true rfl) (Nat.le_of_ble_eq_true rfl) (⟨by unfold nTtl; split <;> (try split) <;> omega, rfl⟩)
  · refine lv_iload_n hx hb dX3_notTitle_16 rfl (lv_at hl 2 rfl) ?_
    refine j_iconst hx hb dX3_notTitle_17 ?_
    refine lv_aload_n hx hb dX3_notTitle_18 rfl (lv_at hl 0 rfl) ?_
    refine j_get hx hb hts hown hV hH wM_o rfl in_X3 0 (Nat.le_of_ble_eq_true rfl) q2229 (fun _ h => h) rfl dX3_notTitle_19 ?_
    refine j_iconst hx hb dX3_notTitle_22 ?_
    refine j_iald (n := 198) hx hb hV hH wM_0 (by omega) (by omega) dX3_notTitle_23 ?_
    refine j_iconst hx hb dX3_notTitle_24 ?_
    refine j_isub hx hb dX3_notTitle_25 ?_
    refine j_callip (va_runS (As := [.int (iI b), .int (iI 0), .int (iI ((st 0 1) - 1))]) (rest := []) ⟨hx, hb, hml, hown, hts⟩ (m_X3_in l _ b 0 ((st 0 1) - 1) (by omega) (by omega) (by omega)) (cw_X3_in hts q2313 (Nat.le_of_ble_eq_true rfl) (Nat.le_of_ble_eq_true rfl)) (j_preS hV hH) rfl rfl hl.1 rfl (lv_room (Nat.le_of_ble_eq_true rfl)) dX3_notTitle_26 ⟨Nat.le_of_ble_eq_true rfl, Nat.le_of_ble_eq_true rfl⟩) hH (fun H locs hH => ?_)
    refine j_ifeq_b (tgt := 46) hx hb dX3_notTitle_29 (by decide) (fun c29 => ?_) (fun c29 => ?_)
    · refine j_iconst hx hb dX3_notTitle_46 ?_
      exact hret st hH dX3_notTitle_47 (Nat.le_of_ble_eq_true rfl) (Nat.le_of_ble_eq_true rfl) (⟨by unfold nTtl; split <;> (try split) <;> omega, rfl⟩)
    · refine lv_iload_n hx hb dX3_notTitle_32 rfl (lv_at hl 3 rfl) ?_
      refine j_iconst hx hb dX3_notTitle_33 ?_
      refine j_bipush hx hb dX3_notTitle_34 (by decide) ?_
      refine j_callip (va_runS (As := [.int (iI t), .int (iI 1), .int (iI 40)]) (rest := []) ⟨hx, hb, hml, hown, hts⟩ (m_X3_in l _ t 1 40 (by omega) (by omega) (by omega)) (cw_X3_in hts q2313 (Nat.le_of_ble_eq_true rfl) (Nat.le_of_ble_eq_true rfl)) (j_preS hV hH) rfl rfl hl.1 rfl (lv_room (Nat.le_of_ble_eq_true rfl)) dX3_notTitle_36 ⟨Nat.le_of_ble_eq_true rfl, Nat.le_of_ble_eq_true rfl⟩) hH (fun H locs hH => ?_)
      refine j_ifeq_b (tgt := 46) hx hb dX3_notTitle_39 (by decide) (fun c39 => ?_) (fun c39 => ?_)
      · refine j_iconst hx hb dX3_notTitle_46 ?_
        exact hret st hH dX3_notTitle_47 (Nat.le_of_ble_eq_true rfl) (Nat.le_of_ble_eq_true rfl) (⟨by unfold nTtl; split <;> (try split) <;> omega, rfl⟩)
      · refine j_iconst hx hb dX3_notTitle_42 ?_
        refine lv_goto (tgt := 47) hx hb dX3_notTitle_43 (by decide) ?_
        exact hret st hH dX3_notTitle_47 (Nat.le_of_ble_eq_true rfl) (Nat.le_of_ble_eq_true rfl) (⟨by unfold nTtl; split <;> (try split) <;> omega, rfl⟩)
theorem cw_X3_begin {R : Room} {s : State} {args : Array Value} {own : String} {index lev mc ms : Nat} (hts : ∀ w ∈ lw_all, w.before args s = true) (hl : Cond.methodLink own index yX3_begin ∈ lw_all) (hR1 : (rmL lev mc ms).frames + 1 ≤ R.frames) (hR2 : 8 + (3 + 11) + (rmL lev mc ms).locals ≤ R.locals) : CallW R s args own RX3 index yX3_begin cX3_begin 3 (some .int) (ws_ yX3_begin cX3_begin 3 (some .int)) (rmL lev mc ms) mc ms 2 :=
  cwV 2 hts (lw_V hl q2307 q2308 q116 q2309) rfl rfl rfl (by decide +kernel) ⟨hR1, hR2⟩
set_option maxHeartbeats 4000000 in
theorem m_X3_begin {E : jE} (l : Launch) (o : Nat) (st : Ms) (w0 : Wl) (T : Int) (w1 : Int) (h1_ : Int) (h1 : PWF T (st 0)) (h2 : 0 ≤ st 3 0 ∧ st 3 0 ≤ 4) (h3 : -2147483648 ≤ w1 ∧ w1 ≤ 2147483647) (h4 : -2147483648 ≤ h1_ ∧ h1_ ≤ 2147483647) : Met l yX3_begin (ws_ yX3_begin cX3_begin 3 (some .int)) (rmL 3 0 0) (va_Pc [.ref o, .int (iI w1), .int (iI h1_)] (jP E (wM E o st w0))) (jQi E (fun u : Ms => wM E o u w0) (fun z u => z = (if nBegin w1 h1_ = 0 then st 0 4 else 0) ∧ u = wrS st (nBegin w1 h1_) (anwP (st 0) w1 h1_))) 0 0 (jA E) := by
  refine j_metI (by decide) (Nat.le_of_ble_eq_true rfl) ?_
  intro p e s m args below meth c Q hx hb hml hown hnm hts hV hH hret ls hl
  have hl : lv_has ls 3 [(0, .ref o), (1, .int (iI w1)), (2, .int (iI h1_))] := hl
  have hA := h1.A
  have hcb : 0 ≤ nBegin w1 h1_ ∧ nBegin w1 h1_ ≤ 3 := by first | omega | (unfold nBegin; split <;> (try split) <;> (try split) <;> omega)
  refine lv_aload_n hx hb dX3_begin_0 rfl (lv_at hl 0 rfl) ?_
  refine lv_iload_n hx hb dX3_begin_1 rfl (lv_at hl 1 rfl) ?_
  refine lv_iload_n hx hb dX3_begin_2 rfl (lv_at hl 2 rfl) ?_
  refine j_callip (va_runS (As := [.int (iI w1), .int (iI h1_)]) (rest := [.ref o]) ⟨hx, hb, hml, hown, hts⟩ (m_X3_notBegin l _ w1 h1_ (by omega) (by omega)) (cw_X3_notBegin hts q2310 (Nat.le_of_ble_eq_true rfl) (Nat.le_of_ble_eq_true rfl)) (j_preS hV hH) rfl rfl hl.1 rfl (lv_room (Nat.le_of_ble_eq_true rfl)) dX3_begin_3 ⟨Nat.le_of_ble_eq_true rfl, Nat.le_of_ble_eq_true rfl⟩) hH (fun H locs hH => ?_)
  refine j_put hx hb hts hown hV hH wM_o rfl in_X3 tyX3 tyX3_ok nmX3 6 (Nat.le_of_ble_eq_true rfl) q2235 (fun _ h => h) rfl rfl rfl (Nat.le_of_ble_eq_true rfl) dX3_begin_6 (fun H locs hH => ?_)
  rw [wM_f6] at hH
  refine lv_aload_n hx hb dX3_begin_9 rfl (lv_at hl 0 rfl) ?_
  refine j_get hx hb hts hown hV hH wM_o rfl in_X3 6 (Nat.le_of_ble_eq_true rfl) q2235 (fun _ h => h) rfl dX3_begin_10 ?_
  refine j_top (b := nBegin w1 h1_) rfl ?_
  refine j_if_eq (tgt := 18) hx hb dX3_begin_13 (by decide) (by omega) (fun c13 => ?_) (fun c13 => ?_)
  · refine lv_aload_n hx hb dX3_begin_18 rfl (lv_at hl 0 rfl) ?_
    refine j_callvf (va_runV (As := []) (rest := []) ⟨hx, hb, hml, hown, hts⟩ (m_X3_keep l o (su st 6 0 (nBegin w1 h1_)) w0 (show 0 ≤ st 3 0 ∧ st 3 0 ≤ 4 by omega)) (cw_X3_keep hts q2316 (Nat.le_of_ble_eq_true rfl) (Nat.le_of_ble_eq_true rfl)) (j_preV hV hH wM_o rfl) rfl rfl hl.1 rfl (lv_room (Nat.le_of_ble_eq_true rfl)) dX3_begin_19 ⟨Nat.le_of_ble_eq_true rfl, Nat.le_of_ble_eq_true rfl⟩) hH (fun H locs hH => ?_)
    refine lv_aload_n hx hb dX3_begin_22 rfl (lv_at hl 0 rfl) ?_
    refine lv_iload_n hx hb dX3_begin_23 rfl (lv_at hl 1 rfl) ?_
    refine lv_iload_n hx hb dX3_begin_24 rfl (lv_at hl 2 rfl) ?_
    refine j_callif (va_runV (As := [.int (iI w1), .int (iI h1_)]) (rest := []) ⟨hx, hb, hml, hown, hts⟩ (m_X3_begins l o (kep (su st 6 0 (nBegin w1 h1_))) w0 w1 h1_) (cw_X3_begins hts q2323 (Nat.le_of_ble_eq_true rfl) (Nat.le_of_ble_eq_true rfl)) (j_preV hV hH wM_o rfl) rfl rfl hl.1 rfl (lv_room (Nat.le_of_ble_eq_true rfl)) dX3_begin_25 ⟨Nat.le_of_ble_eq_true rfl, Nat.le_of_ble_eq_true rfl⟩) hH (fun H locs hH => ?_)
    have hH : jH E s.heap (wM E o (sp (kep (su st 6 0 (nBegin w1 h1_))) (anwP (st 0) w1 h1_)) w0) H locs := hH
    refine j_top (b := st 0 4) rfl ?_
    exact hret (sp (kep (su st 6 0 (nBegin w1 h1_))) (anwP (st 0) w1 h1_)) hH dX3_begin_28 (Nat.le_of_ble_eq_true rfl) (Nat.le_of_ble_eq_true rfl) (⟨(if_pos c13).symm, wrS_y c13⟩)
  · refine j_iconst hx hb dX3_begin_16 ?_
    exact hret (su st 6 0 (nBegin w1 h1_)) hH dX3_begin_17 (Nat.le_of_ble_eq_true rfl) (Nat.le_of_ble_eq_true rfl) (⟨(if_neg c13).symm, wrS_n c13⟩)
theorem cw_X3_addGroup {R : Room} {s : State} {args : Array Value} {own : String} {index lev mc ms : Nat} (hts : ∀ w ∈ lw_all, w.before args s = true) (hl : Cond.methodLink own index yX3_addGroup ∈ lw_all) (hR1 : (rmL lev mc ms).frames + 1 ≤ R.frames) (hR2 : 8 + (5 + 11) + (rmL lev mc ms).locals ≤ R.locals) : CallW R s args own RX3 index yX3_addGroup cX3_addGroup 5 (some .int) (ws_ yX3_addGroup cX3_addGroup 5 (some .int)) (rmL lev mc ms) mc ms 4 :=
  cwV 4 hts (lw_V hl q2328 q2329 q116 q2330) rfl rfl rfl (by decide +kernel) ⟨hR1, hR2⟩
set_option maxHeartbeats 4000000 in
theorem m_X3_addGroup {E : jE} (l : Launch) (o : Nat) (st : Ms) (w0 : Wl) (T : Int) (pa : Int) (dx : Int) (dy : Int) (dz : Int) (h1 : PWF T (st 0)) (h2 : 0 ≤ st 3 0 ∧ st 3 0 ≤ 4) (h3 : -2147483648 ≤ pa ∧ pa ≤ 2147483647) (h4 : -2147483648 ≤ dx ∧ dx ≤ 2147483647) (h5 : -2147483648 ≤ dy ∧ dy ≤ 2147483647) (h6 : -2147483648 ≤ dz ∧ dz ≤ 2147483647) : Met l yX3_addGroup (ws_ yX3_addGroup cX3_addGroup 5 (some .int)) (rmL 4 0 0) (va_Pc [.ref o, .int (iI pa), .int (iI dx), .int (iI dy), .int (iI dz)] (jP E (wM E o st w0))) (jQi E (fun u : Ms => wM E o u w0) (fun z u => z = (if nAdd (st 0) pa dx dy dz = 0 then st 0 2 else 0) ∧ u = wrS st (nAdd (st 0) pa dx dy dz) (addP (st 0) pa dx dy dz 0 0))) 0 0 (jA E) := by
  refine j_metI (by decide) (Nat.le_of_ble_eq_true rfl) ?_
  intro p e s m args below meth c Q hx hb hml hown hnm hts hV hH hret ls hl
  have hl : lv_has ls 5 [(0, .ref o), (1, .int (iI pa)), (2, .int (iI dx)), (3, .int (iI dy)), (4, .int (iI dz))] := hl
  have hA := h1.A
  have hor := nAdd_or (st 0) pa dx dy dz
  have hcb : 0 ≤ nAdd (st 0) pa dx dy dz ∧ nAdd (st 0) pa dx dy dz ≤ 3 := by first | omega | (unfold nAdd; split <;> (try split) <;> (try split) <;> omega)
  refine lv_aload_n hx hb dX3_addGroup_0 rfl (lv_at hl 0 rfl) ?_
  refine lv_aload_n hx hb dX3_addGroup_1 rfl (lv_at hl 0 rfl) ?_
  refine lv_iload_n hx hb dX3_addGroup_2 rfl (lv_at hl 1 rfl) ?_
  refine lv_iload_n hx hb dX3_addGroup_3 rfl (lv_at hl 2 rfl) ?_
  refine lv_iload_n hx hb dX3_addGroup_4 rfl (lv_at hl 3 rfl) ?_
  refine lv_iload hx hb dX3_addGroup_5 (lv_at hl 4 rfl) ?_
  refine j_callif (va_runV (As := [.int (iI pa), .int (iI dx), .int (iI dy), .int (iI dz)]) (rest := [.ref o]) ⟨hx, hb, hml, hown, hts⟩ (m_X3_notAdd l o st w0 _ pa dx dy dz (h1) (by omega) (by omega) (by omega) (by omega)) (cw_X3_notAdd hts q2331 (Nat.le_of_ble_eq_true rfl) (Nat.le_of_ble_eq_true rfl)) (j_preV hV hH wM_o rfl) rfl rfl hl.1 rfl (lv_room (Nat.le_of_ble_eq_true rfl)) dX3_addGroup_7 ⟨Nat.le_of_ble_eq_true rfl, Nat.le_of_ble_eq_true rfl⟩) hH (fun H locs hH => ?_)
  refine j_put hx hb hts hown hV hH wM_o rfl in_X3 tyX3 tyX3_ok nmX3 6 (Nat.le_of_ble_eq_true rfl) q2235 (fun _ h => h) rfl rfl rfl (Nat.le_of_ble_eq_true rfl) dX3_addGroup_10 (fun H locs hH => ?_)
  rw [wM_f6] at hH
  refine lv_aload_n hx hb dX3_addGroup_13 rfl (lv_at hl 0 rfl) ?_
  refine j_get hx hb hts hown hV hH wM_o rfl in_X3 6 (Nat.le_of_ble_eq_true rfl) q2235 (fun _ h => h) rfl dX3_addGroup_14 ?_
  refine j_top (b := nAdd (st 0) pa dx dy dz) rfl ?_
  refine j_if_eq (tgt := 22) hx hb dX3_addGroup_17 (by decide) (by omega) (fun c17 => ?_) (fun c17 => ?_)
  · refine lv_aload_n hx hb dX3_addGroup_22 rfl (lv_at hl 0 rfl) ?_
    refine j_callvf (va_runV (As := []) (rest := []) ⟨hx, hb, hml, hown, hts⟩ (m_X3_keep l o (su st 6 0 (nAdd (st 0) pa dx dy dz)) w0 (show 0 ≤ st 3 0 ∧ st 3 0 ≤ 4 by omega)) (cw_X3_keep hts q2316 (Nat.le_of_ble_eq_true rfl) (Nat.le_of_ble_eq_true rfl)) (j_preV hV hH wM_o rfl) rfl rfl hl.1 rfl (lv_room (Nat.le_of_ble_eq_true rfl)) dX3_addGroup_23 ⟨Nat.le_of_ble_eq_true rfl, Nat.le_of_ble_eq_true rfl⟩) hH (fun H locs hH => ?_)
    refine lv_aload_n hx hb dX3_addGroup_26 rfl (lv_at hl 0 rfl) ?_
    refine lv_iload_n hx hb dX3_addGroup_27 rfl (lv_at hl 1 rfl) ?_
    refine lv_iload_n hx hb dX3_addGroup_28 rfl (lv_at hl 2 rfl) ?_
    refine lv_iload_n hx hb dX3_addGroup_29 rfl (lv_at hl 3 rfl) ?_
    refine lv_iload hx hb dX3_addGroup_30 (lv_at hl 4 rfl) ?_
    refine j_iconst hx hb dX3_addGroup_32 ?_
    refine j_iconst hx hb dX3_addGroup_33 ?_
    refine j_callif (va_runV (As := [.int (iI pa), .int (iI dx), .int (iI dy), .int (iI dz), .int (iI 0), .int (iI 0)]) (rest := []) ⟨hx, hb, hml, hown, hts⟩ (m_X3_adds l o (kep (su st 6 0 (nAdd (st 0) pa dx dy dz))) w0 pa dx dy dz 0 0 (show 0 ≤ st 0 2 ∧ st 0 2 < 20 by omega)) (cw_X3_adds hts q2354 (Nat.le_of_ble_eq_true rfl) (Nat.le_of_ble_eq_true rfl)) (j_preV hV hH wM_o rfl) rfl rfl hl.1 rfl (lv_room (Nat.le_of_ble_eq_true rfl)) dX3_addGroup_34 ⟨Nat.le_of_ble_eq_true rfl, Nat.le_of_ble_eq_true rfl⟩) hH (fun H locs hH => ?_)
    have hH : jH E s.heap (wM E o (sp (kep (su st 6 0 (nAdd (st 0) pa dx dy dz))) (addP (st 0) pa dx dy dz 0 0)) w0) H locs := hH
    refine j_top (b := st 0 2) rfl ?_
    exact hret (sp (kep (su st 6 0 (nAdd (st 0) pa dx dy dz))) (addP (st 0) pa dx dy dz 0 0)) hH dX3_addGroup_37 (Nat.le_of_ble_eq_true rfl) (Nat.le_of_ble_eq_true rfl) (⟨(if_pos c17).symm, wrS_y c17⟩)
  · refine j_iconst hx hb dX3_addGroup_20 ?_
    exact hret (su st 6 0 (nAdd (st 0) pa dx dy dz)) hH dX3_addGroup_21 (Nat.le_of_ble_eq_true rfl) (Nat.le_of_ble_eq_true rfl) (⟨(if_neg c17).symm, wrS_n c17⟩)
theorem cw_X3_addBox {R : Room} {s : State} {args : Array Value} {own : String} {index lev mc ms : Nat} (hts : ∀ w ∈ lw_all, w.before args s = true) (hl : Cond.methodLink own index yX3_addBox ∈ lw_all) (hR1 : (rmL lev mc ms).frames + 1 ≤ R.frames) (hR2 : 8 + (7 + 11) + (rmL lev mc ms).locals ≤ R.locals) : CallW R s args own RX3 index yX3_addBox cX3_addBox 7 (some .int) (ws_ yX3_addBox cX3_addBox 7 (some .int)) (rmL lev mc ms) mc ms 6 :=
  cwV 6 hts (lw_V hl q2359 q2360 q116 q2361) rfl rfl rfl (by decide +kernel) ⟨hR1, hR2⟩
set_option maxHeartbeats 4000000 in
theorem m_X3_addBox {E : jE} (l : Launch) (o : Nat) (st : Ms) (w0 : Wl) (T : Int) (pa : Int) (dx : Int) (dy : Int) (dz : Int) (w1 : Int) (h1_ : Int) (h1 : PWF T (st 0)) (h2 : 0 ≤ st 3 0 ∧ st 3 0 ≤ 4) (h3 : -2147483648 ≤ pa ∧ pa ≤ 2147483647) (h4 : -2147483648 ≤ dx ∧ dx ≤ 2147483647) (h5 : -2147483648 ≤ dy ∧ dy ≤ 2147483647) (h6 : -2147483648 ≤ dz ∧ dz ≤ 2147483647) (h7 : -2147483648 ≤ w1 ∧ w1 ≤ 2147483647) (h8 : -2147483648 ≤ h1_ ∧ h1_ ≤ 2147483647) : Met l yX3_addBox (ws_ yX3_addBox cX3_addBox 7 (some .int)) (rmL 5 0 0) (va_Pc [.ref o, .int (iI pa), .int (iI dx), .int (iI dy), .int (iI dz), .int (iI w1), .int (iI h1_)] (jP E (wM E o st w0))) (jQi E (fun u : Ms => wM E o u w0) (fun z u => z = (if nBox (st 0) pa dx dy dz w1 h1_ = 0 then st 0 2 else 0) ∧ u = wrS st (nBox (st 0) pa dx dy dz w1 h1_) (addP (st 0) pa dx dy dz w1 h1_))) 0 0 (jA E) := by
  refine j_metI (by decide) (Nat.le_of_ble_eq_true rfl) ?_
  intro p e s m args below meth c Q hx hb hml hown hnm hts hV hH hret ls hl
  have hl : lv_has ls 7 [(0, .ref o), (1, .int (iI pa)), (2, .int (iI dx)), (3, .int (iI dy)), (4, .int (iI dz)), (5, .int (iI w1)), (6, .int (iI h1_))] := hl
  have hA := h1.A
  have hor := nAdd_or (st 0) pa dx dy dz
  have hbx : nBox (st 0) pa dx dy dz w1 h1_ = nAdd (st 0) pa dx dy dz ∨ nBox (st 0) pa dx dy dz w1 h1_ = 2 := by unfold nBox; split; exact Or.inr rfl; exact Or.inl rfl
  have hcb : 0 ≤ nBox (st 0) pa dx dy dz w1 h1_ ∧ nBox (st 0) pa dx dy dz w1 h1_ ≤ 3 := by first | omega | (unfold nBox; split <;> (try split) <;> (try split) <;> omega)
  refine lv_aload_n hx hb dX3_addBox_0 rfl (lv_at hl 0 rfl) ?_
  refine lv_aload_n hx hb dX3_addBox_1 rfl (lv_at hl 0 rfl) ?_
  refine lv_iload_n hx hb dX3_addBox_2 rfl (lv_at hl 1 rfl) ?_
  refine lv_iload_n hx hb dX3_addBox_3 rfl (lv_at hl 2 rfl) ?_
  refine lv_iload_n hx hb dX3_addBox_4 rfl (lv_at hl 3 rfl) ?_
  refine lv_iload hx hb dX3_addBox_5 (lv_at hl 4 rfl) ?_
  refine lv_iload hx hb dX3_addBox_7 (lv_at hl 5 rfl) ?_
  refine lv_iload hx hb dX3_addBox_9 (lv_at hl 6 rfl) ?_
  refine j_callif (va_runV (As := [.int (iI pa), .int (iI dx), .int (iI dy), .int (iI dz), .int (iI w1), .int (iI h1_)]) (rest := [.ref o]) ⟨hx, hb, hml, hown, hts⟩ (m_X3_notBox l o st w0 _ pa dx dy dz w1 h1_ (h1) (by omega) (by omega) (by omega) (by omega) (by omega) (by omega)) (cw_X3_notBox hts q2362 (Nat.le_of_ble_eq_true rfl) (Nat.le_of_ble_eq_true rfl)) (j_preV hV hH wM_o rfl) rfl rfl hl.1 rfl (lv_room (Nat.le_of_ble_eq_true rfl)) dX3_addBox_11 ⟨Nat.le_of_ble_eq_true rfl, Nat.le_of_ble_eq_true rfl⟩) hH (fun H locs hH => ?_)
  refine j_put hx hb hts hown hV hH wM_o rfl in_X3 tyX3 tyX3_ok nmX3 6 (Nat.le_of_ble_eq_true rfl) q2235 (fun _ h => h) rfl rfl rfl (Nat.le_of_ble_eq_true rfl) dX3_addBox_14 (fun H locs hH => ?_)
  rw [wM_f6] at hH
  refine lv_aload_n hx hb dX3_addBox_17 rfl (lv_at hl 0 rfl) ?_
  refine j_get hx hb hts hown hV hH wM_o rfl in_X3 6 (Nat.le_of_ble_eq_true rfl) q2235 (fun _ h => h) rfl dX3_addBox_18 ?_
  refine j_top (b := nBox (st 0) pa dx dy dz w1 h1_) rfl ?_
  refine j_if_eq (tgt := 26) hx hb dX3_addBox_21 (by decide) (by omega) (fun c21 => ?_) (fun c21 => ?_)
  · refine lv_aload_n hx hb dX3_addBox_26 rfl (lv_at hl 0 rfl) ?_
    refine j_callvf (va_runV (As := []) (rest := []) ⟨hx, hb, hml, hown, hts⟩ (m_X3_keep l o (su st 6 0 (nBox (st 0) pa dx dy dz w1 h1_)) w0 (show 0 ≤ st 3 0 ∧ st 3 0 ≤ 4 by omega)) (cw_X3_keep hts q2316 (Nat.le_of_ble_eq_true rfl) (Nat.le_of_ble_eq_true rfl)) (j_preV hV hH wM_o rfl) rfl rfl hl.1 rfl (lv_room (Nat.le_of_ble_eq_true rfl)) dX3_addBox_27 ⟨Nat.le_of_ble_eq_true rfl, Nat.le_of_ble_eq_true rfl⟩) hH (fun H locs hH => ?_)
    refine lv_aload_n hx hb dX3_addBox_30 rfl (lv_at hl 0 rfl) ?_
    refine lv_iload_n hx hb dX3_addBox_31 rfl (lv_at hl 1 rfl) ?_
    refine lv_iload_n hx hb dX3_addBox_32 rfl (lv_at hl 2 rfl) ?_
    refine lv_iload_n hx hb dX3_addBox_33 rfl (lv_at hl 3 rfl) ?_
    refine lv_iload hx hb dX3_addBox_34 (lv_at hl 4 rfl) ?_
    refine lv_iload hx hb dX3_addBox_36 (lv_at hl 5 rfl) ?_
    refine lv_iload hx hb dX3_addBox_38 (lv_at hl 6 rfl) ?_
    refine j_callif (va_runV (As := [.int (iI pa), .int (iI dx), .int (iI dy), .int (iI dz), .int (iI w1), .int (iI h1_)]) (rest := []) ⟨hx, hb, hml, hown, hts⟩ (m_X3_adds l o (kep (su st 6 0 (nBox (st 0) pa dx dy dz w1 h1_))) w0 pa dx dy dz w1 h1_ (show 0 ≤ st 0 2 ∧ st 0 2 < 20 by omega)) (cw_X3_adds hts q2354 (Nat.le_of_ble_eq_true rfl) (Nat.le_of_ble_eq_true rfl)) (j_preV hV hH wM_o rfl) rfl rfl hl.1 rfl (lv_room (Nat.le_of_ble_eq_true rfl)) dX3_addBox_40 ⟨Nat.le_of_ble_eq_true rfl, Nat.le_of_ble_eq_true rfl⟩) hH (fun H locs hH => ?_)
    have hH : jH E s.heap (wM E o (sp (kep (su st 6 0 (nBox (st 0) pa dx dy dz w1 h1_))) (addP (st 0) pa dx dy dz w1 h1_)) w0) H locs := hH
    refine j_top (b := st 0 2) rfl ?_
    exact hret (sp (kep (su st 6 0 (nBox (st 0) pa dx dy dz w1 h1_))) (addP (st 0) pa dx dy dz w1 h1_)) hH dX3_addBox_43 (Nat.le_of_ble_eq_true rfl) (Nat.le_of_ble_eq_true rfl) (⟨(if_pos c21).symm, wrS_y c21⟩)
  · refine j_iconst hx hb dX3_addBox_24 ?_
    exact hret (su st 6 0 (nBox (st 0) pa dx dy dz w1 h1_)) hH dX3_addBox_25 (Nat.le_of_ble_eq_true rfl) (Nat.le_of_ble_eq_true rfl) (⟨(if_neg c21).symm, wrS_n c21⟩)
theorem cw_X3_move {R : Room} {s : State} {args : Array Value} {own : String} {index lev mc ms : Nat} (hts : ∀ w ∈ lw_all, w.before args s = true) (hl : Cond.methodLink own index yX3_move ∈ lw_all) (hR1 : (rmL lev mc ms).frames + 1 ≤ R.frames) (hR2 : 8 + (5 + 11) + (rmL lev mc ms).locals ≤ R.locals) : CallW R s args own RX3 index yX3_move cX3_move 5 (some .int) (ws_ yX3_move cX3_move 5 (some .int)) (rmL lev mc ms) mc ms 4 :=
  cwV 4 hts (lw_V hl q2367 q2368 q116 q2369) rfl rfl rfl (by decide +kernel) ⟨hR1, hR2⟩
set_option maxHeartbeats 4000000 in
theorem m_X3_move {E : jE} (l : Launch) (o : Nat) (st : Ms) (w0 : Wl) (T : Int) (n : Int) (dx : Int) (dy : Int) (dz : Int) (h1 : PWF T (st 0)) (h2 : 0 ≤ st 3 0 ∧ st 3 0 ≤ 4) (h3 : -2147483648 ≤ n ∧ n ≤ 2147483647) (h4 : -2147483648 ≤ dx ∧ dx ≤ 2147483647) (h5 : -2147483648 ≤ dy ∧ dy ≤ 2147483647) (h6 : -2147483648 ≤ dz ∧ dz ≤ 2147483647) : Met l yX3_move (ws_ yX3_move cX3_move 5 (some .int)) (rmL 4 0 0) (va_Pc [.ref o, .int (iI n), .int (iI dx), .int (iI dy), .int (iI dz)] (jP E (wM E o st w0))) (jQi E (fun u : Ms => wM E o u w0) (fun z u => z = (if nMove (st 0) n dx dy dz = 0 then nd (st 0) n 3 else 0) ∧ u = wrS st (nMove (st 0) n dx dy dz) (movP (st 0) n dx dy dz))) 0 0 (jA E) := by
  refine j_metI (by decide) (Nat.le_of_ble_eq_true rfl) ?_
  intro p e s m args below meth c Q hx hb hml hown hnm hts hV hH hret ls hl
  have hl : lv_has ls 5 [(0, .ref o), (1, .int (iI n)), (2, .int (iI dx)), (3, .int (iI dy)), (4, .int (iI dz))] := hl
  have hA := h1.A
  have hmv : (nMove (st 0) n dx dy dz ≠ 0) ∨ (0 ≤ n ∧ n < st 0 2) := by unfold nMove; split; exact Or.inr (by assumption); exact Or.inl (by decide)
  have hcb : 0 ≤ nMove (st 0) n dx dy dz ∧ nMove (st 0) n dx dy dz ≤ 3 := by first | omega | (unfold nMove; split <;> (try split) <;> (try split) <;> omega)
  refine lv_aload_n hx hb dX3_move_0 rfl (lv_at hl 0 rfl) ?_
  refine lv_aload_n hx hb dX3_move_1 rfl (lv_at hl 0 rfl) ?_
  refine lv_iload_n hx hb dX3_move_2 rfl (lv_at hl 1 rfl) ?_
  refine lv_iload_n hx hb dX3_move_3 rfl (lv_at hl 2 rfl) ?_
  refine lv_iload_n hx hb dX3_move_4 rfl (lv_at hl 3 rfl) ?_
  refine lv_iload hx hb dX3_move_5 (lv_at hl 4 rfl) ?_
  refine j_callif (va_runV (As := [.int (iI n), .int (iI dx), .int (iI dy), .int (iI dz)]) (rest := [.ref o]) ⟨hx, hb, hml, hown, hts⟩ (m_X3_notMove l o st w0 _ n dx dy dz (h1) (by omega) (by omega) (by omega) (by omega)) (cw_X3_notMove hts q2370 (Nat.le_of_ble_eq_true rfl) (Nat.le_of_ble_eq_true rfl)) (j_preV hV hH wM_o rfl) rfl rfl hl.1 rfl (lv_room (Nat.le_of_ble_eq_true rfl)) dX3_move_7 ⟨Nat.le_of_ble_eq_true rfl, Nat.le_of_ble_eq_true rfl⟩) hH (fun H locs hH => ?_)
  refine j_put hx hb hts hown hV hH wM_o rfl in_X3 tyX3 tyX3_ok nmX3 6 (Nat.le_of_ble_eq_true rfl) q2235 (fun _ h => h) rfl rfl rfl (Nat.le_of_ble_eq_true rfl) dX3_move_10 (fun H locs hH => ?_)
  rw [wM_f6] at hH
  refine lv_aload_n hx hb dX3_move_13 rfl (lv_at hl 0 rfl) ?_
  refine j_get hx hb hts hown hV hH wM_o rfl in_X3 6 (Nat.le_of_ble_eq_true rfl) q2235 (fun _ h => h) rfl dX3_move_14 ?_
  refine j_top (b := nMove (st 0) n dx dy dz) rfl ?_
  refine j_if_eq (tgt := 22) hx hb dX3_move_17 (by decide) (by omega) (fun c17 => ?_) (fun c17 => ?_)
  · refine lv_aload_n hx hb dX3_move_22 rfl (lv_at hl 0 rfl) ?_
    refine j_callvf (va_runV (As := []) (rest := []) ⟨hx, hb, hml, hown, hts⟩ (m_X3_keep l o (su st 6 0 (nMove (st 0) n dx dy dz)) w0 (show 0 ≤ st 3 0 ∧ st 3 0 ≤ 4 by omega)) (cw_X3_keep hts q2316 (Nat.le_of_ble_eq_true rfl) (Nat.le_of_ble_eq_true rfl)) (j_preV hV hH wM_o rfl) rfl rfl hl.1 rfl (lv_room (Nat.le_of_ble_eq_true rfl)) dX3_move_23 ⟨Nat.le_of_ble_eq_true rfl, Nat.le_of_ble_eq_true rfl⟩) hH (fun H locs hH => ?_)
    refine lv_aload_n hx hb dX3_move_26 rfl (lv_at hl 0 rfl) ?_
    refine lv_iload_n hx hb dX3_move_27 rfl (lv_at hl 1 rfl) ?_
    refine lv_iload_n hx hb dX3_move_28 rfl (lv_at hl 2 rfl) ?_
    refine lv_iload_n hx hb dX3_move_29 rfl (lv_at hl 3 rfl) ?_
    refine lv_iload hx hb dX3_move_30 (lv_at hl 4 rfl) ?_
    refine j_callif (va_runV (As := [.int (iI n), .int (iI dx), .int (iI dy), .int (iI dz)]) (rest := []) ⟨hx, hb, hml, hown, hts⟩ (m_X3_moves l o (kep (su st 6 0 (nMove (st 0) n dx dy dz))) w0 n dx dy dz (by omega)) (cw_X3_moves hts q2374 (Nat.le_of_ble_eq_true rfl) (Nat.le_of_ble_eq_true rfl)) (j_preV hV hH wM_o rfl) rfl rfl hl.1 rfl (lv_room (Nat.le_of_ble_eq_true rfl)) dX3_move_32 ⟨Nat.le_of_ble_eq_true rfl, Nat.le_of_ble_eq_true rfl⟩) hH (fun H locs hH => ?_)
    have hH : jH E s.heap (wM E o (sp (kep (su st 6 0 (nMove (st 0) n dx dy dz))) (movP (st 0) n dx dy dz)) w0) H locs := hH
    refine j_top (b := nd (st 0) n 3) rfl ?_
    exact hret (sp (kep (su st 6 0 (nMove (st 0) n dx dy dz))) (movP (st 0) n dx dy dz)) hH dX3_move_35 (Nat.le_of_ble_eq_true rfl) (Nat.le_of_ble_eq_true rfl) (⟨(if_pos c17).symm, wrS_y c17⟩)
  · refine j_iconst hx hb dX3_move_20 ?_
    exact hret (su st 6 0 (nMove (st 0) n dx dy dz)) hH dX3_move_21 (Nat.le_of_ble_eq_true rfl) (Nat.le_of_ble_eq_true rfl) (⟨(if_neg c17).symm, wrS_n c17⟩)
theorem cw_X3_setShade {R : Room} {s : State} {args : Array Value} {own : String} {index lev mc ms : Nat} (hts : ∀ w ∈ lw_all, w.before args s = true) (hl : Cond.methodLink own index yX3_setShade ∈ lw_all) (hR1 : (rmL lev mc ms).frames + 1 ≤ R.frames) (hR2 : 8 + (4 + 11) + (rmL lev mc ms).locals ≤ R.locals) : CallW R s args own RX3 index yX3_setShade cX3_setShade 4 (some .int) (ws_ yX3_setShade cX3_setShade 4 (some .int)) (rmL lev mc ms) mc ms 2 :=
  cwV 2 hts (lw_V hl q2379 q2380 q116 q2381) rfl rfl rfl (by decide +kernel) ⟨hR1, hR2⟩
set_option maxHeartbeats 4000000 in
theorem m_X3_setShade {E : jE} (l : Launch) (o : Nat) (st : Ms) (w0 : Wl) (T : Int) (n : Int) (x : Int) (h1 : PWF T (st 0)) (h2 : 0 ≤ st 3 0 ∧ st 3 0 ≤ 4) (h3 : -2147483648 ≤ n ∧ n ≤ 2147483647) (h4 : -2147483648 ≤ x ∧ x ≤ 2147483647) : Met l yX3_setShade (ws_ yX3_setShade cX3_setShade 4 (some .int)) (rmL 3 0 0) (va_Pc [.ref o, .int (iI n), .int (iI x)] (jP E (wM E o st w0))) (jQi E (fun u : Ms => wM E o u w0) (fun z u => z = (if nShd (st 0) n x = 0 then nd (st 0) n 6 else 0) ∧ u = wrS st (nShd (st 0) n x) (shdP (st 0) n x))) 0 0 (jA E) := by
  refine j_metI (by decide) (Nat.le_of_ble_eq_true rfl) ?_
  intro p e s m args below meth c Q hx hb hml hown hnm hts hV hH hret ls hl
  have hl : lv_has ls 4 [(0, .ref o), (1, .int (iI n)), (2, .int (iI x))] := hl
  have hA := h1.A
  have hmv : (nShd (st 0) n x ≠ 0) ∨ (0 ≤ n ∧ n < st 0 2) := by unfold nShd; split; exact Or.inr (by assumption); exact Or.inl (by decide)
  have hcb : 0 ≤ nShd (st 0) n x ∧ nShd (st 0) n x ≤ 3 := by first | omega | (unfold nShd; split <;> (try split) <;> (try split) <;> omega)
  refine lv_aload_n hx hb dX3_setShade_0 rfl (lv_at hl 0 rfl) ?_
  refine lv_aload_n hx hb dX3_setShade_1 rfl (lv_at hl 0 rfl) ?_
  refine lv_iload_n hx hb dX3_setShade_2 rfl (lv_at hl 1 rfl) ?_
  refine j_callif (va_runV (As := [.int (iI n)]) (rest := [.ref o]) ⟨hx, hb, hml, hown, hts⟩ (m_X3_isNode l o st w0 _ n (h1) (by omega)) (cw_X3_isNode hts q2335 (Nat.le_of_ble_eq_true rfl) (Nat.le_of_ble_eq_true rfl)) (j_preV hV hH wM_o rfl) rfl rfl hl.1 rfl (lv_room (Nat.le_of_ble_eq_true rfl)) dX3_setShade_3 ⟨Nat.le_of_ble_eq_true rfl, Nat.le_of_ble_eq_true rfl⟩) hH (fun H locs hH => ?_)
  refine j_ifne_b (tgt := 13) hx hb dX3_setShade_6 (by decide) (fun c6 => ?_) (fun c6 => ?_)
  · refine lv_aload_n hx hb dX3_setShade_13 rfl (lv_at hl 0 rfl) ?_
    refine lv_iload_n hx hb dX3_setShade_14 rfl (lv_at hl 1 rfl) ?_
    refine j_callif (va_runV (As := [.int (iI n)]) (rest := [.ref o]) ⟨hx, hb, hml, hown, hts⟩ (m_X3_isBox l o st w0 _ n (h1) (by omega) (by omega)) (cw_X3_isBox hts q2339 (Nat.le_of_ble_eq_true rfl) (Nat.le_of_ble_eq_true rfl)) (j_preV hV hH wM_o rfl) rfl rfl hl.1 rfl (lv_room (Nat.le_of_ble_eq_true rfl)) dX3_setShade_15 ⟨Nat.le_of_ble_eq_true rfl, Nat.le_of_ble_eq_true rfl⟩) hH (fun H locs hH => ?_)
    refine j_ifeq_b (tgt := 35) hx hb dX3_setShade_18 (by decide) (fun c18 => ?_) (fun c18 => ?_)
    · refine j_iconst hx hb dX3_setShade_35 ?_
      refine j_top (b := nShd (st 0) n x) (by unfold nShd; split <;> (try split) <;> omega) ?_
      refine j_put hx hb hts hown hV hH wM_o rfl in_X3 tyX3 tyX3_ok nmX3 6 (Nat.le_of_ble_eq_true rfl) q2235 (fun _ h => h) rfl rfl rfl (Nat.le_of_ble_eq_true rfl) dX3_setShade_36 (fun H locs hH => ?_)
      rw [wM_f6] at hH
      refine lv_aload_n hx hb dX3_setShade_39 rfl (lv_at hl 0 rfl) ?_
      refine j_get hx hb hts hown hV hH wM_o rfl in_X3 6 (Nat.le_of_ble_eq_true rfl) q2235 (fun _ h => h) rfl dX3_setShade_40 ?_
      refine j_top (b := nShd (st 0) n x) rfl ?_
      refine j_if_eq (tgt := 48) hx hb dX3_setShade_43 (by decide) (by omega) (fun c43 => ?_) (fun c43 => ?_)
      · refine lv_aload_n hx hb dX3_setShade_48 rfl (lv_at hl 0 rfl) ?_
        refine j_callvf (va_runV (As := []) (rest := []) ⟨hx, hb, hml, hown, hts⟩ (m_X3_keep l o (su st 6 0 (nShd (st 0) n x)) w0 (show 0 ≤ st 3 0 ∧ st 3 0 ≤ 4 by omega)) (cw_X3_keep hts q2316 (Nat.le_of_ble_eq_true rfl) (Nat.le_of_ble_eq_true rfl)) (j_preV hV hH wM_o rfl) rfl rfl hl.1 rfl (lv_room (Nat.le_of_ble_eq_true rfl)) dX3_setShade_49 ⟨Nat.le_of_ble_eq_true rfl, Nat.le_of_ble_eq_true rfl⟩) hH (fun H locs hH => ?_)
        refine lv_aload_n hx hb dX3_setShade_52 rfl (lv_at hl 0 rfl) ?_
        refine lv_iload_n hx hb dX3_setShade_53 rfl (lv_at hl 1 rfl) ?_
        refine j_bipush hx hb dX3_setShade_54 (by decide) ?_
        refine j_callif (va_runV (As := [.int (iI n), .int (iI 6)]) (rest := []) ⟨hx, hb, hml, hown, hts⟩ (m_X3_of l o (kep (su st 6 0 (nShd (st 0) n x))) w0 n 6 (by omega)) (cw_X3_of hts q2343 (Nat.le_of_ble_eq_true rfl) (Nat.le_of_ble_eq_true rfl)) (j_preV hV hH wM_o rfl) rfl rfl hl.1 rfl (lv_room (Nat.le_of_ble_eq_true rfl)) dX3_setShade_56 ⟨Nat.le_of_ble_eq_true rfl, Nat.le_of_ble_eq_true rfl⟩) hH (fun H locs hH => ?_)
        refine j_top (b := nd (st 0) n 6) rfl ?_
        refine j_istore_n (lv' := fun x1 => [(3, .int (iI x1)), (0, .ref o), (1, .int (iI n)), (2, .int (iI x))]) hx hb dX3_setShade_59 rfl hl (by decide) (fun _ => rfl) (fun x1 ex1 ls hl => ?_)
        refine lv_aload_n hx hb dX3_setShade_60 rfl (lv_at hl 1 rfl) ?_
        refine j_get hx hb hts hown hV hH wM_o rfl in_X3 0 (Nat.le_of_ble_eq_true rfl) q2229 (fun _ h => h) rfl dX3_setShade_61 ?_
        refine j_bipush hx hb dX3_setShade_64 (by decide) ?_
        refine j_bipush hx hb dX3_setShade_66 (by decide) ?_
        refine lv_iload_n hx hb dX3_setShade_68 rfl (lv_at hl 2 rfl) ?_
        refine j_imul hx hb dX3_setShade_69 ?_
        refine j_iadd hx hb dX3_setShade_70 ?_
        refine j_bipush hx hb dX3_setShade_71 (by decide) ?_
        refine j_iadd hx hb dX3_setShade_73 ?_
        refine lv_iload_n hx hb dX3_setShade_74 rfl (lv_at hl 3 rfl) ?_
        refine j_iast (n := 198) hx hb hV hH wM_0 (by omega) (by omega) dX3_setShade_75 (fun H locs hH => ?_)
        rw [wM_s0] at hH
        refine lv_iload_n hx hb dX3_setShade_76 rfl (lv_at hl 0 rfl) ?_
        exact hret (su (kep (su st 6 0 (nShd (st 0) n x))) 0 ((14 + (8 * n)) + 6) x) hH dX3_setShade_77 (Nat.le_of_ble_eq_true rfl) (Nat.le_of_ble_eq_true rfl) (⟨by rw [if_pos c43, ex1], by rw [sp_su]; exact wrS_y c43⟩)
      · refine j_iconst hx hb dX3_setShade_46 ?_
        exact hret (su st 6 0 (nShd (st 0) n x)) hH dX3_setShade_47 (Nat.le_of_ble_eq_true rfl) (Nat.le_of_ble_eq_true rfl) (⟨(if_neg c43).symm, wrS_n c43⟩)
    · refine lv_iload_n hx hb dX3_setShade_21 rfl (lv_at hl 2 rfl) ?_
      refine j_iconst hx hb dX3_setShade_22 ?_
      refine j_bipush hx hb dX3_setShade_23 (by decide) ?_
      refine j_callip (va_runS (As := [.int (iI x), .int (iI 0), .int (iI 15)]) (rest := [.ref o]) ⟨hx, hb, hml, hown, hts⟩ (m_X3_in l _ x 0 15 (by omega) (by omega) (by omega)) (cw_X3_in hts q2313 (Nat.le_of_ble_eq_true rfl) (Nat.le_of_ble_eq_true rfl)) (j_preS hV hH) rfl rfl hl.1 rfl (lv_room (Nat.le_of_ble_eq_true rfl)) dX3_setShade_25 ⟨Nat.le_of_ble_eq_true rfl, Nat.le_of_ble_eq_true rfl⟩) hH (fun H locs hH => ?_)
      refine j_ifeq_b (tgt := 35) hx hb dX3_setShade_28 (by decide) (fun c28 => ?_) (fun c28 => ?_)
      · refine j_iconst hx hb dX3_setShade_35 ?_
        refine j_top (b := nShd (st 0) n x) (by unfold nShd; split <;> (try split) <;> omega) ?_
        refine j_put hx hb hts hown hV hH wM_o rfl in_X3 tyX3 tyX3_ok nmX3 6 (Nat.le_of_ble_eq_true rfl) q2235 (fun _ h => h) rfl rfl rfl (Nat.le_of_ble_eq_true rfl) dX3_setShade_36 (fun H locs hH => ?_)
        rw [wM_f6] at hH
        refine lv_aload_n hx hb dX3_setShade_39 rfl (lv_at hl 0 rfl) ?_
        refine j_get hx hb hts hown hV hH wM_o rfl in_X3 6 (Nat.le_of_ble_eq_true rfl) q2235 (fun _ h => h) rfl dX3_setShade_40 ?_
        refine j_top (b := nShd (st 0) n x) rfl ?_
        refine j_if_eq (tgt := 48) hx hb dX3_setShade_43 (by decide) (by omega) (fun c43 => ?_) (fun c43 => ?_)
        · refine lv_aload_n hx hb dX3_setShade_48 rfl (lv_at hl 0 rfl) ?_
          refine j_callvf (va_runV (As := []) (rest := []) ⟨hx, hb, hml, hown, hts⟩ (m_X3_keep l o (su st 6 0 (nShd (st 0) n x)) w0 (show 0 ≤ st 3 0 ∧ st 3 0 ≤ 4 by omega)) (cw_X3_keep hts q2316 (Nat.le_of_ble_eq_true rfl) (Nat.le_of_ble_eq_true rfl)) (j_preV hV hH wM_o rfl) rfl rfl hl.1 rfl (lv_room (Nat.le_of_ble_eq_true rfl)) dX3_setShade_49 ⟨Nat.le_of_ble_eq_true rfl, Nat.le_of_ble_eq_true rfl⟩) hH (fun H locs hH => ?_)
          refine lv_aload_n hx hb dX3_setShade_52 rfl (lv_at hl 0 rfl) ?_
          refine lv_iload_n hx hb dX3_setShade_53 rfl (lv_at hl 1 rfl) ?_
          refine j_bipush hx hb dX3_setShade_54 (by decide) ?_
          refine j_callif (va_runV (As := [.int (iI n), .int (iI 6)]) (rest := []) ⟨hx, hb, hml, hown, hts⟩ (m_X3_of l o (kep (su st 6 0 (nShd (st 0) n x))) w0 n 6 (by omega)) (cw_X3_of hts q2343 (Nat.le_of_ble_eq_true rfl) (Nat.le_of_ble_eq_true rfl)) (j_preV hV hH wM_o rfl) rfl rfl hl.1 rfl (lv_room (Nat.le_of_ble_eq_true rfl)) dX3_setShade_56 ⟨Nat.le_of_ble_eq_true rfl, Nat.le_of_ble_eq_true rfl⟩) hH (fun H locs hH => ?_)
          refine j_top (b := nd (st 0) n 6) rfl ?_
          refine j_istore_n (lv' := fun x2 => [(3, .int (iI x2)), (0, .ref o), (1, .int (iI n)), (2, .int (iI x))]) hx hb dX3_setShade_59 rfl hl (by decide) (fun _ => rfl) (fun x2 ex2 ls hl => ?_)
          refine lv_aload_n hx hb dX3_setShade_60 rfl (lv_at hl 1 rfl) ?_
          refine j_get hx hb hts hown hV hH wM_o rfl in_X3 0 (Nat.le_of_ble_eq_true rfl) q2229 (fun _ h => h) rfl dX3_setShade_61 ?_
          refine j_bipush hx hb dX3_setShade_64 (by decide) ?_
          refine j_bipush hx hb dX3_setShade_66 (by decide) ?_
          refine lv_iload_n hx hb dX3_setShade_68 rfl (lv_at hl 2 rfl) ?_
          refine j_imul hx hb dX3_setShade_69 ?_
          refine j_iadd hx hb dX3_setShade_70 ?_
          refine j_bipush hx hb dX3_setShade_71 (by decide) ?_
          refine j_iadd hx hb dX3_setShade_73 ?_
          refine lv_iload_n hx hb dX3_setShade_74 rfl (lv_at hl 3 rfl) ?_
          refine j_iast (n := 198) hx hb hV hH wM_0 (by omega) (by omega) dX3_setShade_75 (fun H locs hH => ?_)
          rw [wM_s0] at hH
          refine lv_iload_n hx hb dX3_setShade_76 rfl (lv_at hl 0 rfl) ?_
          exact hret (su (kep (su st 6 0 (nShd (st 0) n x))) 0 ((14 + (8 * n)) + 6) x) hH dX3_setShade_77 (Nat.le_of_ble_eq_true rfl) (Nat.le_of_ble_eq_true rfl) (⟨by rw [if_pos c43, ex2], by rw [sp_su]; exact wrS_y c43⟩)
        · refine j_iconst hx hb dX3_setShade_46 ?_
          exact hret (su st 6 0 (nShd (st 0) n x)) hH dX3_setShade_47 (Nat.le_of_ble_eq_true rfl) (Nat.le_of_ble_eq_true rfl) (⟨(if_neg c43).symm, wrS_n c43⟩)
      · refine j_iconst hx hb dX3_setShade_31 ?_
        refine lv_goto (tgt := 36) hx hb dX3_setShade_32 (by decide) ?_
        refine j_top (b := nShd (st 0) n x) (by unfold nShd; split <;> (try split) <;> omega) ?_
        refine j_put hx hb hts hown hV hH wM_o rfl in_X3 tyX3 tyX3_ok nmX3 6 (Nat.le_of_ble_eq_true rfl) q2235 (fun _ h => h) rfl rfl rfl (Nat.le_of_ble_eq_true rfl) dX3_setShade_36 (fun H locs hH => ?_)
        rw [wM_f6] at hH
        refine lv_aload_n hx hb dX3_setShade_39 rfl (lv_at hl 0 rfl) ?_
        refine j_get hx hb hts hown hV hH wM_o rfl in_X3 6 (Nat.le_of_ble_eq_true rfl) q2235 (fun _ h => h) rfl dX3_setShade_40 ?_
        refine j_top (b := nShd (st 0) n x) rfl ?_
        refine j_if_eq (tgt := 48) hx hb dX3_setShade_43 (by decide) (by omega) (fun c43 => ?_) (fun c43 => ?_)
        · refine lv_aload_n hx hb dX3_setShade_48 rfl (lv_at hl 0 rfl) ?_
          refine j_callvf (va_runV (As := []) (rest := []) ⟨hx, hb, hml, hown, hts⟩ (m_X3_keep l o (su st 6 0 (nShd (st 0) n x)) w0 (show 0 ≤ st 3 0 ∧ st 3 0 ≤ 4 by omega)) (cw_X3_keep hts q2316 (Nat.le_of_ble_eq_true rfl) (Nat.le_of_ble_eq_true rfl)) (j_preV hV hH wM_o rfl) rfl rfl hl.1 rfl (lv_room (Nat.le_of_ble_eq_true rfl)) dX3_setShade_49 ⟨Nat.le_of_ble_eq_true rfl, Nat.le_of_ble_eq_true rfl⟩) hH (fun H locs hH => ?_)
          refine lv_aload_n hx hb dX3_setShade_52 rfl (lv_at hl 0 rfl) ?_
          refine lv_iload_n hx hb dX3_setShade_53 rfl (lv_at hl 1 rfl) ?_
          refine j_bipush hx hb dX3_setShade_54 (by decide) ?_
          refine j_callif (va_runV (As := [.int (iI n), .int (iI 6)]) (rest := []) ⟨hx, hb, hml, hown, hts⟩ (m_X3_of l o (kep (su st 6 0 (nShd (st 0) n x))) w0 n 6 (by omega)) (cw_X3_of hts q2343 (Nat.le_of_ble_eq_true rfl) (Nat.le_of_ble_eq_true rfl)) (j_preV hV hH wM_o rfl) rfl rfl hl.1 rfl (lv_room (Nat.le_of_ble_eq_true rfl)) dX3_setShade_56 ⟨Nat.le_of_ble_eq_true rfl, Nat.le_of_ble_eq_true rfl⟩) hH (fun H locs hH => ?_)
          refine j_top (b := nd (st 0) n 6) rfl ?_
          refine j_istore_n (lv' := fun x3 => [(3, .int (iI x3)), (0, .ref o), (1, .int (iI n)), (2, .int (iI x))]) hx hb dX3_setShade_59 rfl hl (by decide) (fun _ => rfl) (fun x3 ex3 ls hl => ?_)
          refine lv_aload_n hx hb dX3_setShade_60 rfl (lv_at hl 1 rfl) ?_
          refine j_get hx hb hts hown hV hH wM_o rfl in_X3 0 (Nat.le_of_ble_eq_true rfl) q2229 (fun _ h => h) rfl dX3_setShade_61 ?_
          refine j_bipush hx hb dX3_setShade_64 (by decide) ?_
          refine j_bipush hx hb dX3_setShade_66 (by decide) ?_
          refine lv_iload_n hx hb dX3_setShade_68 rfl (lv_at hl 2 rfl) ?_
          refine j_imul hx hb dX3_setShade_69 ?_
          refine j_iadd hx hb dX3_setShade_70 ?_
          refine j_bipush hx hb dX3_setShade_71 (by decide) ?_
          refine j_iadd hx hb dX3_setShade_73 ?_
          refine lv_iload_n hx hb dX3_setShade_74 rfl (lv_at hl 3 rfl) ?_
          refine j_iast (n := 198) hx hb hV hH wM_0 (by omega) (by omega) dX3_setShade_75 (fun H locs hH => ?_)
          rw [wM_s0] at hH
          refine lv_iload_n hx hb dX3_setShade_76 rfl (lv_at hl 0 rfl) ?_
          exact hret (su (kep (su st 6 0 (nShd (st 0) n x))) 0 ((14 + (8 * n)) + 6) x) hH dX3_setShade_77 (Nat.le_of_ble_eq_true rfl) (Nat.le_of_ble_eq_true rfl) (⟨by rw [if_pos c43, ex3], by rw [sp_su]; exact wrS_y c43⟩)
        · refine j_iconst hx hb dX3_setShade_46 ?_
          exact hret (su st 6 0 (nShd (st 0) n x)) hH dX3_setShade_47 (Nat.le_of_ble_eq_true rfl) (Nat.le_of_ble_eq_true rfl) (⟨(if_neg c43).symm, wrS_n c43⟩)
  · refine j_iconst hx hb dX3_setShade_9 ?_
    refine lv_goto (tgt := 36) hx hb dX3_setShade_10 (by decide) ?_
    refine j_top (b := nShd (st 0) n x) (by unfold nShd; split <;> (try split) <;> omega) ?_
    refine j_put hx hb hts hown hV hH wM_o rfl in_X3 tyX3 tyX3_ok nmX3 6 (Nat.le_of_ble_eq_true rfl) q2235 (fun _ h => h) rfl rfl rfl (Nat.le_of_ble_eq_true rfl) dX3_setShade_36 (fun H locs hH => ?_)
    rw [wM_f6] at hH
    refine lv_aload_n hx hb dX3_setShade_39 rfl (lv_at hl 0 rfl) ?_
    refine j_get hx hb hts hown hV hH wM_o rfl in_X3 6 (Nat.le_of_ble_eq_true rfl) q2235 (fun _ h => h) rfl dX3_setShade_40 ?_
    refine j_top (b := nShd (st 0) n x) rfl ?_
    refine j_if_eq (tgt := 48) hx hb dX3_setShade_43 (by decide) (by omega) (fun c43 => ?_) (fun c43 => ?_)
    · refine lv_aload_n hx hb dX3_setShade_48 rfl (lv_at hl 0 rfl) ?_
      refine j_callvf (va_runV (As := []) (rest := []) ⟨hx, hb, hml, hown, hts⟩ (m_X3_keep l o (su st 6 0 (nShd (st 0) n x)) w0 (show 0 ≤ st 3 0 ∧ st 3 0 ≤ 4 by omega)) (cw_X3_keep hts q2316 (Nat.le_of_ble_eq_true rfl) (Nat.le_of_ble_eq_true rfl)) (j_preV hV hH wM_o rfl) rfl rfl hl.1 rfl (lv_room (Nat.le_of_ble_eq_true rfl)) dX3_setShade_49 ⟨Nat.le_of_ble_eq_true rfl, Nat.le_of_ble_eq_true rfl⟩) hH (fun H locs hH => ?_)
      refine lv_aload_n hx hb dX3_setShade_52 rfl (lv_at hl 0 rfl) ?_
      refine lv_iload_n hx hb dX3_setShade_53 rfl (lv_at hl 1 rfl) ?_
      refine j_bipush hx hb dX3_setShade_54 (by decide) ?_
      refine j_callif (va_runV (As := [.int (iI n), .int (iI 6)]) (rest := []) ⟨hx, hb, hml, hown, hts⟩ (m_X3_of l o (kep (su st 6 0 (nShd (st 0) n x))) w0 n 6 (by omega)) (cw_X3_of hts q2343 (Nat.le_of_ble_eq_true rfl) (Nat.le_of_ble_eq_true rfl)) (j_preV hV hH wM_o rfl) rfl rfl hl.1 rfl (lv_room (Nat.le_of_ble_eq_true rfl)) dX3_setShade_56 ⟨Nat.le_of_ble_eq_true rfl, Nat.le_of_ble_eq_true rfl⟩) hH (fun H locs hH => ?_)
      refine j_top (b := nd (st 0) n 6) rfl ?_
      refine j_istore_n (lv' := fun x4 => [(3, .int (iI x4)), (0, .ref o), (1, .int (iI n)), (2, .int (iI x))]) hx hb dX3_setShade_59 rfl hl (by decide) (fun _ => rfl) (fun x4 ex4 ls hl => ?_)
      refine lv_aload_n hx hb dX3_setShade_60 rfl (lv_at hl 1 rfl) ?_
      refine j_get hx hb hts hown hV hH wM_o rfl in_X3 0 (Nat.le_of_ble_eq_true rfl) q2229 (fun _ h => h) rfl dX3_setShade_61 ?_
      refine j_bipush hx hb dX3_setShade_64 (by decide) ?_
      refine j_bipush hx hb dX3_setShade_66 (by decide) ?_
      refine lv_iload_n hx hb dX3_setShade_68 rfl (lv_at hl 2 rfl) ?_
      refine j_imul hx hb dX3_setShade_69 ?_
      refine j_iadd hx hb dX3_setShade_70 ?_
      refine j_bipush hx hb dX3_setShade_71 (by decide) ?_
      refine j_iadd hx hb dX3_setShade_73 ?_
      refine lv_iload_n hx hb dX3_setShade_74 rfl (lv_at hl 3 rfl) ?_
      refine j_iast (n := 198) hx hb hV hH wM_0 (by omega) (by omega) dX3_setShade_75 (fun H locs hH => ?_)
      rw [wM_s0] at hH
      refine lv_iload_n hx hb dX3_setShade_76 rfl (lv_at hl 0 rfl) ?_
      exact hret (su (kep (su st 6 0 (nShd (st 0) n x))) 0 ((14 + (8 * n)) + 6) x) hH dX3_setShade_77 (Nat.le_of_ble_eq_true rfl) (Nat.le_of_ble_eq_true rfl) (⟨by rw [if_pos c43, ex4], by rw [sp_su]; exact wrS_y c43⟩)
    · refine j_iconst hx hb dX3_setShade_46 ?_
      exact hret (su st 6 0 (nShd (st 0) n x)) hH dX3_setShade_47 (Nat.le_of_ble_eq_true rfl) (Nat.le_of_ble_eq_true rfl) (⟨(if_neg c43).symm, wrS_n c43⟩)
theorem cw_X3_addScene {R : Room} {s : State} {args : Array Value} {own : String} {index lev mc ms : Nat} (hts : ∀ w ∈ lw_all, w.before args s = true) (hl : Cond.methodLink own index yX3_addScene ∈ lw_all) (hR1 : (rmL lev mc ms).frames + 1 ≤ R.frames) (hR2 : 8 + (4 + 11) + (rmL lev mc ms).locals ≤ R.locals) : CallW R s args own RX3 index yX3_addScene cX3_addScene 4 (some .int) (ws_ yX3_addScene cX3_addScene 4 (some .int)) (rmL lev mc ms) mc ms 3 :=
  cwV 3 hts (lw_V hl q2399 q2400 q116 q2401) rfl rfl rfl (by decide +kernel) ⟨hR1, hR2⟩
set_option maxHeartbeats 4000000 in
theorem m_X3_addScene {E : jE} (l : Launch) (o : Nat) (st : Ms) (w0 : Wl) (T : Int) (a : Int) (b : Int) (t : Int) (h1 : PWF T (st 0)) (h2 : 0 ≤ st 3 0 ∧ st 3 0 ≤ 4) (h3 : -2147483648 ≤ a ∧ a ≤ 2147483647) (h4 : -2147483648 ≤ b ∧ b ≤ 2147483647) (h5 : -2147483648 ≤ t ∧ t ≤ 2147483647) : Met l yX3_addScene (ws_ yX3_addScene cX3_addScene 4 (some .int)) (rmL 3 0 0) (va_Pc [.ref o, .int (iI a), .int (iI b), .int (iI t)] (jP E (wM E o st w0))) (jQi E (fun u : Ms => wM E o u w0) (fun z u => z = (if nScn (st 0) a b t = 0 then st 0 3 else 0) ∧ u = wrS st (nScn (st 0) a b t) (scnP (st 0) a b t))) 0 0 (jA E) := by
  refine j_metI (by decide) (Nat.le_of_ble_eq_true rfl) ?_
  intro p e s m args below meth c Q hx hb hml hown hnm hts hV hH hret ls hl
  have hl : lv_has ls 4 [(0, .ref o), (1, .int (iI a)), (2, .int (iI b)), (3, .int (iI t))] := hl
  have hA := h1.A
  have hsc : nScn (st 0) a b t ≠ 0 ∨ st 0 3 ≠ 8 := by unfold nScn; split <;> (try split) <;> omega
  have hcb : 0 ≤ nScn (st 0) a b t ∧ nScn (st 0) a b t ≤ 3 := by first | omega | (unfold nScn; split <;> (try split) <;> (try split) <;> omega)
  refine lv_aload_n hx hb dX3_addScene_0 rfl (lv_at hl 0 rfl) ?_
  refine lv_aload_n hx hb dX3_addScene_1 rfl (lv_at hl 0 rfl) ?_
  refine lv_iload_n hx hb dX3_addScene_2 rfl (lv_at hl 1 rfl) ?_
  refine lv_iload_n hx hb dX3_addScene_3 rfl (lv_at hl 2 rfl) ?_
  refine lv_iload_n hx hb dX3_addScene_4 rfl (lv_at hl 3 rfl) ?_
  refine j_callif (va_runV (As := [.int (iI a), .int (iI b), .int (iI t)]) (rest := [.ref o]) ⟨hx, hb, hml, hown, hts⟩ (m_X3_notScene l o st w0 _ a b t (h1) (by omega) (by omega) (by omega)) (cw_X3_notScene hts q2402 (Nat.le_of_ble_eq_true rfl) (Nat.le_of_ble_eq_true rfl)) (j_preV hV hH wM_o rfl) rfl rfl hl.1 rfl (lv_room (Nat.le_of_ble_eq_true rfl)) dX3_addScene_5 ⟨Nat.le_of_ble_eq_true rfl, Nat.le_of_ble_eq_true rfl⟩) hH (fun H locs hH => ?_)
  refine j_put hx hb hts hown hV hH wM_o rfl in_X3 tyX3 tyX3_ok nmX3 6 (Nat.le_of_ble_eq_true rfl) q2235 (fun _ h => h) rfl rfl rfl (Nat.le_of_ble_eq_true rfl) dX3_addScene_8 (fun H locs hH => ?_)
  rw [wM_f6] at hH
  refine lv_aload_n hx hb dX3_addScene_11 rfl (lv_at hl 0 rfl) ?_
  refine j_get hx hb hts hown hV hH wM_o rfl in_X3 6 (Nat.le_of_ble_eq_true rfl) q2235 (fun _ h => h) rfl dX3_addScene_12 ?_
  refine j_top (b := nScn (st 0) a b t) rfl ?_
  refine j_if_eq (tgt := 20) hx hb dX3_addScene_15 (by decide) (by omega) (fun c15 => ?_) (fun c15 => ?_)
  · refine lv_aload_n hx hb dX3_addScene_20 rfl (lv_at hl 0 rfl) ?_
    refine j_callvf (va_runV (As := []) (rest := []) ⟨hx, hb, hml, hown, hts⟩ (m_X3_keep l o (su st 6 0 (nScn (st 0) a b t)) w0 (show 0 ≤ st 3 0 ∧ st 3 0 ≤ 4 by omega)) (cw_X3_keep hts q2316 (Nat.le_of_ble_eq_true rfl) (Nat.le_of_ble_eq_true rfl)) (j_preV hV hH wM_o rfl) rfl rfl hl.1 rfl (lv_room (Nat.le_of_ble_eq_true rfl)) dX3_addScene_21 ⟨Nat.le_of_ble_eq_true rfl, Nat.le_of_ble_eq_true rfl⟩) hH (fun H locs hH => ?_)
    refine lv_aload_n hx hb dX3_addScene_24 rfl (lv_at hl 0 rfl) ?_
    refine lv_iload_n hx hb dX3_addScene_25 rfl (lv_at hl 1 rfl) ?_
    refine lv_iload_n hx hb dX3_addScene_26 rfl (lv_at hl 2 rfl) ?_
    refine lv_iload_n hx hb dX3_addScene_27 rfl (lv_at hl 3 rfl) ?_
    refine j_callif (va_runV (As := [.int (iI a), .int (iI b), .int (iI t)]) (rest := []) ⟨hx, hb, hml, hown, hts⟩ (m_X3_addsScene l o (kep (su st 6 0 (nScn (st 0) a b t))) w0 a b t (show 0 ≤ st 0 3 ∧ st 0 3 < 8 by omega)) (cw_X3_addsScene hts q2406 (Nat.le_of_ble_eq_true rfl) (Nat.le_of_ble_eq_true rfl)) (j_preV hV hH wM_o rfl) rfl rfl hl.1 rfl (lv_room (Nat.le_of_ble_eq_true rfl)) dX3_addScene_28 ⟨Nat.le_of_ble_eq_true rfl, Nat.le_of_ble_eq_true rfl⟩) hH (fun H locs hH => ?_)
    have hH : jH E s.heap (wM E o (sp (kep (su st 6 0 (nScn (st 0) a b t))) (scnP (st 0) a b t)) w0) H locs := hH
    refine j_top (b := st 0 3) rfl ?_
    exact hret (sp (kep (su st 6 0 (nScn (st 0) a b t))) (scnP (st 0) a b t)) hH dX3_addScene_31 (Nat.le_of_ble_eq_true rfl) (Nat.le_of_ble_eq_true rfl) (⟨(if_pos c15).symm, wrS_y c15⟩)
  · refine j_iconst hx hb dX3_addScene_18 ?_
    exact hret (su st 6 0 (nScn (st 0) a b t)) hH dX3_addScene_19 (Nat.le_of_ble_eq_true rfl) (Nat.le_of_ble_eq_true rfl) (⟨(if_neg c15).symm, wrS_n c15⟩)
theorem cw_X3_set {R : Room} {s : State} {args : Array Value} {own : String} {index lev mc ms : Nat} (hts : ∀ w ∈ lw_all, w.before args s = true) (hl : Cond.methodLink own index yX3_set ∈ lw_all) (hR1 : (rmL lev mc ms).frames + 1 ≤ R.frames) (hR2 : 8 + (3 + 11) + (rmL lev mc ms).locals ≤ R.locals) : CallW R s args own RX3 index yX3_set cX3_set 3 (some .int) (ws_ yX3_set cX3_set 3 (some .int)) (rmL lev mc ms) mc ms 2 :=
  cwV 2 hts (lw_V hl q2411 q2412 q116 q2413) rfl rfl rfl (by decide +kernel) ⟨hR1, hR2⟩
set_option maxHeartbeats 4000000 in
theorem m_X3_set {E : jE} (l : Launch) (o : Nat) (st : Ms) (w0 : Wl) (T : Int) (what : Int) (v : Int) (h1 : PWF T (st 0)) (h2 : 0 ≤ st 3 0 ∧ st 3 0 ≤ 4) (h3 : -2147483648 ≤ what ∧ what ≤ 2147483647) (h4 : -2147483648 ≤ v ∧ v ≤ 2147483647) : Met l yX3_set (ws_ yX3_set cX3_set 3 (some .int)) (rmL 3 0 0) (va_Pc [.ref o, .int (iI what), .int (iI v)] (jP E (wM E o st w0))) (jQi E (fun u : Ms => wM E o u w0) (fun z u => z = (if nSet what v = 0 then st 0 (7 + what) else 0) ∧ u = wrS st (nSet what v) (setP (st 0) what v))) 0 0 (jA E) := by
  refine j_metI (by decide) (Nat.le_of_ble_eq_true rfl) ?_
  intro p e s m args below meth c Q hx hb hml hown hnm hts hV hH hret ls hl
  have hl : lv_has ls 3 [(0, .ref o), (1, .int (iI what)), (2, .int (iI v))] := hl
  have hA := h1.A
  have hse : nSet what v ≠ 0 ∨ (0 ≤ what ∧ what < 4) := by unfold nSet; split <;> omega
  have hcb : 0 ≤ nSet what v ∧ nSet what v ≤ 3 := by first | omega | (unfold nSet; split <;> (try split) <;> (try split) <;> omega)
  refine lv_aload_n hx hb dX3_set_0 rfl (lv_at hl 0 rfl) ?_
  refine lv_iload_n hx hb dX3_set_1 rfl (lv_at hl 1 rfl) ?_
  refine lv_iload_n hx hb dX3_set_2 rfl (lv_at hl 2 rfl) ?_
  refine j_callip (va_runS (As := [.int (iI what), .int (iI v)]) (rest := [.ref o]) ⟨hx, hb, hml, hown, hts⟩ (m_X3_notSet l _ what v (by omega) (by omega)) (cw_X3_notSet hts q2414 (Nat.le_of_ble_eq_true rfl) (Nat.le_of_ble_eq_true rfl)) (j_preS hV hH) rfl rfl hl.1 rfl (lv_room (Nat.le_of_ble_eq_true rfl)) dX3_set_3 ⟨Nat.le_of_ble_eq_true rfl, Nat.le_of_ble_eq_true rfl⟩) hH (fun H locs hH => ?_)
  refine j_put hx hb hts hown hV hH wM_o rfl in_X3 tyX3 tyX3_ok nmX3 6 (Nat.le_of_ble_eq_true rfl) q2235 (fun _ h => h) rfl rfl rfl (Nat.le_of_ble_eq_true rfl) dX3_set_6 (fun H locs hH => ?_)
  rw [wM_f6] at hH
  refine lv_aload_n hx hb dX3_set_9 rfl (lv_at hl 0 rfl) ?_
  refine j_get hx hb hts hown hV hH wM_o rfl in_X3 6 (Nat.le_of_ble_eq_true rfl) q2235 (fun _ h => h) rfl dX3_set_10 ?_
  refine j_top (b := nSet what v) rfl ?_
  refine j_if_eq (tgt := 18) hx hb dX3_set_13 (by decide) (by omega) (fun c13 => ?_) (fun c13 => ?_)
  · refine lv_aload_n hx hb dX3_set_18 rfl (lv_at hl 0 rfl) ?_
    refine j_callvf (va_runV (As := []) (rest := []) ⟨hx, hb, hml, hown, hts⟩ (m_X3_keep l o (su st 6 0 (nSet what v)) w0 (show 0 ≤ st 3 0 ∧ st 3 0 ≤ 4 by omega)) (cw_X3_keep hts q2316 (Nat.le_of_ble_eq_true rfl) (Nat.le_of_ble_eq_true rfl)) (j_preV hV hH wM_o rfl) rfl rfl hl.1 rfl (lv_room (Nat.le_of_ble_eq_true rfl)) dX3_set_19 ⟨Nat.le_of_ble_eq_true rfl, Nat.le_of_ble_eq_true rfl⟩) hH (fun H locs hH => ?_)
    refine lv_aload_n hx hb dX3_set_22 rfl (lv_at hl 0 rfl) ?_
    refine lv_iload_n hx hb dX3_set_23 rfl (lv_at hl 1 rfl) ?_
    refine lv_iload_n hx hb dX3_set_24 rfl (lv_at hl 2 rfl) ?_
    refine j_callif (va_runV (As := [.int (iI what), .int (iI v)]) (rest := []) ⟨hx, hb, hml, hown, hts⟩ (m_X3_sets l o (kep (su st 6 0 (nSet what v))) w0 what v (by omega)) (cw_X3_sets hts q2417 (Nat.le_of_ble_eq_true rfl) (Nat.le_of_ble_eq_true rfl)) (j_preV hV hH wM_o rfl) rfl rfl hl.1 rfl (lv_room (Nat.le_of_ble_eq_true rfl)) dX3_set_25 ⟨Nat.le_of_ble_eq_true rfl, Nat.le_of_ble_eq_true rfl⟩) hH (fun H locs hH => ?_)
    have hH : jH E s.heap (wM E o (sp (kep (su st 6 0 (nSet what v))) (setP (st 0) what v)) w0) H locs := hH
    refine j_top (b := st 0 (7 + what)) rfl ?_
    exact hret (sp (kep (su st 6 0 (nSet what v))) (setP (st 0) what v)) hH dX3_set_28 (Nat.le_of_ble_eq_true rfl) (Nat.le_of_ble_eq_true rfl) (⟨(if_pos c13).symm, wrS_y c13⟩)
  · refine j_iconst hx hb dX3_set_16 ?_
    exact hret (su st 6 0 (nSet what v)) hH dX3_set_17 (Nat.le_of_ble_eq_true rfl) (Nat.le_of_ble_eq_true rfl) (⟨(if_neg c13).symm, wrS_n c13⟩)
theorem cw_X3_setTitle {R : Room} {s : State} {args : Array Value} {own : String} {index lev mc ms : Nat} (hts : ∀ w ∈ lw_all, w.before args s = true) (hl : Cond.methodLink own index yX3_setTitle ∈ lw_all) (hR1 : (rmL lev mc ms).frames + 1 ≤ R.frames) (hR2 : 8 + (4 + 11) + (rmL lev mc ms).locals ≤ R.locals) : CallW R s args own RX3 index yX3_setTitle cX3_setTitle 4 (some .int) (ws_ yX3_setTitle cX3_setTitle 4 (some .int)) (rmL lev mc ms) mc ms 3 :=
  cwV 3 hts (lw_V hl q2422 q2423 q116 q2424) rfl rfl rfl (by decide +kernel) ⟨hR1, hR2⟩
set_option maxHeartbeats 4000000 in
theorem m_X3_setTitle {E : jE} (l : Launch) (o : Nat) (st : Ms) (w0 : Wl) (T : Int) (a : Int) (b : Int) (t : Int) (h1 : PWF T (st 0)) (h2 : 0 ≤ st 3 0 ∧ st 3 0 ≤ 4) (h3 : -2147483648 ≤ a ∧ a ≤ 2147483647) (h4 : -2147483648 ≤ b ∧ b ≤ 2147483647) (h5 : -2147483648 ≤ t ∧ t ≤ 2147483647) : Met l yX3_setTitle (ws_ yX3_setTitle cX3_setTitle 4 (some .int)) (rmL 3 0 0) (va_Pc [.ref o, .int (iI a), .int (iI b), .int (iI t)] (jP E (wM E o st w0))) (jQi E (fun u : Ms => wM E o u w0) (fun z u => z = (if nTtl (st 0) a b t = 0 then st 0 13 else 0) ∧ u = wrS st (nTtl (st 0) a b t) (ttlP (st 0) a b t))) 0 0 (jA E) := by
  refine j_metI (by decide) (Nat.le_of_ble_eq_true rfl) ?_
  intro p e s m args below meth c Q hx hb hml hown hnm hts hV hH hret ls hl
  have hl : lv_has ls 4 [(0, .ref o), (1, .int (iI a)), (2, .int (iI b)), (3, .int (iI t))] := hl
  have hA := h1.A
  have hcb : 0 ≤ nTtl (st 0) a b t ∧ nTtl (st 0) a b t ≤ 3 := by first | omega | (unfold nTtl; split <;> (try split) <;> (try split) <;> omega)
  refine lv_aload_n hx hb dX3_setTitle_0 rfl (lv_at hl 0 rfl) ?_
  refine lv_aload_n hx hb dX3_setTitle_1 rfl (lv_at hl 0 rfl) ?_
  refine lv_iload_n hx hb dX3_setTitle_2 rfl (lv_at hl 1 rfl) ?_
  refine lv_iload_n hx hb dX3_setTitle_3 rfl (lv_at hl 2 rfl) ?_
  refine lv_iload_n hx hb dX3_setTitle_4 rfl (lv_at hl 3 rfl) ?_
  refine j_callif (va_runV (As := [.int (iI a), .int (iI b), .int (iI t)]) (rest := [.ref o]) ⟨hx, hb, hml, hown, hts⟩ (m_X3_notTitle l o st w0 _ a b t (h1) (by omega) (by omega) (by omega)) (cw_X3_notTitle hts q2425 (Nat.le_of_ble_eq_true rfl) (Nat.le_of_ble_eq_true rfl)) (j_preV hV hH wM_o rfl) rfl rfl hl.1 rfl (lv_room (Nat.le_of_ble_eq_true rfl)) dX3_setTitle_5 ⟨Nat.le_of_ble_eq_true rfl, Nat.le_of_ble_eq_true rfl⟩) hH (fun H locs hH => ?_)
  refine j_put hx hb hts hown hV hH wM_o rfl in_X3 tyX3 tyX3_ok nmX3 6 (Nat.le_of_ble_eq_true rfl) q2235 (fun _ h => h) rfl rfl rfl (Nat.le_of_ble_eq_true rfl) dX3_setTitle_8 (fun H locs hH => ?_)
  rw [wM_f6] at hH
  refine lv_aload_n hx hb dX3_setTitle_11 rfl (lv_at hl 0 rfl) ?_
  refine j_get hx hb hts hown hV hH wM_o rfl in_X3 6 (Nat.le_of_ble_eq_true rfl) q2235 (fun _ h => h) rfl dX3_setTitle_12 ?_
  refine j_top (b := nTtl (st 0) a b t) rfl ?_
  refine j_if_eq (tgt := 20) hx hb dX3_setTitle_15 (by decide) (by omega) (fun c15 => ?_) (fun c15 => ?_)
  · refine lv_aload_n hx hb dX3_setTitle_20 rfl (lv_at hl 0 rfl) ?_
    refine j_callvf (va_runV (As := []) (rest := []) ⟨hx, hb, hml, hown, hts⟩ (m_X3_keep l o (su st 6 0 (nTtl (st 0) a b t)) w0 (show 0 ≤ st 3 0 ∧ st 3 0 ≤ 4 by omega)) (cw_X3_keep hts q2316 (Nat.le_of_ble_eq_true rfl) (Nat.le_of_ble_eq_true rfl)) (j_preV hV hH wM_o rfl) rfl rfl hl.1 rfl (lv_room (Nat.le_of_ble_eq_true rfl)) dX3_setTitle_21 ⟨Nat.le_of_ble_eq_true rfl, Nat.le_of_ble_eq_true rfl⟩) hH (fun H locs hH => ?_)
    refine lv_aload_n hx hb dX3_setTitle_24 rfl (lv_at hl 0 rfl) ?_
    refine lv_iload_n hx hb dX3_setTitle_25 rfl (lv_at hl 1 rfl) ?_
    refine lv_iload_n hx hb dX3_setTitle_26 rfl (lv_at hl 2 rfl) ?_
    refine lv_iload_n hx hb dX3_setTitle_27 rfl (lv_at hl 3 rfl) ?_
    refine j_callif (va_runV (As := [.int (iI a), .int (iI b), .int (iI t)]) (rest := []) ⟨hx, hb, hml, hown, hts⟩ (m_X3_setsTitle l o (kep (su st 6 0 (nTtl (st 0) a b t))) w0 a b t) (cw_X3_setsTitle hts q2429 (Nat.le_of_ble_eq_true rfl) (Nat.le_of_ble_eq_true rfl)) (j_preV hV hH wM_o rfl) rfl rfl hl.1 rfl (lv_room (Nat.le_of_ble_eq_true rfl)) dX3_setTitle_28 ⟨Nat.le_of_ble_eq_true rfl, Nat.le_of_ble_eq_true rfl⟩) hH (fun H locs hH => ?_)
    have hH : jH E s.heap (wM E o (sp (kep (su st 6 0 (nTtl (st 0) a b t))) (ttlP (st 0) a b t)) w0) H locs := hH
    refine j_top (b := st 0 13) rfl ?_
    exact hret (sp (kep (su st 6 0 (nTtl (st 0) a b t))) (ttlP (st 0) a b t)) hH dX3_setTitle_31 (Nat.le_of_ble_eq_true rfl) (Nat.le_of_ble_eq_true rfl) (⟨(if_pos c15).symm, wrS_y c15⟩)
  · refine j_iconst hx hb dX3_setTitle_18 ?_
    exact hret (su st 6 0 (nTtl (st 0) a b t)) hH dX3_setTitle_19 (Nat.le_of_ble_eq_true rfl) (Nat.le_of_ble_eq_true rfl) (⟨(if_neg c15).symm, wrS_n c15⟩)
theorem cw_X3_clearTitle {R : Room} {s : State} {args : Array Value} {own : String} {index lev mc ms : Nat} (hts : ∀ w ∈ lw_all, w.before args s = true) (hl : Cond.methodLink own index yX3_clearTitle ∈ lw_all) (hR1 : (rmL lev mc ms).frames + 1 ≤ R.frames) (hR2 : 8 + (1 + 11) + (rmL lev mc ms).locals ≤ R.locals) : CallW R s args own RX3 index yX3_clearTitle cX3_clearTitle 1 (some .int) (ws_ yX3_clearTitle cX3_clearTitle 1 (some .int)) (rmL lev mc ms) mc ms 0 :=
  cwV 0 hts (lw_V hl q2434 q2435 q116 q2436) rfl rfl rfl (by decide +kernel) ⟨hR1, hR2⟩
set_option maxHeartbeats 4000000 in
theorem m_X3_clearTitle {E : jE} (l : Launch) (o : Nat) (st : Ms) (w0 : Wl) (T : Int) (h1 : PWF T (st 0)) (h2 : 0 ≤ st 3 0 ∧ st 3 0 ≤ 4) : Met l yX3_clearTitle (ws_ yX3_clearTitle cX3_clearTitle 1 (some .int)) (rmL 3 0 0) (va_Pc [.ref o] (jP E (wM E o st w0))) (jQi E (fun u : Ms => wM E o u w0) (fun z u => z = st 0 13 ∧ u = wrS st (0) (ttlP (st 0) 0 0 0))) 0 0 (jA E) := by
  refine j_metI (by decide) (Nat.le_of_ble_eq_true rfl) ?_
  intro p e s m args below meth c Q hx hb hml hown hnm hts hV hH hret ls hl
  have hl : lv_has ls 1 [(0, .ref o)] := hl
  refine lv_aload_n hx hb dX3_clearTitle_0 rfl (lv_at hl 0 rfl) ?_
  refine j_iconst hx hb dX3_clearTitle_1 ?_
  refine j_put hx hb hts hown hV hH wM_o rfl in_X3 tyX3 tyX3_ok nmX3 6 (Nat.le_of_ble_eq_true rfl) q2235 (fun _ h => h) rfl rfl rfl (Nat.le_of_ble_eq_true rfl) dX3_clearTitle_2 (fun H locs hH => ?_)
  rw [wM_f6] at hH
  refine lv_aload_n hx hb dX3_clearTitle_5 rfl (lv_at hl 0 rfl) ?_
  refine j_callvf (va_runV (As := []) (rest := []) ⟨hx, hb, hml, hown, hts⟩ (m_X3_keep l o (su st 6 0 0) w0 (show 0 ≤ st 3 0 ∧ st 3 0 ≤ 4 by omega)) (cw_X3_keep hts q2316 (Nat.le_of_ble_eq_true rfl) (Nat.le_of_ble_eq_true rfl)) (j_preV hV hH wM_o rfl) rfl rfl hl.1 rfl (lv_room (Nat.le_of_ble_eq_true rfl)) dX3_clearTitle_6 ⟨Nat.le_of_ble_eq_true rfl, Nat.le_of_ble_eq_true rfl⟩) hH (fun H locs hH => ?_)
  refine lv_aload_n hx hb dX3_clearTitle_9 rfl (lv_at hl 0 rfl) ?_
  refine j_iconst hx hb dX3_clearTitle_10 ?_
  refine j_iconst hx hb dX3_clearTitle_11 ?_
  refine j_iconst hx hb dX3_clearTitle_12 ?_
  refine j_callif (va_runV (As := [.int (iI 0), .int (iI 0), .int (iI 0)]) (rest := []) ⟨hx, hb, hml, hown, hts⟩ (m_X3_setsTitle l o (kep (su st 6 0 0)) w0 0 0 0) (cw_X3_setsTitle hts q2429 (Nat.le_of_ble_eq_true rfl) (Nat.le_of_ble_eq_true rfl)) (j_preV hV hH wM_o rfl) rfl rfl hl.1 rfl (lv_room (Nat.le_of_ble_eq_true rfl)) dX3_clearTitle_13 ⟨Nat.le_of_ble_eq_true rfl, Nat.le_of_ble_eq_true rfl⟩) hH (fun H locs hH => ?_)
  have hH : jH E s.heap (wM E o (sp (kep (su st 6 0 0)) (ttlP (st 0) 0 0 0)) w0) H locs := hH
  refine j_top (b := st 0 13) rfl ?_
  exact hret (sp (kep (su st 6 0 0)) (ttlP (st 0) 0 0 0)) hH dX3_clearTitle_16 (Nat.le_of_ble_eq_true rfl) (Nat.le_of_ble_eq_true rfl) (⟨rfl, wrS_y rfl⟩)
theorem cw_X3_tickOnce {R : Room} {s : State} {args : Array Value} {own : String} {index lev mc ms : Nat} (hts : ∀ w ∈ lw_all, w.before args s = true) (hl : Cond.methodLink own index yX3_tickOnce ∈ lw_all) (hR1 : (rmL lev mc ms).frames + 1 ≤ R.frames) (hR2 : 8 + (2 + 11) + (rmL lev mc ms).locals ≤ R.locals) : CallW R s args own RX3 index yX3_tickOnce cX3_tickOnce 2 none (ws_ yX3_tickOnce cX3_tickOnce 2 none) (rmL lev mc ms) mc ms 0 :=
  cwV 0 hts (lw_V hl q2450 qs67 q116 q2451) rfl rfl rfl (by decide +kernel) ⟨hR1, hR2⟩
set_option maxHeartbeats 4000000 in
theorem m_X3_tickOnce {E : jE} (l : Launch) (o : Nat) (st : Ms) (w0 : Wl) (T : Int) (h1 : PWF T (st 0)) (h2 : T ≤ 999999999) : Met l yX3_tickOnce (ws_ yX3_tickOnce cX3_tickOnce 2 none) (rmL 2 0 0) (va_Pc [.ref o] (jP E (wM E o st w0))) (jQv E (fun u : Ms => wM E o u w0) (fun u => u = sp st (tickO (st 0)))) 0 0 (jA E) := by
  refine j_metV (by decide) (Nat.le_of_ble_eq_true rfl) ?_
  intro p e s m args below meth c Q hx hb hml hown hnm hts hV hH hret ls hl
  have hl : lv_has ls 2 [(0, .ref o)] := hl
  have hA := h1.A
  have hB := h1.B
  have ht := h1.time
  have hnb := nowO_b ht
  have hnb2 : nowO (upz (st 0) 4 (st 0 4 + 1)) = -1000 ∨ (0 ≤ nowO (upz (st 0) 4 (st 0 4 + 1)) ∧ nowO (upz (st 0) 4 (st 0 4 + 1)) < st 0 3) := hnb
  refine lv_aload_n hx hb dX3_tickOnce_0 rfl (lv_at hl 0 rfl) ?_
  refine j_get hx hb hts hown hV hH wM_o rfl in_X3 0 (Nat.le_of_ble_eq_true rfl) q2229 (fun _ h => h) rfl dX3_tickOnce_1 ?_
  refine j_iconst hx hb dX3_tickOnce_4 ?_
  refine lv_dup2_11 hx hb dX3_tickOnce_5 rfl rfl ?_
  refine j_iald (n := 198) hx hb hV hH wM_0 (by omega) (by omega) dX3_tickOnce_6 ?_
  refine j_iconst hx hb dX3_tickOnce_7 ?_
  refine j_iadd hx hb dX3_tickOnce_8 ?_
  refine j_iast (n := 198) hx hb hV hH wM_0 (by omega) (by omega) dX3_tickOnce_9 (fun H locs hH => ?_)
  rw [wM_s0] at hH
  have hH : jH E s.heap (wM E o (sp st (upz (st 0) 4 (st 0 4 + 1))) w0) H locs := by rw [← sp_su]; exact hH
  refine lv_aload_n hx hb dX3_tickOnce_10 rfl (lv_at hl 0 rfl) ?_
  refine j_callif (va_runV (As := []) (rest := []) ⟨hx, hb, hml, hown, hts⟩ (m_X3_sceneNow l o (sp st (upz (st 0) 4 (st 0 4 + 1))) w0 _ (ht) (by omega)) (cw_X3_sceneNow hts q2452 (Nat.le_of_ble_eq_true rfl) (Nat.le_of_ble_eq_true rfl)) (j_preV hV hH wM_o rfl) rfl rfl hl.1 rfl (lv_room (Nat.le_of_ble_eq_true rfl)) dX3_tickOnce_11 ⟨Nat.le_of_ble_eq_true rfl, Nat.le_of_ble_eq_true rfl⟩) hH (fun H locs hH => ?_)
  refine j_top (b := nowO (upz (st 0) 4 (st 0 4 + 1))) (rfl) ?_
  refine j_istore_n (lv' := fun x1 => [(1, .int (iI x1)), (0, .ref o)]) hx hb dX3_tickOnce_14 rfl hl (by decide) (fun _ => rfl) (fun x1 ex1 ls hl => ?_)
  refine lv_iload_n hx hb dX3_tickOnce_15 rfl (lv_at hl 0 rfl) ?_
  refine j_sipush hx hb dX3_tickOnce_16 (by decide) ?_
  refine j_icmp_eq (tgt := 94) hx hb dX3_tickOnce_19 (by decide) (by omega) (by omega) (fun c19 => ?_) (fun c19 => ?_)
  · exact hret (sp st (upz (st 0) 4 (st 0 4 + 1))) hH dX3_tickOnce_94 (Nat.le_of_ble_eq_true rfl) (Nat.le_of_ble_eq_true rfl) ((by first | (rw [tickO_n rfl (by rw [← ex1]; exact c19)]; done) | (simp only [sp_su, sp_sp, sp_0]; rw [← tickO_y rfl (by rw [← ex1]; exact c19), ← ex1]; try rfl)))
  · have hn3 : 0 ≤ x1 ∧ x1 < st 0 3 := by have e9 : (upz (st 0) 4 (st 0 4 + 1)) 3 = st 0 3 := rfl; omega
    have hS := h1.S hn3.1 hn3.2
    refine lv_aload_n hx hb dX3_tickOnce_22 rfl (lv_at hl 1 rfl) ?_
    refine j_get hx hb hts hown hV hH wM_o rfl in_X3 0 (Nat.le_of_ble_eq_true rfl) q2229 (fun _ h => h) rfl dX3_tickOnce_23 ?_
    refine j_iconst hx hb dX3_tickOnce_26 ?_
    refine lv_aload_n hx hb dX3_tickOnce_27 rfl (lv_at hl 1 rfl) ?_
    refine j_get hx hb hts hown hV hH wM_o rfl in_X3 0 (Nat.le_of_ble_eq_true rfl) q2229 (fun _ h => h) rfl dX3_tickOnce_28 ?_
    refine j_iconst hx hb dX3_tickOnce_31 ?_
    refine j_iald (n := 198) hx hb hV hH wM_0 (by omega) (by omega) dX3_tickOnce_32 ?_
    refine j_top (b := st 0 5) (rfl) ?_
    refine lv_aload_n hx hb dX3_tickOnce_33 rfl (lv_at hl 1 rfl) ?_
    refine j_get hx hb hts hown hV hH wM_o rfl in_X3 0 (Nat.le_of_ble_eq_true rfl) q2229 (fun _ h => h) rfl dX3_tickOnce_34 ?_
    refine j_sipush hx hb dX3_tickOnce_37 (by decide) ?_
    refine j_iconst hx hb dX3_tickOnce_40 ?_
    refine lv_iload_n hx hb dX3_tickOnce_41 rfl (lv_at hl 0 rfl) ?_
    refine j_imul hx hb dX3_tickOnce_42 ?_
    refine j_iadd hx hb dX3_tickOnce_43 ?_
    refine j_iald (n := 198) hx hb hV hH wM_0 (by omega) (by omega) dX3_tickOnce_44 ?_
    refine j_top (b := sc (st 0) x1 0) (by rw [sp_0, upz_n (by omega)]; unfold sc; rw [Int.add_zero]) ?_
    refine lv_aload_n hx hb dX3_tickOnce_45 rfl (lv_at hl 1 rfl) ?_
    refine j_get hx hb hts hown hV hH wM_o rfl in_X3 0 (Nat.le_of_ble_eq_true rfl) q2229 (fun _ h => h) rfl dX3_tickOnce_46 ?_
    refine j_bipush hx hb dX3_tickOnce_49 (by decide) ?_
    refine j_iald (n := 198) hx hb hV hH wM_0 (by omega) (by omega) dX3_tickOnce_51 ?_
    refine j_top (b := st 0 8) (rfl) ?_
    refine j_callip (va_runS (As := [.int (iI (st 0 5)), .int (iI (sc (st 0) x1 0)), .int (iI (st 0 8))]) (rest := [.int (iI 5), .ref (o + 1)]) ⟨hx, hb, hml, hown, hts⟩ (m_X3_towards l _ (st 0 5) (sc (st 0) x1 0) (st 0 8) (by omega) (by omega) (by omega)) (cw_X3_towards hts q2456 (Nat.le_of_ble_eq_true rfl) (Nat.le_of_ble_eq_true rfl)) (j_preS hV hH) rfl rfl hl.1 rfl (lv_room (Nat.le_of_ble_eq_true rfl)) dX3_tickOnce_52 ⟨Nat.le_of_ble_eq_true rfl, Nat.le_of_ble_eq_true rfl⟩) hH (fun H locs hH => ?_)
    refine j_iast (n := 198) hx hb hV hH wM_0 (by omega) (by omega) dX3_tickOnce_55 (fun H locs hH => ?_)
    rw [wM_s0] at hH
    refine lv_aload_n hx hb dX3_tickOnce_56 rfl (lv_at hl 1 rfl) ?_
    refine j_get hx hb hts hown hV hH wM_o rfl in_X3 0 (Nat.le_of_ble_eq_true rfl) q2229 (fun _ h => h) rfl dX3_tickOnce_57 ?_
    refine j_bipush hx hb dX3_tickOnce_60 (by decide) ?_
    refine lv_aload_n hx hb dX3_tickOnce_62 rfl (lv_at hl 1 rfl) ?_
    refine j_get hx hb hts hown hV hH wM_o rfl in_X3 0 (Nat.le_of_ble_eq_true rfl) q2229 (fun _ h => h) rfl dX3_tickOnce_63 ?_
    refine j_bipush hx hb dX3_tickOnce_66 (by decide) ?_
    refine j_iald (n := 198) hx hb hV hH wM_0 (by omega) (by omega) dX3_tickOnce_68 ?_
    refine j_top (b := (sp st (upz (st 0) 4 (st 0 4 + 1))) 0 6) (rfl) ?_
    refine j_top (b := st 0 6) (rfl) ?_
    refine lv_aload_n hx hb dX3_tickOnce_69 rfl (lv_at hl 1 rfl) ?_
    refine j_get hx hb hts hown hV hH wM_o rfl in_X3 0 (Nat.le_of_ble_eq_true rfl) q2229 (fun _ h => h) rfl dX3_tickOnce_70 ?_
    refine j_sipush hx hb dX3_tickOnce_73 (by decide) ?_
    refine j_iconst hx hb dX3_tickOnce_76 ?_
    refine lv_iload_n hx hb dX3_tickOnce_77 rfl (lv_at hl 0 rfl) ?_
    refine j_imul hx hb dX3_tickOnce_78 ?_
    refine j_iadd hx hb dX3_tickOnce_79 ?_
    refine j_iconst hx hb dX3_tickOnce_80 ?_
    refine j_iadd hx hb dX3_tickOnce_81 ?_
    refine j_iald (n := 198) hx hb hV hH wM_0 (by omega) (by omega) dX3_tickOnce_82 ?_
    refine j_top (b := sc (st 0) x1 1) (by rw [su_m (by omega), sp_0]; exact upz_n (by omega)) ?_
    refine lv_aload_n hx hb dX3_tickOnce_83 rfl (lv_at hl 1 rfl) ?_
    refine j_get hx hb hts hown hV hH wM_o rfl in_X3 0 (Nat.le_of_ble_eq_true rfl) q2229 (fun _ h => h) rfl dX3_tickOnce_84 ?_
    refine j_bipush hx hb dX3_tickOnce_87 (by decide) ?_
    refine j_iald (n := 198) hx hb hV hH wM_0 (by omega) (by omega) dX3_tickOnce_89 ?_
    refine j_top (b := (sp st (upz (st 0) 4 (st 0 4 + 1))) 0 8) (rfl) ?_
    refine j_top (b := st 0 8) (rfl) ?_
    refine j_callip (va_runS (As := [.int (iI (st 0 6)), .int (iI (sc (st 0) x1 1)), .int (iI (st 0 8))]) (rest := [.int (iI 6), .ref (o + 1)]) ⟨hx, hb, hml, hown, hts⟩ (m_X3_towards l _ (st 0 6) (sc (st 0) x1 1) (st 0 8) (by omega) (by omega) (by omega)) (cw_X3_towards hts q2456 (Nat.le_of_ble_eq_true rfl) (Nat.le_of_ble_eq_true rfl)) (j_preS hV hH) rfl rfl hl.1 rfl (lv_room (Nat.le_of_ble_eq_true rfl)) dX3_tickOnce_90 ⟨Nat.le_of_ble_eq_true rfl, Nat.le_of_ble_eq_true rfl⟩) hH (fun H locs hH => ?_)
    refine j_iast (n := 198) hx hb hV hH wM_0 (by omega) (by omega) dX3_tickOnce_93 (fun H locs hH => ?_)
    rw [wM_s0] at hH
    exact hret (su (su (sp st (upz (st 0) 4 (st 0 4 + 1))) 0 5 (twO (st 0 5) (sc (st 0) x1 0) (st 0 8))) 0 6 (twO (st 0 6) (sc (st 0) x1 1) (st 0 8))) hH dX3_tickOnce_94 (Nat.le_of_ble_eq_true rfl) (Nat.le_of_ble_eq_true rfl) ((by first | (rw [tickO_n rfl (by rw [← ex1]; exact c19)]; done) | (simp only [sp_su, sp_sp, sp_0]; rw [← tickO_y rfl (by rw [← ex1]; exact c19), ← ex1]; try rfl)))
theorem cw_X3_ticksOn {R : Room} {s : State} {args : Array Value} {own : String} {index lev mc ms : Nat} (hts : ∀ w ∈ lw_all, w.before args s = true) (hl : Cond.methodLink own index yX3_ticksOn ∈ lw_all) (hR1 : (rmL lev mc ms).frames + 1 ≤ R.frames) (hR2 : 8 + (3 + 11) + (rmL lev mc ms).locals ≤ R.locals) : CallW R s args own RX3 index yX3_ticksOn cX3_ticksOn 3 (some .int) (ws_ yX3_ticksOn cX3_ticksOn 3 (some .int)) (rmL lev mc ms) mc ms 1 :=
  cwV 1 hts (lw_V hl q2446 qs66 q116 q2447) rfl rfl rfl (by decide +kernel) ⟨hR1, hR2⟩
set_option maxHeartbeats 4000000 in
theorem m_X3_ticksOn {E : jE} (l : Launch) (o : Nat) (st : Ms) (w0 : Wl) (T : Int) (n : Int) (h1 : PWF T (st 0)) (h2 : T ≤ 900000000) (h3 : 0 ≤ n ∧ n ≤ 200) : Met l yX3_ticksOn (ws_ yX3_ticksOn cX3_ticksOn 3 (some .int)) (rmL 3 0 0) (va_Pc [.ref o, .int (iI n)] (jP E (wM E o st w0))) (jQi E (fun u : Ms => wM E o u w0) (fun z u => z = ticksO (st 0) n.toNat 4 ∧ u = sp st (ticksO (st 0) n.toNat))) 0 0 (jA E) := by
  refine j_metI (by decide) (Nat.le_of_ble_eq_true rfl) ?_
  intro p e s m args below meth c Q hx hb hml hown hnm hts hV hH hret ls hl
  have hl : lv_has ls 3 [(0, .ref o), (1, .int (iI n))] := hl
  refine j_iconst hx hb dX3_ticksOn_0 ?_
  refine j_istore_n (lv' := fun x1 => [(2, .int (iI x1)), (0, .ref o), (1, .int (iI n))]) hx hb dX3_ticksOn_1 rfl hl (by decide) (fun _ => rfl) (fun x1 ex1 ls hl => ?_)
  have L2 : ∀ (n_ : Nat), ∀ (it : Int) (hm_ : n - it < (n_ : Int)) (i1 : 0 ≤ it) (i2 : it ≤ n) (H : Heap) (locs : List Loc), jH E s.heap (wM E o (sp st (ticksO (st 0) it.toNat)) w0) H locs → ∀ ls : Array Slot, lv_has ls 3 [(0, .ref o), (1, .int (iI n)), (2, .int (iI it))] → W p l e (rmL 3 0 0) s m args below meth c H locs 0 0 Q (F0 m 2 ls []) := by
    intro n_
    induction n_ with
    | zero =>
      intro it hm_ i1 i2 H locs hH ls hl
      exact absurd hm_ (by omega)
    | succ n_ ih_2 =>
      intro it hm_ i1 i2 H locs hH ls hl
      have hti := h1.ticks it.toNat
      refine lv_iload_n hx hb dX3_ticksOn_2 rfl (lv_at hl 2 rfl) ?_
      refine lv_iload_n hx hb dX3_ticksOn_3 rfl (lv_at hl 1 rfl) ?_
      refine j_icmp_ge (tgt := 17) hx hb dX3_ticksOn_4 (by decide) (by omega) (by omega) (fun c4 => ?_) (fun c4 => ?_)
      · refine lv_aload_n hx hb dX3_ticksOn_17 rfl (lv_at hl 0 rfl) ?_
        refine j_get hx hb hts hown hV hH wM_o rfl in_X3 0 (Nat.le_of_ble_eq_true rfl) q2229 (fun _ h => h) rfl dX3_ticksOn_18 ?_
        refine j_iconst hx hb dX3_ticksOn_21 ?_
        refine j_iald (n := 198) hx hb hV hH wM_0 (by omega) (by omega) dX3_ticksOn_22 ?_
        exact hret (sp st (ticksO (st 0) it.toNat)) hH dX3_ticksOn_23 (Nat.le_of_ble_eq_true rfl) (Nat.le_of_ble_eq_true rfl) (⟨by rw [show n = it by omega]; rfl, by rw [show n = it by omega]⟩)
      · refine lv_aload_n hx hb dX3_ticksOn_7 rfl (lv_at hl 0 rfl) ?_
        refine j_callvf (va_runV (As := []) (rest := []) ⟨hx, hb, hml, hown, hts⟩ (m_X3_tickOnce l o (sp st (ticksO (st 0) it.toNat)) w0 _ (hti) (by omega)) (cw_X3_tickOnce hts q2448 (Nat.le_of_ble_eq_true rfl) (Nat.le_of_ble_eq_true rfl)) (j_preV hV hH wM_o rfl) rfl rfl hl.1 rfl (lv_room (Nat.le_of_ble_eq_true rfl)) dX3_ticksOn_8 ⟨Nat.le_of_ble_eq_true rfl, Nat.le_of_ble_eq_true rfl⟩) hH (fun H locs hH => ?_)
        refine j_iinc (k := 2) (lv' := fun x2 => [(2, .int (iI x2)), (0, .ref o), (1, .int (iI n))]) hx hb dX3_ticksOn_11 hl rfl (by decide) (fun _ => rfl) (fun x2 ex2 ls hl => ?_)
        refine lv_goto (tgt := 2) hx hb dX3_ticksOn_14 (by decide) ?_
        have hH : jH E s.heap (wM E o (sp st (ticksO (st 0) (x2).toNat)) w0) H locs := by rw [ex2, show (it + 1).toNat = it.toNat + 1 by omega]; rw [sp_sp] at hH; exact hH
        exact ih_2 x2 (by omega) (by first | assumption | omega) (by first | assumption | omega) _ _ hH ls (lv_sub hl [1, 2, 0] rfl)
  have hH : jH E s.heap (wM E o (sp st (ticksO (st 0) (x1).toNat)) w0) s.heap [] := by rw [ex1]; exact (congrArg (fun q => jH E s.heap (wM E o q w0) s.heap []) (sp_self st)).mpr hH
  exact L2 ((n - x1).toNat + 1) x1 (by omega) (by first | assumption | omega) (by first | assumption | omega) _ _ hH ls (lv_sub hl [1, 2, 0] rfl)
theorem cw_X3_tick {R : Room} {s : State} {args : Array Value} {own : String} {index lev mc ms : Nat} (hts : ∀ w ∈ lw_all, w.before args s = true) (hl : Cond.methodLink own index yX3_tick ∈ lw_all) (hR1 : (rmL lev mc ms).frames + 1 ≤ R.frames) (hR2 : 8 + (2 + 11) + (rmL lev mc ms).locals ≤ R.locals) : CallW R s args own RX3 index yX3_tick cX3_tick 2 (some .int) (ws_ yX3_tick cX3_tick 2 (some .int)) (rmL lev mc ms) mc ms 1 :=
  cwV 1 hts (lw_V hl q2438 q2439 q116 q2440) rfl rfl rfl (by decide +kernel) ⟨hR1, hR2⟩
set_option maxHeartbeats 4000000 in
theorem m_X3_tick {E : jE} (l : Launch) (o : Nat) (st : Ms) (w0 : Wl) (T : Int) (n : Int) (h1 : PWF T (st 0)) (h2 : 0 ≤ st 3 0 ∧ st 3 0 ≤ 4) (h3 : -2147483648 ≤ n ∧ n ≤ 2147483647) (h4 : T ≤ 900000000) : Met l yX3_tick (ws_ yX3_tick cX3_tick 2 (some .int)) (rmL 4 0 0) (va_Pc [.ref o, .int (iI n)] (jP E (wM E o st w0))) (jQi E (fun u : Ms => wM E o u w0) (fun z u => z = (if nTick n = 0 then ticksO (st 0) n.toNat 4 else 0) ∧ u = wrS st (nTick n) (ticksO (st 0) n.toNat))) 0 0 (jA E) := by
  refine j_metI (by decide) (Nat.le_of_ble_eq_true rfl) ?_
  intro p e s m args below meth c Q hx hb hml hown hnm hts hV hH hret ls hl
  have hl : lv_has ls 2 [(0, .ref o), (1, .int (iI n))] := hl
  have hA := h1.A
  have hnt : nTick n ≠ 0 ∨ (1 ≤ n ∧ n ≤ 200) := by unfold nTick; split <;> omega
  have hcb : 0 ≤ nTick n ∧ nTick n ≤ 3 := by first | omega | (unfold nTick; split <;> (try split) <;> (try split) <;> omega)
  refine lv_aload_n hx hb dX3_tick_0 rfl (lv_at hl 0 rfl) ?_
  refine lv_iload_n hx hb dX3_tick_1 rfl (lv_at hl 1 rfl) ?_
  refine j_callip (va_runS (As := [.int (iI n)]) (rest := [.ref o]) ⟨hx, hb, hml, hown, hts⟩ (m_X3_notTick l _ n (by omega)) (cw_X3_notTick hts q2441 (Nat.le_of_ble_eq_true rfl) (Nat.le_of_ble_eq_true rfl)) (j_preS hV hH) rfl rfl hl.1 rfl (lv_room (Nat.le_of_ble_eq_true rfl)) dX3_tick_2 ⟨Nat.le_of_ble_eq_true rfl, Nat.le_of_ble_eq_true rfl⟩) hH (fun H locs hH => ?_)
  refine j_put hx hb hts hown hV hH wM_o rfl in_X3 tyX3 tyX3_ok nmX3 6 (Nat.le_of_ble_eq_true rfl) q2235 (fun _ h => h) rfl rfl rfl (Nat.le_of_ble_eq_true rfl) dX3_tick_5 (fun H locs hH => ?_)
  rw [wM_f6] at hH
  refine lv_aload_n hx hb dX3_tick_8 rfl (lv_at hl 0 rfl) ?_
  refine j_get hx hb hts hown hV hH wM_o rfl in_X3 6 (Nat.le_of_ble_eq_true rfl) q2235 (fun _ h => h) rfl dX3_tick_9 ?_
  refine j_top (b := nTick n) rfl ?_
  refine j_if_eq (tgt := 17) hx hb dX3_tick_12 (by decide) (by omega) (fun c12 => ?_) (fun c12 => ?_)
  · refine lv_aload_n hx hb dX3_tick_17 rfl (lv_at hl 0 rfl) ?_
    refine j_callvf (va_runV (As := []) (rest := []) ⟨hx, hb, hml, hown, hts⟩ (m_X3_keep l o (su st 6 0 (nTick n)) w0 (show 0 ≤ st 3 0 ∧ st 3 0 ≤ 4 by omega)) (cw_X3_keep hts q2316 (Nat.le_of_ble_eq_true rfl) (Nat.le_of_ble_eq_true rfl)) (j_preV hV hH wM_o rfl) rfl rfl hl.1 rfl (lv_room (Nat.le_of_ble_eq_true rfl)) dX3_tick_18 ⟨Nat.le_of_ble_eq_true rfl, Nat.le_of_ble_eq_true rfl⟩) hH (fun H locs hH => ?_)
    refine lv_aload_n hx hb dX3_tick_21 rfl (lv_at hl 0 rfl) ?_
    refine lv_iload_n hx hb dX3_tick_22 rfl (lv_at hl 1 rfl) ?_
    refine j_callif (va_runV (As := [.int (iI n)]) (rest := []) ⟨hx, hb, hml, hown, hts⟩ (m_X3_ticksOn l o (kep (su st 6 0 (nTick n))) w0 _ n (h1) (by omega) (by omega)) (cw_X3_ticksOn hts q2444 (Nat.le_of_ble_eq_true rfl) (Nat.le_of_ble_eq_true rfl)) (j_preV hV hH wM_o rfl) rfl rfl hl.1 rfl (lv_room (Nat.le_of_ble_eq_true rfl)) dX3_tick_23 ⟨Nat.le_of_ble_eq_true rfl, Nat.le_of_ble_eq_true rfl⟩) hH (fun H locs hH => ?_)
    have hH : jH E s.heap (wM E o (sp (kep (su st 6 0 (nTick n))) (ticksO (st 0) n.toNat)) w0) H locs := hH
    refine j_top (b := ticksO (st 0) n.toNat 4) rfl ?_
    exact hret (sp (kep (su st 6 0 (nTick n))) (ticksO (st 0) n.toNat)) hH dX3_tick_26 (Nat.le_of_ble_eq_true rfl) (Nat.le_of_ble_eq_true rfl) (⟨(if_pos c12).symm, wrS_y c12⟩)
  · refine j_iconst hx hb dX3_tick_15 ?_
    exact hret (su st 6 0 (nTick n)) hH dX3_tick_16 (Nat.le_of_ble_eq_true rfl) (Nat.le_of_ble_eq_true rfl) (⟨(if_neg c12).symm, wrS_n c12⟩)
theorem cw_X3_undo {R : Room} {s : State} {args : Array Value} {own : String} {index lev mc ms : Nat} (hts : ∀ w ∈ lw_all, w.before args s = true) (hl : Cond.methodLink own index yX3_undo ∈ lw_all) (hR1 : (rmL lev mc ms).frames + 1 ≤ R.frames) (hR2 : 8 + (1 + 11) + (rmL lev mc ms).locals ≤ R.locals) : CallW R s args own RX3 index yX3_undo cX3_undo 1 (some .int) (ws_ yX3_undo cX3_undo 1 (some .int)) (rmL lev mc ms) mc ms 0 :=
  cwV 0 hts (lw_V hl q2699 q2700 q116 q2701) rfl rfl rfl (by decide +kernel) ⟨hR1, hR2⟩
set_option maxHeartbeats 4000000 in
theorem m_X3_undo {E : jE} (l : Launch) (o : Nat) (st : Ms) (w0 : Wl) (h1 : 0 ≤ st 3 0 ∧ st 3 0 ≤ 4) : Met l yX3_undo (ws_ yX3_undo cX3_undo 1 (some .int)) (rmL 2 0 0) (va_Pc [.ref o] (jP E (wM E o st w0))) (jQi E (fun u : Ms => wM E o u w0) (fun z u => z = (if st 3 0 = 0 then 0 else st 3 0 - 1) ∧ u = undS st)) 0 0 (jA E) := by
  refine j_metI (by decide) (Nat.le_of_ble_eq_true rfl) ?_
  intro p e s m args below meth c Q hx hb hml hown hnm hts hV hH hret ls hl
  have hl : lv_has ls 1 [(0, .ref o)] := hl
  refine lv_aload_n hx hb dX3_undo_0 rfl (lv_at hl 0 rfl) ?_
  refine lv_aload_n hx hb dX3_undo_1 rfl (lv_at hl 0 rfl) ?_
  refine j_get hx hb hts hown hV hH wM_o rfl in_X3 3 (Nat.le_of_ble_eq_true rfl) q2232 (fun _ h => h) rfl dX3_undo_2 ?_
  refine j_if_ne (tgt := 12) hx hb dX3_undo_5 (by decide) (by omega) (fun c5 => ?_) (fun c5 => ?_)
  · refine j_iconst hx hb dX3_undo_12 ?_
    refine j_put hx hb hts hown hV hH wM_o rfl in_X3 tyX3 tyX3_ok nmX3 6 (Nat.le_of_ble_eq_true rfl) q2235 (fun _ h => h) rfl rfl rfl (Nat.le_of_ble_eq_true rfl) dX3_undo_13 (fun H locs hH => ?_)
    rw [wM_f6] at hH
    refine lv_aload_n hx hb dX3_undo_16 rfl (lv_at hl 0 rfl) ?_
    refine j_get hx hb hts hown hV hH wM_o rfl in_X3 6 (Nat.le_of_ble_eq_true rfl) q2235 (fun _ h => h) rfl dX3_undo_17 ?_
    refine j_top (b := 0) rfl ?_
    refine j_if_eq (tgt := 25) hx hb dX3_undo_20 (by decide) (by omega) (fun c20 => ?_) (fun c20 => ?_)
    · refine lv_aload_n hx hb dX3_undo_25 rfl (lv_at hl 0 rfl) ?_
      refine lv_dup hx hb dX3_undo_26 rfl ?_
      refine j_get hx hb hts hown hV hH wM_o rfl in_X3 3 (Nat.le_of_ble_eq_true rfl) q2232 (fun _ h => h) rfl dX3_undo_27 ?_
      refine j_top (b := st 3 0) rfl ?_
      refine j_iconst hx hb dX3_undo_30 ?_
      refine j_isub hx hb dX3_undo_31 ?_
      refine j_put hx hb hts hown hV hH wM_o rfl in_X3 tyX3 tyX3_ok nmX3 3 (Nat.le_of_ble_eq_true rfl) q2232 (fun _ h => h) rfl rfl rfl (Nat.le_of_ble_eq_true rfl) dX3_undo_32 (fun H locs hH => ?_)
      rw [wM_f3] at hH
      refine lv_aload_n hx hb dX3_undo_35 rfl (lv_at hl 0 rfl) ?_
      refine j_get hx hb hts hown hV hH wM_o rfl in_X3 2 (Nat.le_of_ble_eq_true rfl) q2231 (fun _ h => h) rfl dX3_undo_36 ?_
      refine j_sipush hx hb dX3_undo_39 (by decide) ?_
      refine lv_aload_n hx hb dX3_undo_42 rfl (lv_at hl 0 rfl) ?_
      refine j_get hx hb hts hown hV hH wM_o rfl in_X3 3 (Nat.le_of_ble_eq_true rfl) q2232 (fun _ h => h) rfl dX3_undo_43 ?_
      refine j_top (b := (st 3 0) - 1) rfl ?_
      refine j_imul hx hb dX3_undo_46 ?_
      refine lv_aload_n hx hb dX3_undo_47 rfl (lv_at hl 0 rfl) ?_
      refine j_get hx hb hts hown hV hH wM_o rfl in_X3 0 (Nat.le_of_ble_eq_true rfl) q2229 (fun _ h => h) rfl dX3_undo_48 ?_
      refine j_iconst hx hb dX3_undo_51 ?_
      refine j_callvf (va_runS (As := [.ref (o + 3), .int (iI (198 * ((st 3 0) - 1))), .ref (o + 1), .int (iI 0)]) (rest := []) ⟨hx, hb, hml, hown, hts⟩ (m_X3_bring20 l o (su (su st 6 0 0) 3 0 ((st 3 0) - 1)) w0 (198 * ((st 3 0) - 1)) 0 (by omega) (by omega)) (cw_X3_bring hts q2320 (Nat.le_of_ble_eq_true rfl) (Nat.le_of_ble_eq_true rfl)) (j_preS hV hH) rfl rfl hl.1 rfl (lv_room (Nat.le_of_ble_eq_true rfl)) dX3_undo_52 ⟨Nat.le_of_ble_eq_true rfl, Nat.le_of_ble_eq_true rfl⟩) hH (fun H locs hH => ?_)
      refine lv_aload_n hx hb dX3_undo_55 rfl (lv_at hl 0 rfl) ?_
      refine j_get hx hb hts hown hV hH wM_o rfl in_X3 3 (Nat.le_of_ble_eq_true rfl) q2232 (fun _ h => h) rfl dX3_undo_56 ?_
      refine j_top (b := (st 3 0) - 1) rfl ?_
      exact hret (cpO ((su (su st 6 0 0) 3 0 ((st 3 0) - 1))) 2 (198 * ((st 3 0) - 1)) 0 0 198) hH dX3_undo_59 (Nat.le_of_ble_eq_true rfl) (Nat.le_of_ble_eq_true rfl) (by first | exact absurd c20 (by decide) | exact ⟨(if_neg c5).symm, (if_neg c5).symm⟩)
    · refine j_iconst hx hb dX3_undo_23 ?_
      exact hret (su st 6 0 0) hH dX3_undo_24 (Nat.le_of_ble_eq_true rfl) (Nat.le_of_ble_eq_true rfl) (by first | exact absurd rfl c20 | exact ⟨(if_pos c5).symm, (if_pos c5).symm⟩)
  · refine j_iconst hx hb dX3_undo_8 ?_
    refine lv_goto (tgt := 13) hx hb dX3_undo_9 (by decide) ?_
    refine j_put hx hb hts hown hV hH wM_o rfl in_X3 tyX3 tyX3_ok nmX3 6 (Nat.le_of_ble_eq_true rfl) q2235 (fun _ h => h) rfl rfl rfl (Nat.le_of_ble_eq_true rfl) dX3_undo_13 (fun H locs hH => ?_)
    rw [wM_f6] at hH
    refine lv_aload_n hx hb dX3_undo_16 rfl (lv_at hl 0 rfl) ?_
    refine j_get hx hb hts hown hV hH wM_o rfl in_X3 6 (Nat.le_of_ble_eq_true rfl) q2235 (fun _ h => h) rfl dX3_undo_17 ?_
    refine j_top (b := 1) rfl ?_
    refine j_if_eq (tgt := 25) hx hb dX3_undo_20 (by decide) (by omega) (fun c20 => ?_) (fun c20 => ?_)
    · refine lv_aload_n hx hb dX3_undo_25 rfl (lv_at hl 0 rfl) ?_
      refine lv_dup hx hb dX3_undo_26 rfl ?_
      refine j_get hx hb hts hown hV hH wM_o rfl in_X3 3 (Nat.le_of_ble_eq_true rfl) q2232 (fun _ h => h) rfl dX3_undo_27 ?_
      refine j_top (b := st 3 0) rfl ?_
      refine j_iconst hx hb dX3_undo_30 ?_
      refine j_isub hx hb dX3_undo_31 ?_
      refine j_put hx hb hts hown hV hH wM_o rfl in_X3 tyX3 tyX3_ok nmX3 3 (Nat.le_of_ble_eq_true rfl) q2232 (fun _ h => h) rfl rfl rfl (Nat.le_of_ble_eq_true rfl) dX3_undo_32 (fun H locs hH => ?_)
      rw [wM_f3] at hH
      refine lv_aload_n hx hb dX3_undo_35 rfl (lv_at hl 0 rfl) ?_
      refine j_get hx hb hts hown hV hH wM_o rfl in_X3 2 (Nat.le_of_ble_eq_true rfl) q2231 (fun _ h => h) rfl dX3_undo_36 ?_
      refine j_sipush hx hb dX3_undo_39 (by decide) ?_
      refine lv_aload_n hx hb dX3_undo_42 rfl (lv_at hl 0 rfl) ?_
      refine j_get hx hb hts hown hV hH wM_o rfl in_X3 3 (Nat.le_of_ble_eq_true rfl) q2232 (fun _ h => h) rfl dX3_undo_43 ?_
      refine j_top (b := (st 3 0) - 1) rfl ?_
      refine j_imul hx hb dX3_undo_46 ?_
      refine lv_aload_n hx hb dX3_undo_47 rfl (lv_at hl 0 rfl) ?_
      refine j_get hx hb hts hown hV hH wM_o rfl in_X3 0 (Nat.le_of_ble_eq_true rfl) q2229 (fun _ h => h) rfl dX3_undo_48 ?_
      refine j_iconst hx hb dX3_undo_51 ?_
      refine j_callvf (va_runS (As := [.ref (o + 3), .int (iI (198 * ((st 3 0) - 1))), .ref (o + 1), .int (iI 0)]) (rest := []) ⟨hx, hb, hml, hown, hts⟩ (m_X3_bring20 l o (su (su st 6 0 1) 3 0 ((st 3 0) - 1)) w0 (198 * ((st 3 0) - 1)) 0 (by omega) (by omega)) (cw_X3_bring hts q2320 (Nat.le_of_ble_eq_true rfl) (Nat.le_of_ble_eq_true rfl)) (j_preS hV hH) rfl rfl hl.1 rfl (lv_room (Nat.le_of_ble_eq_true rfl)) dX3_undo_52 ⟨Nat.le_of_ble_eq_true rfl, Nat.le_of_ble_eq_true rfl⟩) hH (fun H locs hH => ?_)
      refine lv_aload_n hx hb dX3_undo_55 rfl (lv_at hl 0 rfl) ?_
      refine j_get hx hb hts hown hV hH wM_o rfl in_X3 3 (Nat.le_of_ble_eq_true rfl) q2232 (fun _ h => h) rfl dX3_undo_56 ?_
      refine j_top (b := (st 3 0) - 1) rfl ?_
      exact hret (cpO ((su (su st 6 0 1) 3 0 ((st 3 0) - 1))) 2 (198 * ((st 3 0) - 1)) 0 0 198) hH dX3_undo_59 (Nat.le_of_ble_eq_true rfl) (Nat.le_of_ble_eq_true rfl) (by first | exact absurd c20 (by decide) | exact ⟨(if_neg c5).symm, (if_neg c5).symm⟩)
    · refine j_iconst hx hb dX3_undo_23 ?_
      exact hret (su st 6 0 1) hH dX3_undo_24 (Nat.le_of_ble_eq_true rfl) (Nat.le_of_ble_eq_true rfl) (by first | exact absurd rfl c20 | exact ⟨(if_pos c5).symm, (if_pos c5).symm⟩)
