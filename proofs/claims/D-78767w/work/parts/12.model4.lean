/-! THE REFERENCE's METHODS: sorting, the title, the survey -/
set_option maxRecDepth 100000
theorem cw_X3_sort {R : Room} {s : State} {args : Array Value} {own : String} {index lev mc ms : Nat} (hts : ∀ w ∈ lw_all, w.before args s = true) (hl : Cond.methodLink own index yX3_sort ∈ lw_all) (hR1 : (rmL lev mc ms).frames + 1 ≤ R.frames) (hR2 : 8 + (3 + 11) + (rmL lev mc ms).locals ≤ R.locals) : CallW R s args own RX3 index yX3_sort cX3_sort 3 none (ws_ yX3_sort cX3_sort 3 none) (rmL lev mc ms) mc ms 0 :=
  cwV 0 hts (lw_V hl q2492 qs75 q116 q2493) rfl rfl rfl (by decide +kernel) ⟨hR1, hR2⟩
set_option maxHeartbeats 4000000 in
theorem m_X3_sort {E : jE} (l : Launch) (o : Nat) (st : Ms) (w0 : Wl) (T : Int) (h1 : PWF T (st 0)) (h2 : SHC st) : Met l yX3_sort (ws_ yX3_sort cX3_sort 3 none) (rmL 3 0 0) (va_Pc [.ref o] (jP E (wM E o st w0))) (jQv E (fun u : (Int → Int) × Int => wM E o (srO st u.1 u.2) w0) (fun u => u.2 = cntO (st 0) ∧ ∀ j : Int, 0 ≤ j → j < cntO (st 0) → u.1 j = ordO (st 0) j)) 0 0 (jA E) := by
  refine j_metV (by decide) (Nat.le_of_ble_eq_true rfl) ?_
  intro p e s m args below meth c Q hx hb hml hown hnm hts hV hH hret ls hl
  have hl : lv_has ls 3 [(0, .ref o)] := hl
  have hA := h1.A
  refine lv_aload_n hx hb dX3_sort_0 rfl (lv_at hl 0 rfl) ?_
  refine j_iconst hx hb dX3_sort_1 ?_
  refine j_put hx hb hts hown hV hH wM_o rfl in_X3 tyX3 tyX3_ok nmX3 14 (Nat.le_of_ble_eq_true rfl) q2243 (fun _ h => h) rfl rfl rfl (Nat.le_of_ble_eq_true rfl) dX3_sort_2 (fun H locs hH => ?_)
  rw [wM_f14] at hH
  refine j_iconst hx hb dX3_sort_5 ?_
  refine j_istore_n (lv' := fun x1 => [(1, .int (iI x1)), (0, .ref o)]) hx hb dX3_sort_6 rfl hl (by decide) (fun _ => rfl) (fun x1 ex1 ls hl => ?_)
  have L7 : ∀ (n_ : Nat), ∀ (f : Int → Int) (cnt : Int) (it : Int) (hm_ : st 0 2 - it < (n_ : Int)) (i1 : 0 ≤ it) (i2 : it ≤ st 0 2) (i3 : cnt = (ordS (st 0) (shO (st 0)) it.toNat).1) (i4 : ∀ j : Int, 0 ≤ j → j < cnt → f j = (ordS (st 0) (shO (st 0)) it.toNat).2 j) (H : Heap) (locs : List Loc), jH E s.heap (wM E o (srO st f cnt) w0) H locs → ∀ ls : Array Slot, lv_has ls 3 [(0, .ref o), (1, .int (iI it))] → W p l e (rmL 3 0 0) s m args below meth c H locs 0 0 Q (F0 m 7 ls []) := by
    intro n_
    induction n_ with
    | zero =>
      intro f cnt it hm_ i1 i2 i3 i4 H locs hH ls hl
      exact absurd hm_ (by omega)
    | succ n_ ih_7 =>
      intro f cnt it hm_ i1 i2 i3 i4 H locs hH ls hl
      have hob0 := ordS_b (sh := shO (st 0)) h1 it.toNat (by omega)
      refine lv_iload_n hx hb dX3_sort_7 rfl (lv_at hl 1 rfl) ?_
      refine lv_aload_n hx hb dX3_sort_8 rfl (lv_at hl 0 rfl) ?_
      refine j_get hx hb hts hown hV hH wM_o rfl in_X3 0 (Nat.le_of_ble_eq_true rfl) q2229 (fun _ h => h) rfl dX3_sort_9 ?_
      refine j_iconst hx hb dX3_sort_12 ?_
      refine j_iald (n := 198) hx hb hV hH wM_0 (by omega) (by omega) dX3_sort_13 ?_
      refine j_top (b := st 0 2) (rfl) ?_
      refine j_icmp_ge (tgt := 111) hx hb dX3_sort_14 (by decide) (by omega) (by omega) (fun c14 => ?_) (fun c14 => ?_)
      · exact hret (f, cnt) hH dX3_sort_111 (Nat.le_of_ble_eq_true rfl) (Nat.le_of_ble_eq_true rfl) ((by rw [show it.toNat = (st 0 2).toNat by omega] at i3 i4; exact ⟨i3, fun j k1 k2 => i4 j k1 (by rw [i3]; exact k2)⟩))
      · have hc0 := hob0.1
        refine lv_aload_n hx hb dX3_sort_17 rfl (lv_at hl 0 rfl) ?_
        refine j_get hx hb hts hown hV hH wM_o rfl in_X3 14 (Nat.le_of_ble_eq_true rfl) q2243 (fun _ h => h) rfl dX3_sort_18 ?_
        refine j_top (b := cnt) (srO_14 st f cnt) ?_
        refine j_istore_n (lv' := fun x2 => [(2, .int (iI x2)), (0, .ref o), (1, .int (iI it))]) hx hb dX3_sort_21 rfl hl (by decide) (fun _ => rfl) (fun x2 ex2 ls hl => ?_)
        have L22 : ∀ (n_ : Nat), ∀ (g : Int → Int) (a : Int) (hm_ : a < (n_ : Int)) (j0 : 0 ≤ a ∧ a ≤ cnt) (j1 : ∀ j : Int, 0 ≤ j → j < a → g j = f j) (j2 : ∀ j : Int, a < j → j ≤ cnt → g j = f (j - 1)) (j3 : 0 < nd (st 0) it 4 → posF (shO (st 0)) f it cnt.toNat = posF (shO (st 0)) f it a.toNat) (j4 : ¬ 0 < nd (st 0) it 4 → a = cnt) (H : Heap) (locs : List Loc), jH E s.heap (wM E o (srO st g cnt) w0) H locs → ∀ ls : Array Slot, lv_has ls 3 [(0, .ref o), (1, .int (iI it)), (2, .int (iI a))] → W p l e (rmL 3 0 0) s m args below meth c H locs 0 0 Q (F0 m 22 ls []) := by
          intro n_
          induction n_ with
          | zero =>
            intro g a hm_ j0 j1 j2 j3 j4 H locs hH ls hl
            exact absurd hm_ (by omega)
          | succ n_ ih_22 =>
            intro g a hm_ j0 j1 j2 j3 j4 H locs hH ls hl
            refine lv_aload_n hx hb dX3_sort_22 rfl (lv_at hl 0 rfl) ?_
            refine lv_iload_n hx hb dX3_sort_23 rfl (lv_at hl 1 rfl) ?_
            refine j_callif (va_runV (As := [.int (iI it)]) (rest := []) ⟨hx, hb, hml, hown, hts⟩ (m_X3_isBox l o (srO st g cnt) w0 _ it (h1) (by omega) (show it < st 0 2 by omega)) (cw_X3_isBox hts q2339 (Nat.le_of_ble_eq_true rfl) (Nat.le_of_ble_eq_true rfl)) (j_preV hV hH wM_o rfl) rfl rfl hl.1 rfl (lv_room (Nat.le_of_ble_eq_true rfl)) dX3_sort_24 ⟨Nat.le_of_ble_eq_true rfl, Nat.le_of_ble_eq_true rfl⟩) hH (fun H locs hH => ?_)
            refine j_top (b := bI (0 < nd (st 0) it 4)) rfl ?_
            refine j_ifeq_b (tgt := 76) hx hb dX3_sort_27 (by decide) (fun c27 => ?_) (fun c27 => ?_)
            · have hpos : 0 < nd (st 0) it 4 → a = posF (shO (st 0)) f it cnt.toNat := fun q => absurd q c27
              refine lv_aload_n hx hb dX3_sort_76 rfl (lv_at hl 0 rfl) ?_
              refine j_get hx hb hts hown hV hH wM_o rfl in_X3 13 (Nat.le_of_ble_eq_true rfl) q2242 (fun _ h => h) rfl dX3_sort_77 ?_
              refine lv_iload_n hx hb dX3_sort_80 rfl (lv_at hl 2 rfl) ?_
              refine lv_iload_n hx hb dX3_sort_81 rfl (lv_at hl 1 rfl) ?_
              refine j_iast (n := 20) hx hb hV hH wM_13 (by omega) (by omega) dX3_sort_82 (fun H locs hH => ?_)
              rw [wM_s13] at hH
              refine lv_aload_n hx hb dX3_sort_83 rfl (lv_at hl 0 rfl) ?_
              refine lv_dup hx hb dX3_sort_84 rfl ?_
              refine j_get hx hb hts hown hV hH wM_o rfl in_X3 14 (Nat.le_of_ble_eq_true rfl) q2243 (fun _ h => h) rfl dX3_sort_85 ?_
              refine j_top (b := (srO st g cnt) 14 0) rfl ?_
              refine j_top (b := cnt) (srO_14 st g cnt) ?_
              refine lv_aload_n hx hb dX3_sort_88 rfl (lv_at hl 0 rfl) ?_
              refine lv_iload_n hx hb dX3_sort_89 rfl (lv_at hl 1 rfl) ?_
              refine j_callif (va_runV (As := [.int (iI it)]) (rest := [.int (iI cnt), .ref o]) ⟨hx, hb, hml, hown, hts⟩ (m_X3_isBox l o (su (srO st g cnt) 13 a it) w0 _ it (h1) (by omega) (show it < st 0 2 by omega)) (cw_X3_isBox hts q2339 (Nat.le_of_ble_eq_true rfl) (Nat.le_of_ble_eq_true rfl)) (j_preV hV hH wM_o rfl) rfl rfl hl.1 rfl (lv_room (Nat.le_of_ble_eq_true rfl)) dX3_sort_90 ⟨Nat.le_of_ble_eq_true rfl, Nat.le_of_ble_eq_true rfl⟩) hH (fun H locs hH => ?_)
              refine j_top (b := bI (0 < nd (st 0) it 4)) rfl ?_
              refine j_ifeq_b (tgt := 100) hx hb dX3_sort_93 (by decide) (fun c93 => ?_) (fun c93 => ?_)
              · refine j_iconst hx hb dX3_sort_100 ?_
                refine j_iadd hx hb dX3_sort_101 ?_
                refine j_put hx hb hts hown hV hH wM_o rfl in_X3 tyX3 tyX3_ok nmX3 14 (Nat.le_of_ble_eq_true rfl) q2243 (fun _ h => h) rfl rfl rfl (Nat.le_of_ble_eq_true rfl) dX3_sort_102 (fun H locs hH => ?_)
                rw [wM_f14] at hH
                refine j_iinc (k := 1) (lv' := fun x3 => [(1, .int (iI x3)), (0, .ref o), (2, .int (iI a))]) hx hb dX3_sort_105 hl rfl (by decide) (fun _ => rfl) (fun x3 ex3 ls hl => ?_)
                refine lv_goto (tgt := 7) hx hb dX3_sort_108 (by decide) ?_
                rw [srO_o, srO_b] at hH
                exact ih_7 (upz g a it) (cnt + 0) x3 (by omega) (by first | assumption | omega) (by first | assumption | omega) (by rw [ex3]; first | exact (srt_box i1 (by omega) i3 i4 c93 j1 j2 (hpos c93)).1 | (have := (srt_no i1 i3 i4 c93 (j4 c93) j1).1; omega)) (by rw [ex3]; first | exact (srt_box i1 (by omega) i3 i4 c93 j1 j2 (hpos c93)).2 | exact fun j k1 k2 => (srt_no i1 i3 i4 c93 (j4 c93) j1).2 j k1 (by omega)) _ _ hH ls (lv_sub hl [1, 0] rfl)
              · refine j_iconst hx hb dX3_sort_96 ?_
                refine lv_goto (tgt := 101) hx hb dX3_sort_97 (by decide) ?_
                refine j_iadd hx hb dX3_sort_101 ?_
                refine j_put hx hb hts hown hV hH wM_o rfl in_X3 tyX3 tyX3_ok nmX3 14 (Nat.le_of_ble_eq_true rfl) q2243 (fun _ h => h) rfl rfl rfl (Nat.le_of_ble_eq_true rfl) dX3_sort_102 (fun H locs hH => ?_)
                rw [wM_f14] at hH
                refine j_iinc (k := 1) (lv' := fun x4 => [(1, .int (iI x4)), (0, .ref o), (2, .int (iI a))]) hx hb dX3_sort_105 hl rfl (by decide) (fun _ => rfl) (fun x4 ex4 ls hl => ?_)
                refine lv_goto (tgt := 7) hx hb dX3_sort_108 (by decide) ?_
                rw [srO_o, srO_b] at hH
                exact ih_7 (upz g a it) (cnt + 1) x4 (by omega) (by first | assumption | omega) (by first | assumption | omega) (by rw [ex4]; first | exact (srt_box i1 (by omega) i3 i4 c93 j1 j2 (hpos c93)).1 | (have := (srt_no i1 i3 i4 c93 (j4 c93) j1).1; omega)) (by rw [ex4]; first | exact (srt_box i1 (by omega) i3 i4 c93 j1 j2 (hpos c93)).2 | exact fun j k1 k2 => (srt_no i1 i3 i4 c93 (j4 c93) j1).2 j k1 (by omega)) _ _ hH ls (lv_sub hl [1, 0] rfl)
            · refine lv_iload_n hx hb dX3_sort_30 rfl (lv_at hl 2 rfl) ?_
              refine j_if_le (tgt := 76) hx hb dX3_sort_31 (by decide) (by omega) (fun c31 => ?_) (fun c31 => ?_)
              · have hpos : 0 < nd (st 0) it 4 → a = posF (shO (st 0)) f it cnt.toNat := fun q => by rw [j3 q]; exact (pos_zero (by omega)).symm
                refine lv_aload_n hx hb dX3_sort_76 rfl (lv_at hl 0 rfl) ?_
                refine j_get hx hb hts hown hV hH wM_o rfl in_X3 13 (Nat.le_of_ble_eq_true rfl) q2242 (fun _ h => h) rfl dX3_sort_77 ?_
                refine lv_iload_n hx hb dX3_sort_80 rfl (lv_at hl 2 rfl) ?_
                refine lv_iload_n hx hb dX3_sort_81 rfl (lv_at hl 1 rfl) ?_
                refine j_iast (n := 20) hx hb hV hH wM_13 (by omega) (by omega) dX3_sort_82 (fun H locs hH => ?_)
                rw [wM_s13] at hH
                refine lv_aload_n hx hb dX3_sort_83 rfl (lv_at hl 0 rfl) ?_
                refine lv_dup hx hb dX3_sort_84 rfl ?_
                refine j_get hx hb hts hown hV hH wM_o rfl in_X3 14 (Nat.le_of_ble_eq_true rfl) q2243 (fun _ h => h) rfl dX3_sort_85 ?_
                refine j_top (b := (srO st g cnt) 14 0) rfl ?_
                refine j_top (b := cnt) (srO_14 st g cnt) ?_
                refine lv_aload_n hx hb dX3_sort_88 rfl (lv_at hl 0 rfl) ?_
                refine lv_iload_n hx hb dX3_sort_89 rfl (lv_at hl 1 rfl) ?_
                refine j_callif (va_runV (As := [.int (iI it)]) (rest := [.int (iI cnt), .ref o]) ⟨hx, hb, hml, hown, hts⟩ (m_X3_isBox l o (su (srO st g cnt) 13 a it) w0 _ it (h1) (by omega) (show it < st 0 2 by omega)) (cw_X3_isBox hts q2339 (Nat.le_of_ble_eq_true rfl) (Nat.le_of_ble_eq_true rfl)) (j_preV hV hH wM_o rfl) rfl rfl hl.1 rfl (lv_room (Nat.le_of_ble_eq_true rfl)) dX3_sort_90 ⟨Nat.le_of_ble_eq_true rfl, Nat.le_of_ble_eq_true rfl⟩) hH (fun H locs hH => ?_)
                refine j_top (b := bI (0 < nd (st 0) it 4)) rfl ?_
                refine j_ifeq_b (tgt := 100) hx hb dX3_sort_93 (by decide) (fun c93 => ?_) (fun c93 => ?_)
                · refine j_iconst hx hb dX3_sort_100 ?_
                  refine j_iadd hx hb dX3_sort_101 ?_
                  refine j_put hx hb hts hown hV hH wM_o rfl in_X3 tyX3 tyX3_ok nmX3 14 (Nat.le_of_ble_eq_true rfl) q2243 (fun _ h => h) rfl rfl rfl (Nat.le_of_ble_eq_true rfl) dX3_sort_102 (fun H locs hH => ?_)
                  rw [wM_f14] at hH
                  refine j_iinc (k := 1) (lv' := fun x5 => [(1, .int (iI x5)), (0, .ref o), (2, .int (iI a))]) hx hb dX3_sort_105 hl rfl (by decide) (fun _ => rfl) (fun x5 ex5 ls hl => ?_)
                  refine lv_goto (tgt := 7) hx hb dX3_sort_108 (by decide) ?_
                  rw [srO_o, srO_b] at hH
                  exact ih_7 (upz g a it) (cnt + 0) x5 (by omega) (by first | assumption | omega) (by first | assumption | omega) (by rw [ex5]; first | exact (srt_box i1 (by omega) i3 i4 c93 j1 j2 (hpos c93)).1 | (have := (srt_no i1 i3 i4 c93 (j4 c93) j1).1; omega)) (by rw [ex5]; first | exact (srt_box i1 (by omega) i3 i4 c93 j1 j2 (hpos c93)).2 | exact fun j k1 k2 => (srt_no i1 i3 i4 c93 (j4 c93) j1).2 j k1 (by omega)) _ _ hH ls (lv_sub hl [1, 0] rfl)
                · refine j_iconst hx hb dX3_sort_96 ?_
                  refine lv_goto (tgt := 101) hx hb dX3_sort_97 (by decide) ?_
                  refine j_iadd hx hb dX3_sort_101 ?_
                  refine j_put hx hb hts hown hV hH wM_o rfl in_X3 tyX3 tyX3_ok nmX3 14 (Nat.le_of_ble_eq_true rfl) q2243 (fun _ h => h) rfl rfl rfl (Nat.le_of_ble_eq_true rfl) dX3_sort_102 (fun H locs hH => ?_)
                  rw [wM_f14] at hH
                  refine j_iinc (k := 1) (lv' := fun x6 => [(1, .int (iI x6)), (0, .ref o), (2, .int (iI a))]) hx hb dX3_sort_105 hl rfl (by decide) (fun _ => rfl) (fun x6 ex6 ls hl => ?_)
                  refine lv_goto (tgt := 7) hx hb dX3_sort_108 (by decide) ?_
                  rw [srO_o, srO_b] at hH
                  exact ih_7 (upz g a it) (cnt + 1) x6 (by omega) (by first | assumption | omega) (by first | assumption | omega) (by rw [ex6]; first | exact (srt_box i1 (by omega) i3 i4 c93 j1 j2 (hpos c93)).1 | (have := (srt_no i1 i3 i4 c93 (j4 c93) j1).1; omega)) (by rw [ex6]; first | exact (srt_box i1 (by omega) i3 i4 c93 j1 j2 (hpos c93)).2 | exact fun j k1 k2 => (srt_no i1 i3 i4 c93 (j4 c93) j1).2 j k1 (by omega)) _ _ hH ls (lv_sub hl [1, 0] rfl)
              · have hfa := i4 (a - 1) (by omega) (by omega)
                have hob := hob0.2 (a - 1) (by omega) (by rw [← i3]; omega)
                rw [← hfa] at hob
                have hs1 := shO_b h1 (n := f (a - 1)) (Or.inr ⟨by omega, by omega⟩)
                have hs2 := shO_b h1 (n := it) (Or.inr ⟨i1, c14⟩)
                refine lv_aload_n hx hb dX3_sort_34 rfl (lv_at hl 0 rfl) ?_
                refine j_get hx hb hts hown hV hH wM_o rfl in_X3 11 (Nat.le_of_ble_eq_true rfl) q2240 (fun _ h => h) rfl dX3_sort_35 ?_
                refine lv_aload_n hx hb dX3_sort_38 rfl (lv_at hl 0 rfl) ?_
                refine j_get hx hb hts hown hV hH wM_o rfl in_X3 13 (Nat.le_of_ble_eq_true rfl) q2242 (fun _ h => h) rfl dX3_sort_39 ?_
                refine lv_iload_n hx hb dX3_sort_42 rfl (lv_at hl 2 rfl) ?_
                refine j_iconst hx hb dX3_sort_43 ?_
                refine j_isub hx hb dX3_sort_44 ?_
                refine j_iald (n := 20) hx hb hV hH wM_13 (by omega) (by omega) dX3_sort_45 ?_
                refine j_top (b := f (a - 1)) (j1 (a - 1) (by omega) (by omega)) ?_
                refine j_iald (n := 20) hx hb hV hH wM_11 (by omega) (by omega) dX3_sort_46 ?_
                refine j_top (b := st 11 (f (a - 1))) (rfl) ?_
                refine j_top (b := shO (st 0) (f (a - 1))) (h2 _ (by omega) (by omega)) ?_
                refine lv_aload_n hx hb dX3_sort_47 rfl (lv_at hl 0 rfl) ?_
                refine j_get hx hb hts hown hV hH wM_o rfl in_X3 11 (Nat.le_of_ble_eq_true rfl) q2240 (fun _ h => h) rfl dX3_sort_48 ?_
                refine lv_iload_n hx hb dX3_sort_51 rfl (lv_at hl 1 rfl) ?_
                refine j_iald (n := 20) hx hb hV hH wM_11 (by omega) (by omega) dX3_sort_52 ?_
                refine j_top (b := st 11 it) (rfl) ?_
                refine j_top (b := shO (st 0) it) (h2 it i1 c14) ?_
                refine j_icmp_le (tgt := 76) hx hb dX3_sort_53 (by decide) (by omega) (by omega) (fun c53 => ?_) (fun c53 => ?_)
                · have hpos : 0 < nd (st 0) it 4 → a = posF (shO (st 0)) f it cnt.toNat := fun q => by rw [j3 q]; exact (pos_stop (by omega) (by omega)).symm
                  refine lv_aload_n hx hb dX3_sort_76 rfl (lv_at hl 0 rfl) ?_
                  refine j_get hx hb hts hown hV hH wM_o rfl in_X3 13 (Nat.le_of_ble_eq_true rfl) q2242 (fun _ h => h) rfl dX3_sort_77 ?_
                  refine lv_iload_n hx hb dX3_sort_80 rfl (lv_at hl 2 rfl) ?_
                  refine lv_iload_n hx hb dX3_sort_81 rfl (lv_at hl 1 rfl) ?_
                  refine j_iast (n := 20) hx hb hV hH wM_13 (by omega) (by omega) dX3_sort_82 (fun H locs hH => ?_)
                  rw [wM_s13] at hH
                  refine lv_aload_n hx hb dX3_sort_83 rfl (lv_at hl 0 rfl) ?_
                  refine lv_dup hx hb dX3_sort_84 rfl ?_
                  refine j_get hx hb hts hown hV hH wM_o rfl in_X3 14 (Nat.le_of_ble_eq_true rfl) q2243 (fun _ h => h) rfl dX3_sort_85 ?_
                  refine j_top (b := (srO st g cnt) 14 0) rfl ?_
                  refine j_top (b := cnt) (srO_14 st g cnt) ?_
                  refine lv_aload_n hx hb dX3_sort_88 rfl (lv_at hl 0 rfl) ?_
                  refine lv_iload_n hx hb dX3_sort_89 rfl (lv_at hl 1 rfl) ?_
                  refine j_callif (va_runV (As := [.int (iI it)]) (rest := [.int (iI cnt), .ref o]) ⟨hx, hb, hml, hown, hts⟩ (m_X3_isBox l o (su (srO st g cnt) 13 a it) w0 _ it (h1) (by omega) (show it < st 0 2 by omega)) (cw_X3_isBox hts q2339 (Nat.le_of_ble_eq_true rfl) (Nat.le_of_ble_eq_true rfl)) (j_preV hV hH wM_o rfl) rfl rfl hl.1 rfl (lv_room (Nat.le_of_ble_eq_true rfl)) dX3_sort_90 ⟨Nat.le_of_ble_eq_true rfl, Nat.le_of_ble_eq_true rfl⟩) hH (fun H locs hH => ?_)
                  refine j_top (b := bI (0 < nd (st 0) it 4)) rfl ?_
                  refine j_ifeq_b (tgt := 100) hx hb dX3_sort_93 (by decide) (fun c93 => ?_) (fun c93 => ?_)
                  · refine j_iconst hx hb dX3_sort_100 ?_
                    refine j_iadd hx hb dX3_sort_101 ?_
                    refine j_put hx hb hts hown hV hH wM_o rfl in_X3 tyX3 tyX3_ok nmX3 14 (Nat.le_of_ble_eq_true rfl) q2243 (fun _ h => h) rfl rfl rfl (Nat.le_of_ble_eq_true rfl) dX3_sort_102 (fun H locs hH => ?_)
                    rw [wM_f14] at hH
                    refine j_iinc (k := 1) (lv' := fun x7 => [(1, .int (iI x7)), (0, .ref o), (2, .int (iI a))]) hx hb dX3_sort_105 hl rfl (by decide) (fun _ => rfl) (fun x7 ex7 ls hl => ?_)
                    refine lv_goto (tgt := 7) hx hb dX3_sort_108 (by decide) ?_
                    rw [srO_o, srO_b] at hH
                    exact ih_7 (upz g a it) (cnt + 0) x7 (by omega) (by first | assumption | omega) (by first | assumption | omega) (by rw [ex7]; first | exact (srt_box i1 (by omega) i3 i4 c93 j1 j2 (hpos c93)).1 | (have := (srt_no i1 i3 i4 c93 (j4 c93) j1).1; omega)) (by rw [ex7]; first | exact (srt_box i1 (by omega) i3 i4 c93 j1 j2 (hpos c93)).2 | exact fun j k1 k2 => (srt_no i1 i3 i4 c93 (j4 c93) j1).2 j k1 (by omega)) _ _ hH ls (lv_sub hl [1, 0] rfl)
                  · refine j_iconst hx hb dX3_sort_96 ?_
                    refine lv_goto (tgt := 101) hx hb dX3_sort_97 (by decide) ?_
                    refine j_iadd hx hb dX3_sort_101 ?_
                    refine j_put hx hb hts hown hV hH wM_o rfl in_X3 tyX3 tyX3_ok nmX3 14 (Nat.le_of_ble_eq_true rfl) q2243 (fun _ h => h) rfl rfl rfl (Nat.le_of_ble_eq_true rfl) dX3_sort_102 (fun H locs hH => ?_)
                    rw [wM_f14] at hH
                    refine j_iinc (k := 1) (lv' := fun x8 => [(1, .int (iI x8)), (0, .ref o), (2, .int (iI a))]) hx hb dX3_sort_105 hl rfl (by decide) (fun _ => rfl) (fun x8 ex8 ls hl => ?_)
                    refine lv_goto (tgt := 7) hx hb dX3_sort_108 (by decide) ?_
                    rw [srO_o, srO_b] at hH
                    exact ih_7 (upz g a it) (cnt + 1) x8 (by omega) (by first | assumption | omega) (by first | assumption | omega) (by rw [ex8]; first | exact (srt_box i1 (by omega) i3 i4 c93 j1 j2 (hpos c93)).1 | (have := (srt_no i1 i3 i4 c93 (j4 c93) j1).1; omega)) (by rw [ex8]; first | exact (srt_box i1 (by omega) i3 i4 c93 j1 j2 (hpos c93)).2 | exact fun j k1 k2 => (srt_no i1 i3 i4 c93 (j4 c93) j1).2 j k1 (by omega)) _ _ hH ls (lv_sub hl [1, 0] rfl)
                · refine lv_aload_n hx hb dX3_sort_56 rfl (lv_at hl 0 rfl) ?_
                  refine j_get hx hb hts hown hV hH wM_o rfl in_X3 13 (Nat.le_of_ble_eq_true rfl) q2242 (fun _ h => h) rfl dX3_sort_57 ?_
                  refine lv_iload_n hx hb dX3_sort_60 rfl (lv_at hl 2 rfl) ?_
                  refine lv_aload_n hx hb dX3_sort_61 rfl (lv_at hl 0 rfl) ?_
                  refine j_get hx hb hts hown hV hH wM_o rfl in_X3 13 (Nat.le_of_ble_eq_true rfl) q2242 (fun _ h => h) rfl dX3_sort_62 ?_
                  refine lv_iload_n hx hb dX3_sort_65 rfl (lv_at hl 2 rfl) ?_
                  refine j_iconst hx hb dX3_sort_66 ?_
                  refine j_isub hx hb dX3_sort_67 ?_
                  refine j_iald (n := 20) hx hb hV hH wM_13 (by omega) (by omega) dX3_sort_68 ?_
                  refine j_top (b := f (a - 1)) (j1 (a - 1) (by omega) (by omega)) ?_
                  refine j_iast (n := 20) hx hb hV hH wM_13 (by omega) (by omega) dX3_sort_69 (fun H locs hH => ?_)
                  rw [wM_s13] at hH
                  refine j_iinc (k := 2) (lv' := fun x9 => [(2, .int (iI x9)), (0, .ref o), (1, .int (iI it))]) hx hb dX3_sort_70 hl rfl (by decide) (fun _ => rfl) (fun x9 ex9 ls hl => ?_)
                  refine lv_goto (tgt := 22) hx hb dX3_sort_73 (by decide) ?_
                  rw [srO_o] at hH
                  exact ih_22 (upz g a (f (a - 1))) x9 (by omega) (by omega) (by intro j q1 q2; rw [upz_n (by omega)]; exact j1 j q1 (by omega)) (by intro j q1 q2; by_cases hj : j = a; (rw [hj, upz_s]); (rw [upz_n hj]; exact j2 j (by omega) q2)) (by intro hb; rw [j3 hb, pos_step (by omega) c53, ex9]; rfl) (by intro hb; exact absurd c27 hb) _ _ hH ls (lv_sub hl [1, 2, 0] rfl)
        exact L22 ((x2).toNat + 1) f x2 (by omega) (by omega) (fun _ _ _ => rfl) (by intro j q1 q2; omega) (by intro _; rw [ex2]) (by intro _; exact ex2) _ _ hH ls (lv_sub hl [1, 2, 0] rfl)
  rw [srO_i] at hH
  exact L7 ((st 0 2 - x1).toNat + 1) (st 13) 0 x1 (by omega) (by first | assumption | omega) (by first | assumption | omega) (by rw [ex1]; rfl) (by intro j h0 h9; omega) _ _ hH ls (lv_sub hl [1, 0] rfl)
theorem cw_X3_isClear {R : Room} {s : State} {args : Array Value} {own : String} {index lev mc ms : Nat} (hts : ∀ w ∈ lw_all, w.before args s = true) (hl : Cond.methodLink own index yX3_isClear ∈ lw_all) (hR1 : (rmL lev mc ms).frames + 1 ≤ R.frames) (hR2 : 8 + (11 + 11) + (rmL lev mc ms).locals ≤ R.locals) : CallW R s args own RX3 index yX3_isClear cX3_isClear 11 (some .boolean) (ws_ yX3_isClear cX3_isClear 11 (some .boolean)) (rmL lev mc ms) mc ms 3 :=
  cwV 3 hts (lw_V hl q2530 qs83 q116 q2531) rfl rfl rfl (by decide +kernel) ⟨hR1, hR2⟩
set_option maxHeartbeats 4000000 in
theorem m_X3_isClear {E : jE} (l : Launch) (o : Nat) (st : Ms) (w0 : Wl) (T : Int) (row : Int) (t : Int) (left : Prop) (h1 : PWF T (st 0)) (h2 : PLC st) (h3 : SHC st) (h4 : ORC st) (h5 : MKC st) (h6 : 0 ≤ row ∧ row ≤ 119) (h7 : 0 ≤ t ∧ t ≤ 20) : Met l yX3_isClear (ws_ yX3_isClear cX3_isClear 11 (some .boolean)) (rmL 4 0 0) (va_Pc [.ref o, .int (iI row), .int (iI t), .int (iI (bI left))] (jP E (wM E o st w0))) (jQi E (fun u : Ms => wM E o u w0) (fun z u => z = bI (clrO (st 0) (mlO (st 0)) (mrO (st 0)) row t left) ∧ u = st)) 0 0 (jA E) := by
  refine j_metZ (by decide) (Nat.le_of_ble_eq_true rfl) ?_
  intro p e s m args below meth c Q hx hb hml hown hnm hts hV hH hret ls hl
  have hl : lv_has ls 11 [(0, .ref o), (1, .int (iI row)), (2, .int (iI t)), (3, .int (iI (bI left)))] := hl
  have hA := h1.A
  have hC := h1.C
  have hcn := cntO_b h1
  have hco := colO_b (left := left) (A := 199) (x := st 0 11) (d := t) (by omega) (by omega)
  have hmk := mskO_b h1 True
  have hmr := mskO_b h1 False
  have hp1 : 0 ≤ pI left (mlO (st 0)) 0 ∧ pI left (mlO (st 0)) 0 ≤ 20 := by rcases pI_or left (mlO (st 0)) 0 with q | q <;> rw [q.2] <;> first | decide | exact hmk
  have hp2 : 0 ≤ pI left (st 0 0) (st 0 0 - mrO (st 0)) ∧ pI left (st 0 0) (st 0 0 - mrO (st 0)) ≤ 200 := by unfold mrO; rcases pI_or left (st 0 0) (st 0 0 - mskO (st 0) False) with q | q <;> rw [q.2] <;> omega
  refine lv_aload_n hx hb dX3_isClear_0 rfl (lv_at hl 0 rfl) ?_
  refine j_get hx hb hts hown hV hH wM_o rfl in_X3 0 (Nat.le_of_ble_eq_true rfl) q2229 (fun _ h => h) rfl dX3_isClear_1 ?_
  refine j_bipush hx hb dX3_isClear_4 (by decide) ?_
  refine j_iald (n := 198) hx hb hV hH wM_0 (by omega) (by omega) dX3_isClear_6 ?_
  refine lv_iload_n hx hb dX3_isClear_7 rfl (lv_at hl 2 rfl) ?_
  refine lv_iload_n hx hb dX3_isClear_8 rfl (lv_at hl 3 rfl) ?_
  refine j_callip (va_runS (As := [.int (iI (st 0 11)), .int (iI t), .int (iI (bI left))]) (rest := []) ⟨hx, hb, hml, hown, hts⟩ (m_X3_column l _ (st 0 11) t left (by omega) (by omega)) (cw_X3_column hts q2510 (Nat.le_of_ble_eq_true rfl) (Nat.le_of_ble_eq_true rfl)) (j_preS hV hH) rfl rfl hl.1 rfl (lv_room (Nat.le_of_ble_eq_true rfl)) dX3_isClear_9 ⟨Nat.le_of_ble_eq_true rfl, Nat.le_of_ble_eq_true rfl⟩) hH (fun H locs hH => ?_)
  refine j_istore (lv' := fun x1 => [(4, .int (iI x1)), (0, .ref o), (1, .int (iI row)), (2, .int (iI t)), (3, .int (iI (bI left)))]) hx hb dX3_isClear_12 hl (by decide) (fun _ => rfl) (fun x1 ex1 ls hl => ?_)
  refine lv_iload hx hb dX3_isClear_14 (lv_at hl 0 rfl) ?_
  refine lv_aload_n hx hb dX3_isClear_16 rfl (lv_at hl 1 rfl) ?_
  refine j_get hx hb hts hown hV hH wM_o rfl in_X3 0 (Nat.le_of_ble_eq_true rfl) q2229 (fun _ h => h) rfl dX3_isClear_17 ?_
  refine j_bipush hx hb dX3_isClear_20 (by decide) ?_
  refine j_iald (n := 198) hx hb hV hH wM_0 (by omega) (by omega) dX3_isClear_22 ?_
  refine j_iadd hx hb dX3_isClear_23 ?_
  refine j_istore (lv' := fun x2 => [(5, .int (iI x2)), (4, .int (iI x1)), (0, .ref o), (1, .int (iI row)), (2, .int (iI t)), (3, .int (iI (bI left)))]) hx hb dX3_isClear_24 hl (by decide) (fun _ => rfl) (fun x2 ex2 ls hl => ?_)
  have L82 : ∀ (n_ : Nat), ∀ (is : Int) (it : Int) (hm_ : cntO (st 0) - it < (n_ : Int)) (i1 : is = bI (alT (pI left (mlO (st 0)) 0 ≤ colO (st 0 11) t left ∧ colO (st 0 11) t left + st 0 13 ≤ pI left (st 0 0) (st 0 0 - mrO (st 0))) (fun j : Int => metO (st 0) (ordO (st 0) j) row t left → shO (st 0) (ordO (st 0) j) < t) it)) (i2 : 0 ≤ it) (i3 : it ≤ cntO (st 0)) (H : Heap) (locs : List Loc), jH E s.heap (wM E o st w0) H locs → ∀ ls : Array Slot, lv_has ls 11 [(0, .ref o), (1, .int (iI row)), (2, .int (iI t)), (3, .int (iI (bI left))), (4, .int (iI x1)), (5, .int (iI x2)), (6, .int (iI is)), (7, .int (iI it))] → W p l e (rmL 4 0 0) s m args below meth c H locs 0 0 Q (F0 m 82 ls []) := by
    intro n_
    induction n_ with
    | zero =>
      intro is it hm_ i1 i2 i3 H locs hH ls hl
      exact absurd hm_ (by omega)
    | succ n_ ih_82 =>
      intro is it hm_ i1 i2 i3 H locs hH ls hl
      have hib := bI_01 (alT (pI left (mlO (st 0)) 0 ≤ colO (st 0 11) t left ∧ colO (st 0 11) t left + st 0 13 ≤ pI left (st 0 0) (st 0 0 - mrO (st 0))) (fun j : Int => metO (st 0) (ordO (st 0) j) row t left → shO (st 0) (ordO (st 0) j) < t) it)
      refine lv_iload hx hb dX3_isClear_82 (lv_at hl 7 rfl) ?_
      refine lv_aload_n hx hb dX3_isClear_84 rfl (lv_at hl 0 rfl) ?_
      refine j_get hx hb hts hown hV hH wM_o rfl in_X3 14 (Nat.le_of_ble_eq_true rfl) q2243 (fun _ h => h) rfl dX3_isClear_85 ?_
      refine j_top (b := cntO (st 0)) (h4.1) ?_
      refine j_icmp_ge (tgt := 197) hx hb dX3_isClear_88 (by decide) (by omega) (by omega) (fun c88 => ?_) (fun c88 => ?_)
      · refine lv_iload hx hb dX3_isClear_197 (lv_at hl 6 rfl) ?_
        exact hret st hH dX3_isClear_199 (Nat.le_of_ble_eq_true rfl) (Nat.le_of_ble_eq_true rfl) (by omega) (⟨by rw [i1, show it = cntO (st 0) by omega]; rfl, rfl⟩)
      · refine lv_aload_n hx hb dX3_isClear_91 rfl (lv_at hl 0 rfl) ?_
        refine j_get hx hb hts hown hV hH wM_o rfl in_X3 13 (Nat.le_of_ble_eq_true rfl) q2242 (fun _ h => h) rfl dX3_isClear_92 ?_
        refine lv_iload hx hb dX3_isClear_95 (lv_at hl 7 rfl) ?_
        refine j_iald (n := 20) hx hb hV hH wM_13 (by omega) (by omega) dX3_isClear_97 ?_
        refine j_top (b := ordO (st 0) it) (h4.2 it i2 c88) ?_
        refine j_istore (lv' := fun x3 => [(8, .int (iI x3)), (0, .ref o), (1, .int (iI row)), (2, .int (iI t)), (3, .int (iI (bI left))), (4, .int (iI x1)), (5, .int (iI x2)), (6, .int (iI is)), (7, .int (iI it))]) hx hb dX3_isClear_98 hl (by decide) (fun _ => rfl) (fun x3 ex3 ls hl => ?_)
        have hob := ordO_b h1 i2 c88
        rw [← ex3] at hob
        have hN := h1.N hob.1 hob.2.1
        have hcN := colN_b h1 (n := x3) (Or.inr ⟨hob.1, hob.2.1⟩) left
        have hyN := sumO_b h1 (k := 2) (n := x3) (by omega) (Or.inr ⟨hob.1, hob.2.1⟩)
        have hsN := shO_b h1 (n := x3) (Or.inr ⟨hob.1, hob.2.1⟩)
        refine lv_aload_n hx hb dX3_isClear_100 rfl (lv_at hl 1 rfl) ?_
        refine lv_iload hx hb dX3_isClear_101 (lv_at hl 0 rfl) ?_
        refine lv_iload_n hx hb dX3_isClear_103 rfl (lv_at hl 4 rfl) ?_
        refine j_callif (va_runV (As := [.int (iI x3), .int (iI (bI left))]) (rest := []) ⟨hx, hb, hml, hown, hts⟩ (m_X3_columnOf l o st w0 _ x3 left (h1) (by omega) (by omega) (h2) (h3)) (cw_X3_columnOf hts q2506 (Nat.le_of_ble_eq_true rfl) (Nat.le_of_ble_eq_true rfl)) (j_preV hV hH wM_o rfl) rfl rfl hl.1 rfl (lv_room (Nat.le_of_ble_eq_true rfl)) dX3_isClear_104 ⟨Nat.le_of_ble_eq_true rfl, Nat.le_of_ble_eq_true rfl⟩) hH (fun H locs hH => ?_)
        refine j_istore (lv' := fun x4 => [(9, .int (iI x4)), (8, .int (iI x3)), (0, .ref o), (1, .int (iI row)), (2, .int (iI t)), (3, .int (iI (bI left))), (4, .int (iI x1)), (5, .int (iI x2)), (6, .int (iI is)), (7, .int (iI it))]) hx hb dX3_isClear_107 hl (by decide) (fun _ => rfl) (fun x4 ex4 ls hl => ?_)
        refine lv_iload_n hx hb dX3_isClear_109 rfl (lv_at hl 3 rfl) ?_
        refine lv_aload_n hx hb dX3_isClear_110 rfl (lv_at hl 2 rfl) ?_
        refine j_get hx hb hts hown hV hH wM_o rfl in_X3 9 (Nat.le_of_ble_eq_true rfl) q2238 (fun _ h => h) rfl dX3_isClear_111 ?_
        refine lv_iload hx hb dX3_isClear_114 (lv_at hl 1 rfl) ?_
        refine j_iald (n := 20) hx hb hV hH wM_9 (by omega) (by omega) dX3_isClear_116 ?_
        refine j_top (b := sumO (st 0) x3 2) ((h2 _ hob.1 hob.2.1).2.1) ?_
        refine j_isub hx hb dX3_isClear_117 ?_
        refine j_iconst hx hb dX3_isClear_118 ?_
        refine lv_aload_n hx hb dX3_isClear_119 rfl (lv_at hl 2 rfl) ?_
        refine lv_iload hx hb dX3_isClear_120 (lv_at hl 1 rfl) ?_
        refine j_iconst hx hb dX3_isClear_122 ?_
        refine j_callif (va_runV (As := [.int (iI x3), .int (iI 5)]) (rest := [.int (iI 0), .int (iI (row - (sumO (st 0) x3 2)))]) ⟨hx, hb, hml, hown, hts⟩ (m_X3_of l o st w0 x3 5 (by omega)) (cw_X3_of hts q2343 (Nat.le_of_ble_eq_true rfl) (Nat.le_of_ble_eq_true rfl)) (j_preV hV hH wM_o rfl) rfl rfl hl.1 rfl (lv_room (Nat.le_of_ble_eq_true rfl)) dX3_isClear_123 ⟨Nat.le_of_ble_eq_true rfl, Nat.le_of_ble_eq_true rfl⟩) hH (fun H locs hH => ?_)
        refine j_iconst hx hb dX3_isClear_126 ?_
        refine j_isub hx hb dX3_isClear_127 ?_
        refine j_callip (va_runS (As := [.int (iI (row - (sumO (st 0) x3 2))), .int (iI 0), .int (iI ((nd (st 0) x3 5) - 1))]) (rest := []) ⟨hx, hb, hml, hown, hts⟩ (m_X3_in l _ (row - (sumO (st 0) x3 2)) 0 ((nd (st 0) x3 5) - 1) (by omega) (by omega) (by omega)) (cw_X3_in hts q2313 (Nat.le_of_ble_eq_true rfl) (Nat.le_of_ble_eq_true rfl)) (j_preS hV hH) rfl rfl hl.1 rfl (lv_room (Nat.le_of_ble_eq_true rfl)) dX3_isClear_128 ⟨Nat.le_of_ble_eq_true rfl, Nat.le_of_ble_eq_true rfl⟩) hH (fun H locs hH => ?_)
        refine j_ifeq_b (tgt := 160) hx hb dX3_isClear_131 (by decide) (fun c131 => ?_) (fun c131 => ?_)
        · refine j_iconst hx hb dX3_isClear_160 ?_
          refine j_istore (lv' := fun x5 => [(10, .int (iI x5)), (9, .int (iI x4)), (8, .int (iI x3)), (0, .ref o), (1, .int (iI row)), (2, .int (iI t)), (3, .int (iI (bI left))), (4, .int (iI x1)), (5, .int (iI x2)), (6, .int (iI is)), (7, .int (iI it))]) hx hb dX3_isClear_161 hl (by decide) (fun _ => rfl) (fun x5 ex5 ls hl => ?_)
          have hm : x5 = bI (metO (st 0) (ordO (st 0) it) row t left) := by rw [ex5, ← ex3]; unfold metO; rw [← ex4, ← ex1]; first | exact bT ⟨c131, by omega, by omega⟩ | exact bF (fun q => c131 q.1) | exact bF (fun q => by omega)
          refine lv_iload hx hb dX3_isClear_163 (lv_at hl 9 rfl) ?_
          refine j_if_eq (tgt := 188) hx hb dX3_isClear_165 (by decide) (by omega) (fun c165 => ?_) (fun c165 => ?_)
          · refine j_iconst hx hb dX3_isClear_188 ?_
            refine j_istore (lv' := fun x6 => [(6, .int (iI x6)), (10, .int (iI x5)), (9, .int (iI x4)), (8, .int (iI x3)), (0, .ref o), (1, .int (iI row)), (2, .int (iI t)), (3, .int (iI (bI left))), (4, .int (iI x1)), (5, .int (iI x2)), (7, .int (iI it))]) hx hb dX3_isClear_189 hl (by decide) (fun _ => rfl) (fun x6 ex6 ls hl => ?_)
            refine j_iinc (k := 10) (lv' := fun x7 => [(7, .int (iI x7)), (6, .int (iI x6)), (10, .int (iI x5)), (9, .int (iI x4)), (8, .int (iI x3)), (0, .ref o), (1, .int (iI row)), (2, .int (iI t)), (3, .int (iI (bI left))), (4, .int (iI x1)), (5, .int (iI x2))]) hx hb dX3_isClear_191 hl rfl (by decide) (fun _ => rfl) (fun x7 ex7 ls hl => ?_)
            refine lv_goto (tgt := 82) hx hb dX3_isClear_194 (by decide) ?_
            exact ih_82 x6 x7 (by omega) (by rw [ex6, ex7]; first | exact bF (fun q => bI_no i1 c165 ((alT_s i2).mp q).1) | exact bT ((alT_s i2).mpr ⟨bI_yes i1 c165, fun hq => absurd hq (bI_no hm c170)⟩) | exact bT ((alT_s i2).mpr ⟨bI_yes i1 c165, fun _ => by rw [← ex3]; exact c181⟩) | exact bF (fun q => absurd (((alT_s i2).mp q).2 (bI_yes hm c170)) (by rw [← ex3]; omega))) (by first | assumption | omega) (by first | assumption | omega) _ _ hH ls (lv_sub hl [5, 6, 7, 8, 9, 10, 1, 0] rfl)
          · refine lv_iload hx hb dX3_isClear_168 (lv_at hl 0 rfl) ?_
            refine j_if_eq (tgt := 184) hx hb dX3_isClear_170 (by decide) (by omega) (fun c170 => ?_) (fun c170 => ?_)
            · refine j_iconst hx hb dX3_isClear_184 ?_
              refine lv_goto (tgt := 189) hx hb dX3_isClear_185 (by decide) ?_
              refine j_istore (lv' := fun x8 => [(6, .int (iI x8)), (10, .int (iI x5)), (9, .int (iI x4)), (8, .int (iI x3)), (0, .ref o), (1, .int (iI row)), (2, .int (iI t)), (3, .int (iI (bI left))), (4, .int (iI x1)), (5, .int (iI x2)), (7, .int (iI it))]) hx hb dX3_isClear_189 hl (by decide) (fun _ => rfl) (fun x8 ex8 ls hl => ?_)
              refine j_iinc (k := 10) (lv' := fun x9 => [(7, .int (iI x9)), (6, .int (iI x8)), (10, .int (iI x5)), (9, .int (iI x4)), (8, .int (iI x3)), (0, .ref o), (1, .int (iI row)), (2, .int (iI t)), (3, .int (iI (bI left))), (4, .int (iI x1)), (5, .int (iI x2))]) hx hb dX3_isClear_191 hl rfl (by decide) (fun _ => rfl) (fun x9 ex9 ls hl => ?_)
              refine lv_goto (tgt := 82) hx hb dX3_isClear_194 (by decide) ?_
              exact ih_82 x8 x9 (by omega) (by rw [ex8, ex9]; first | exact bF (fun q => bI_no i1 c165 ((alT_s i2).mp q).1) | exact bT ((alT_s i2).mpr ⟨bI_yes i1 c165, fun hq => absurd hq (bI_no hm c170)⟩) | exact bT ((alT_s i2).mpr ⟨bI_yes i1 c165, fun _ => by rw [← ex3]; exact c181⟩) | exact bF (fun q => absurd (((alT_s i2).mp q).2 (bI_yes hm c170)) (by rw [← ex3]; omega))) (by first | assumption | omega) (by first | assumption | omega) _ _ hH ls (lv_sub hl [5, 6, 7, 8, 9, 10, 1, 0] rfl)
            · refine lv_aload_n hx hb dX3_isClear_173 rfl (lv_at hl 3 rfl) ?_
              refine j_get hx hb hts hown hV hH wM_o rfl in_X3 11 (Nat.le_of_ble_eq_true rfl) q2240 (fun _ h => h) rfl dX3_isClear_174 ?_
              refine lv_iload hx hb dX3_isClear_177 (lv_at hl 2 rfl) ?_
              refine j_iald (n := 20) hx hb hV hH wM_11 (by omega) (by omega) dX3_isClear_179 ?_
              refine j_top (b := shO (st 0) x3) (h3 _ hob.1 hob.2.1) ?_
              refine lv_iload_n hx hb dX3_isClear_180 rfl (lv_at hl 5 rfl) ?_
              refine j_icmp_ge (tgt := 188) hx hb dX3_isClear_181 (by decide) (by omega) (by omega) (fun c181 => ?_) (fun c181 => ?_)
              · refine j_iconst hx hb dX3_isClear_188 ?_
                refine j_istore (lv' := fun x10 => [(6, .int (iI x10)), (10, .int (iI x5)), (9, .int (iI x4)), (8, .int (iI x3)), (0, .ref o), (1, .int (iI row)), (2, .int (iI t)), (3, .int (iI (bI left))), (4, .int (iI x1)), (5, .int (iI x2)), (7, .int (iI it))]) hx hb dX3_isClear_189 hl (by decide) (fun _ => rfl) (fun x10 ex10 ls hl => ?_)
                refine j_iinc (k := 10) (lv' := fun x11 => [(7, .int (iI x11)), (6, .int (iI x10)), (10, .int (iI x5)), (9, .int (iI x4)), (8, .int (iI x3)), (0, .ref o), (1, .int (iI row)), (2, .int (iI t)), (3, .int (iI (bI left))), (4, .int (iI x1)), (5, .int (iI x2))]) hx hb dX3_isClear_191 hl rfl (by decide) (fun _ => rfl) (fun x11 ex11 ls hl => ?_)
                refine lv_goto (tgt := 82) hx hb dX3_isClear_194 (by decide) ?_
                exact ih_82 x10 x11 (by omega) (by rw [ex10, ex11]; first | exact bF (fun q => bI_no i1 c165 ((alT_s i2).mp q).1) | exact bT ((alT_s i2).mpr ⟨bI_yes i1 c165, fun hq => absurd hq (bI_no hm c170)⟩) | exact bT ((alT_s i2).mpr ⟨bI_yes i1 c165, fun _ => by rw [← ex3]; exact c181⟩) | exact bF (fun q => absurd (((alT_s i2).mp q).2 (bI_yes hm c170)) (by rw [← ex3]; omega))) (by first | assumption | omega) (by first | assumption | omega) _ _ hH ls (lv_sub hl [5, 6, 7, 8, 9, 10, 1, 0] rfl)
              · refine j_iconst hx hb dX3_isClear_184 ?_
                refine lv_goto (tgt := 189) hx hb dX3_isClear_185 (by decide) ?_
                refine j_istore (lv' := fun x12 => [(6, .int (iI x12)), (10, .int (iI x5)), (9, .int (iI x4)), (8, .int (iI x3)), (0, .ref o), (1, .int (iI row)), (2, .int (iI t)), (3, .int (iI (bI left))), (4, .int (iI x1)), (5, .int (iI x2)), (7, .int (iI it))]) hx hb dX3_isClear_189 hl (by decide) (fun _ => rfl) (fun x12 ex12 ls hl => ?_)
                refine j_iinc (k := 10) (lv' := fun x13 => [(7, .int (iI x13)), (6, .int (iI x12)), (10, .int (iI x5)), (9, .int (iI x4)), (8, .int (iI x3)), (0, .ref o), (1, .int (iI row)), (2, .int (iI t)), (3, .int (iI (bI left))), (4, .int (iI x1)), (5, .int (iI x2))]) hx hb dX3_isClear_191 hl rfl (by decide) (fun _ => rfl) (fun x13 ex13 ls hl => ?_)
                refine lv_goto (tgt := 82) hx hb dX3_isClear_194 (by decide) ?_
                exact ih_82 x12 x13 (by omega) (by rw [ex12, ex13]; first | exact bF (fun q => bI_no i1 c165 ((alT_s i2).mp q).1) | exact bT ((alT_s i2).mpr ⟨bI_yes i1 c165, fun hq => absurd hq (bI_no hm c170)⟩) | exact bT ((alT_s i2).mpr ⟨bI_yes i1 c165, fun _ => by rw [← ex3]; exact c181⟩) | exact bF (fun q => absurd (((alT_s i2).mp q).2 (bI_yes hm c170)) (by rw [← ex3]; omega))) (by first | assumption | omega) (by first | assumption | omega) _ _ hH ls (lv_sub hl [5, 6, 7, 8, 9, 10, 1, 0] rfl)
        · refine lv_iload hx hb dX3_isClear_134 (lv_at hl 0 rfl) ?_
          refine lv_iload hx hb dX3_isClear_136 (lv_at hl 7 rfl) ?_
          refine j_icmp_ge (tgt := 160) hx hb dX3_isClear_138 (by decide) (by omega) (by omega) (fun c138 => ?_) (fun c138 => ?_)
          · refine j_iconst hx hb dX3_isClear_160 ?_
            refine j_istore (lv' := fun x14 => [(10, .int (iI x14)), (9, .int (iI x4)), (8, .int (iI x3)), (0, .ref o), (1, .int (iI row)), (2, .int (iI t)), (3, .int (iI (bI left))), (4, .int (iI x1)), (5, .int (iI x2)), (6, .int (iI is)), (7, .int (iI it))]) hx hb dX3_isClear_161 hl (by decide) (fun _ => rfl) (fun x14 ex14 ls hl => ?_)
            have hm : x14 = bI (metO (st 0) (ordO (st 0) it) row t left) := by rw [ex14, ← ex3]; unfold metO; rw [← ex4, ← ex1]; first | exact bT ⟨c131, by omega, by omega⟩ | exact bF (fun q => c131 q.1) | exact bF (fun q => by omega)
            refine lv_iload hx hb dX3_isClear_163 (lv_at hl 9 rfl) ?_
            refine j_if_eq (tgt := 188) hx hb dX3_isClear_165 (by decide) (by omega) (fun c165 => ?_) (fun c165 => ?_)
            · refine j_iconst hx hb dX3_isClear_188 ?_
              refine j_istore (lv' := fun x15 => [(6, .int (iI x15)), (10, .int (iI x14)), (9, .int (iI x4)), (8, .int (iI x3)), (0, .ref o), (1, .int (iI row)), (2, .int (iI t)), (3, .int (iI (bI left))), (4, .int (iI x1)), (5, .int (iI x2)), (7, .int (iI it))]) hx hb dX3_isClear_189 hl (by decide) (fun _ => rfl) (fun x15 ex15 ls hl => ?_)
              refine j_iinc (k := 10) (lv' := fun x16 => [(7, .int (iI x16)), (6, .int (iI x15)), (10, .int (iI x14)), (9, .int (iI x4)), (8, .int (iI x3)), (0, .ref o), (1, .int (iI row)), (2, .int (iI t)), (3, .int (iI (bI left))), (4, .int (iI x1)), (5, .int (iI x2))]) hx hb dX3_isClear_191 hl rfl (by decide) (fun _ => rfl) (fun x16 ex16 ls hl => ?_)
              refine lv_goto (tgt := 82) hx hb dX3_isClear_194 (by decide) ?_
              exact ih_82 x15 x16 (by omega) (by rw [ex15, ex16]; first | exact bF (fun q => bI_no i1 c165 ((alT_s i2).mp q).1) | exact bT ((alT_s i2).mpr ⟨bI_yes i1 c165, fun hq => absurd hq (bI_no hm c170)⟩) | exact bT ((alT_s i2).mpr ⟨bI_yes i1 c165, fun _ => by rw [← ex3]; exact c181⟩) | exact bF (fun q => absurd (((alT_s i2).mp q).2 (bI_yes hm c170)) (by rw [← ex3]; omega))) (by first | assumption | omega) (by first | assumption | omega) _ _ hH ls (lv_sub hl [5, 6, 7, 8, 9, 10, 1, 0] rfl)
            · refine lv_iload hx hb dX3_isClear_168 (lv_at hl 0 rfl) ?_
              refine j_if_eq (tgt := 184) hx hb dX3_isClear_170 (by decide) (by omega) (fun c170 => ?_) (fun c170 => ?_)
              · refine j_iconst hx hb dX3_isClear_184 ?_
                refine lv_goto (tgt := 189) hx hb dX3_isClear_185 (by decide) ?_
                refine j_istore (lv' := fun x17 => [(6, .int (iI x17)), (10, .int (iI x14)), (9, .int (iI x4)), (8, .int (iI x3)), (0, .ref o), (1, .int (iI row)), (2, .int (iI t)), (3, .int (iI (bI left))), (4, .int (iI x1)), (5, .int (iI x2)), (7, .int (iI it))]) hx hb dX3_isClear_189 hl (by decide) (fun _ => rfl) (fun x17 ex17 ls hl => ?_)
                refine j_iinc (k := 10) (lv' := fun x18 => [(7, .int (iI x18)), (6, .int (iI x17)), (10, .int (iI x14)), (9, .int (iI x4)), (8, .int (iI x3)), (0, .ref o), (1, .int (iI row)), (2, .int (iI t)), (3, .int (iI (bI left))), (4, .int (iI x1)), (5, .int (iI x2))]) hx hb dX3_isClear_191 hl rfl (by decide) (fun _ => rfl) (fun x18 ex18 ls hl => ?_)
                refine lv_goto (tgt := 82) hx hb dX3_isClear_194 (by decide) ?_
                exact ih_82 x17 x18 (by omega) (by rw [ex17, ex18]; first | exact bF (fun q => bI_no i1 c165 ((alT_s i2).mp q).1) | exact bT ((alT_s i2).mpr ⟨bI_yes i1 c165, fun hq => absurd hq (bI_no hm c170)⟩) | exact bT ((alT_s i2).mpr ⟨bI_yes i1 c165, fun _ => by rw [← ex3]; exact c181⟩) | exact bF (fun q => absurd (((alT_s i2).mp q).2 (bI_yes hm c170)) (by rw [← ex3]; omega))) (by first | assumption | omega) (by first | assumption | omega) _ _ hH ls (lv_sub hl [5, 6, 7, 8, 9, 10, 1, 0] rfl)
              · refine lv_aload_n hx hb dX3_isClear_173 rfl (lv_at hl 3 rfl) ?_
                refine j_get hx hb hts hown hV hH wM_o rfl in_X3 11 (Nat.le_of_ble_eq_true rfl) q2240 (fun _ h => h) rfl dX3_isClear_174 ?_
                refine lv_iload hx hb dX3_isClear_177 (lv_at hl 2 rfl) ?_
                refine j_iald (n := 20) hx hb hV hH wM_11 (by omega) (by omega) dX3_isClear_179 ?_
                refine j_top (b := shO (st 0) x3) (h3 _ hob.1 hob.2.1) ?_
                refine lv_iload_n hx hb dX3_isClear_180 rfl (lv_at hl 5 rfl) ?_
                refine j_icmp_ge (tgt := 188) hx hb dX3_isClear_181 (by decide) (by omega) (by omega) (fun c181 => ?_) (fun c181 => ?_)
                · refine j_iconst hx hb dX3_isClear_188 ?_
                  refine j_istore (lv' := fun x19 => [(6, .int (iI x19)), (10, .int (iI x14)), (9, .int (iI x4)), (8, .int (iI x3)), (0, .ref o), (1, .int (iI row)), (2, .int (iI t)), (3, .int (iI (bI left))), (4, .int (iI x1)), (5, .int (iI x2)), (7, .int (iI it))]) hx hb dX3_isClear_189 hl (by decide) (fun _ => rfl) (fun x19 ex19 ls hl => ?_)
                  refine j_iinc (k := 10) (lv' := fun x20 => [(7, .int (iI x20)), (6, .int (iI x19)), (10, .int (iI x14)), (9, .int (iI x4)), (8, .int (iI x3)), (0, .ref o), (1, .int (iI row)), (2, .int (iI t)), (3, .int (iI (bI left))), (4, .int (iI x1)), (5, .int (iI x2))]) hx hb dX3_isClear_191 hl rfl (by decide) (fun _ => rfl) (fun x20 ex20 ls hl => ?_)
                  refine lv_goto (tgt := 82) hx hb dX3_isClear_194 (by decide) ?_
                  exact ih_82 x19 x20 (by omega) (by rw [ex19, ex20]; first | exact bF (fun q => bI_no i1 c165 ((alT_s i2).mp q).1) | exact bT ((alT_s i2).mpr ⟨bI_yes i1 c165, fun hq => absurd hq (bI_no hm c170)⟩) | exact bT ((alT_s i2).mpr ⟨bI_yes i1 c165, fun _ => by rw [← ex3]; exact c181⟩) | exact bF (fun q => absurd (((alT_s i2).mp q).2 (bI_yes hm c170)) (by rw [← ex3]; omega))) (by first | assumption | omega) (by first | assumption | omega) _ _ hH ls (lv_sub hl [5, 6, 7, 8, 9, 10, 1, 0] rfl)
                · refine j_iconst hx hb dX3_isClear_184 ?_
                  refine lv_goto (tgt := 189) hx hb dX3_isClear_185 (by decide) ?_
                  refine j_istore (lv' := fun x21 => [(6, .int (iI x21)), (10, .int (iI x14)), (9, .int (iI x4)), (8, .int (iI x3)), (0, .ref o), (1, .int (iI row)), (2, .int (iI t)), (3, .int (iI (bI left))), (4, .int (iI x1)), (5, .int (iI x2)), (7, .int (iI it))]) hx hb dX3_isClear_189 hl (by decide) (fun _ => rfl) (fun x21 ex21 ls hl => ?_)
                  refine j_iinc (k := 10) (lv' := fun x22 => [(7, .int (iI x22)), (6, .int (iI x21)), (10, .int (iI x14)), (9, .int (iI x4)), (8, .int (iI x3)), (0, .ref o), (1, .int (iI row)), (2, .int (iI t)), (3, .int (iI (bI left))), (4, .int (iI x1)), (5, .int (iI x2))]) hx hb dX3_isClear_191 hl rfl (by decide) (fun _ => rfl) (fun x22 ex22 ls hl => ?_)
                  refine lv_goto (tgt := 82) hx hb dX3_isClear_194 (by decide) ?_
                  exact ih_82 x21 x22 (by omega) (by rw [ex21, ex22]; first | exact bF (fun q => bI_no i1 c165 ((alT_s i2).mp q).1) | exact bT ((alT_s i2).mpr ⟨bI_yes i1 c165, fun hq => absurd hq (bI_no hm c170)⟩) | exact bT ((alT_s i2).mpr ⟨bI_yes i1 c165, fun _ => by rw [← ex3]; exact c181⟩) | exact bF (fun q => absurd (((alT_s i2).mp q).2 (bI_yes hm c170)) (by rw [← ex3]; omega))) (by first | assumption | omega) (by first | assumption | omega) _ _ hH ls (lv_sub hl [5, 6, 7, 8, 9, 10, 1, 0] rfl)
          · refine lv_iload hx hb dX3_isClear_141 (lv_at hl 0 rfl) ?_
            refine lv_aload_n hx hb dX3_isClear_143 rfl (lv_at hl 2 rfl) ?_
            refine lv_iload hx hb dX3_isClear_144 (lv_at hl 1 rfl) ?_
            refine j_iconst hx hb dX3_isClear_146 ?_
            refine j_callif (va_runV (As := [.int (iI x3), .int (iI 4)]) (rest := [.int (iI x4)]) ⟨hx, hb, hml, hown, hts⟩ (m_X3_of l o st w0 x3 4 (by omega)) (cw_X3_of hts q2343 (Nat.le_of_ble_eq_true rfl) (Nat.le_of_ble_eq_true rfl)) (j_preV hV hH wM_o rfl) rfl rfl hl.1 rfl (lv_room (Nat.le_of_ble_eq_true rfl)) dX3_isClear_147 ⟨Nat.le_of_ble_eq_true rfl, Nat.le_of_ble_eq_true rfl⟩) hH (fun H locs hH => ?_)
            refine j_iadd hx hb dX3_isClear_150 ?_
            refine lv_iload hx hb dX3_isClear_151 (lv_at hl 6 rfl) ?_
            refine j_icmp_le (tgt := 160) hx hb dX3_isClear_153 (by decide) (by omega) (by omega) (fun c153 => ?_) (fun c153 => ?_)
            · refine j_iconst hx hb dX3_isClear_160 ?_
              refine j_istore (lv' := fun x23 => [(10, .int (iI x23)), (9, .int (iI x4)), (8, .int (iI x3)), (0, .ref o), (1, .int (iI row)), (2, .int (iI t)), (3, .int (iI (bI left))), (4, .int (iI x1)), (5, .int (iI x2)), (6, .int (iI is)), (7, .int (iI it))]) hx hb dX3_isClear_161 hl (by decide) (fun _ => rfl) (fun x23 ex23 ls hl => ?_)
              have hm : x23 = bI (metO (st 0) (ordO (st 0) it) row t left) := by rw [ex23, ← ex3]; unfold metO; rw [← ex4, ← ex1]; first | exact bT ⟨c131, by omega, by omega⟩ | exact bF (fun q => c131 q.1) | exact bF (fun q => by omega)
              refine lv_iload hx hb dX3_isClear_163 (lv_at hl 9 rfl) ?_
              refine j_if_eq (tgt := 188) hx hb dX3_isClear_165 (by decide) (by omega) (fun c165 => ?_) (fun c165 => ?_)
              · refine j_iconst hx hb dX3_isClear_188 ?_
                refine j_istore (lv' := fun x24 => [(6, .int (iI x24)), (10, .int (iI x23)), (9, .int (iI x4)), (8, .int (iI x3)), (0, .ref o), (1, .int (iI row)), (2, .int (iI t)), (3, .int (iI (bI left))), (4, .int (iI x1)), (5, .int (iI x2)), (7, .int (iI it))]) hx hb dX3_isClear_189 hl (by decide) (fun _ => rfl) (fun x24 ex24 ls hl => ?_)
                refine j_iinc (k := 10) (lv' := fun x25 => [(7, .int (iI x25)), (6, .int (iI x24)), (10, .int (iI x23)), (9, .int (iI x4)), (8, .int (iI x3)), (0, .ref o), (1, .int (iI row)), (2, .int (iI t)), (3, .int (iI (bI left))), (4, .int (iI x1)), (5, .int (iI x2))]) hx hb dX3_isClear_191 hl rfl (by decide) (fun _ => rfl) (fun x25 ex25 ls hl => ?_)
                refine lv_goto (tgt := 82) hx hb dX3_isClear_194 (by decide) ?_
                exact ih_82 x24 x25 (by omega) (by rw [ex24, ex25]; first | exact bF (fun q => bI_no i1 c165 ((alT_s i2).mp q).1) | exact bT ((alT_s i2).mpr ⟨bI_yes i1 c165, fun hq => absurd hq (bI_no hm c170)⟩) | exact bT ((alT_s i2).mpr ⟨bI_yes i1 c165, fun _ => by rw [← ex3]; exact c181⟩) | exact bF (fun q => absurd (((alT_s i2).mp q).2 (bI_yes hm c170)) (by rw [← ex3]; omega))) (by first | assumption | omega) (by first | assumption | omega) _ _ hH ls (lv_sub hl [5, 6, 7, 8, 9, 10, 1, 0] rfl)
              · refine lv_iload hx hb dX3_isClear_168 (lv_at hl 0 rfl) ?_
                refine j_if_eq (tgt := 184) hx hb dX3_isClear_170 (by decide) (by omega) (fun c170 => ?_) (fun c170 => ?_)
                · refine j_iconst hx hb dX3_isClear_184 ?_
                  refine lv_goto (tgt := 189) hx hb dX3_isClear_185 (by decide) ?_
                  refine j_istore (lv' := fun x26 => [(6, .int (iI x26)), (10, .int (iI x23)), (9, .int (iI x4)), (8, .int (iI x3)), (0, .ref o), (1, .int (iI row)), (2, .int (iI t)), (3, .int (iI (bI left))), (4, .int (iI x1)), (5, .int (iI x2)), (7, .int (iI it))]) hx hb dX3_isClear_189 hl (by decide) (fun _ => rfl) (fun x26 ex26 ls hl => ?_)
                  refine j_iinc (k := 10) (lv' := fun x27 => [(7, .int (iI x27)), (6, .int (iI x26)), (10, .int (iI x23)), (9, .int (iI x4)), (8, .int (iI x3)), (0, .ref o), (1, .int (iI row)), (2, .int (iI t)), (3, .int (iI (bI left))), (4, .int (iI x1)), (5, .int (iI x2))]) hx hb dX3_isClear_191 hl rfl (by decide) (fun _ => rfl) (fun x27 ex27 ls hl => ?_)
                  refine lv_goto (tgt := 82) hx hb dX3_isClear_194 (by decide) ?_
                  exact ih_82 x26 x27 (by omega) (by rw [ex26, ex27]; first | exact bF (fun q => bI_no i1 c165 ((alT_s i2).mp q).1) | exact bT ((alT_s i2).mpr ⟨bI_yes i1 c165, fun hq => absurd hq (bI_no hm c170)⟩) | exact bT ((alT_s i2).mpr ⟨bI_yes i1 c165, fun _ => by rw [← ex3]; exact c181⟩) | exact bF (fun q => absurd (((alT_s i2).mp q).2 (bI_yes hm c170)) (by rw [← ex3]; omega))) (by first | assumption | omega) (by first | assumption | omega) _ _ hH ls (lv_sub hl [5, 6, 7, 8, 9, 10, 1, 0] rfl)
                · refine lv_aload_n hx hb dX3_isClear_173 rfl (lv_at hl 3 rfl) ?_
                  refine j_get hx hb hts hown hV hH wM_o rfl in_X3 11 (Nat.le_of_ble_eq_true rfl) q2240 (fun _ h => h) rfl dX3_isClear_174 ?_
                  refine lv_iload hx hb dX3_isClear_177 (lv_at hl 2 rfl) ?_
                  refine j_iald (n := 20) hx hb hV hH wM_11 (by omega) (by omega) dX3_isClear_179 ?_
                  refine j_top (b := shO (st 0) x3) (h3 _ hob.1 hob.2.1) ?_
                  refine lv_iload_n hx hb dX3_isClear_180 rfl (lv_at hl 5 rfl) ?_
                  refine j_icmp_ge (tgt := 188) hx hb dX3_isClear_181 (by decide) (by omega) (by omega) (fun c181 => ?_) (fun c181 => ?_)
                  · refine j_iconst hx hb dX3_isClear_188 ?_
                    refine j_istore (lv' := fun x28 => [(6, .int (iI x28)), (10, .int (iI x23)), (9, .int (iI x4)), (8, .int (iI x3)), (0, .ref o), (1, .int (iI row)), (2, .int (iI t)), (3, .int (iI (bI left))), (4, .int (iI x1)), (5, .int (iI x2)), (7, .int (iI it))]) hx hb dX3_isClear_189 hl (by decide) (fun _ => rfl) (fun x28 ex28 ls hl => ?_)
                    refine j_iinc (k := 10) (lv' := fun x29 => [(7, .int (iI x29)), (6, .int (iI x28)), (10, .int (iI x23)), (9, .int (iI x4)), (8, .int (iI x3)), (0, .ref o), (1, .int (iI row)), (2, .int (iI t)), (3, .int (iI (bI left))), (4, .int (iI x1)), (5, .int (iI x2))]) hx hb dX3_isClear_191 hl rfl (by decide) (fun _ => rfl) (fun x29 ex29 ls hl => ?_)
                    refine lv_goto (tgt := 82) hx hb dX3_isClear_194 (by decide) ?_
                    exact ih_82 x28 x29 (by omega) (by rw [ex28, ex29]; first | exact bF (fun q => bI_no i1 c165 ((alT_s i2).mp q).1) | exact bT ((alT_s i2).mpr ⟨bI_yes i1 c165, fun hq => absurd hq (bI_no hm c170)⟩) | exact bT ((alT_s i2).mpr ⟨bI_yes i1 c165, fun _ => by rw [← ex3]; exact c181⟩) | exact bF (fun q => absurd (((alT_s i2).mp q).2 (bI_yes hm c170)) (by rw [← ex3]; omega))) (by first | assumption | omega) (by first | assumption | omega) _ _ hH ls (lv_sub hl [5, 6, 7, 8, 9, 10, 1, 0] rfl)
                  · refine j_iconst hx hb dX3_isClear_184 ?_
                    refine lv_goto (tgt := 189) hx hb dX3_isClear_185 (by decide) ?_
                    refine j_istore (lv' := fun x30 => [(6, .int (iI x30)), (10, .int (iI x23)), (9, .int (iI x4)), (8, .int (iI x3)), (0, .ref o), (1, .int (iI row)), (2, .int (iI t)), (3, .int (iI (bI left))), (4, .int (iI x1)), (5, .int (iI x2)), (7, .int (iI it))]) hx hb dX3_isClear_189 hl (by decide) (fun _ => rfl) (fun x30 ex30 ls hl => ?_)
                    refine j_iinc (k := 10) (lv' := fun x31 => [(7, .int (iI x31)), (6, .int (iI x30)), (10, .int (iI x23)), (9, .int (iI x4)), (8, .int (iI x3)), (0, .ref o), (1, .int (iI row)), (2, .int (iI t)), (3, .int (iI (bI left))), (4, .int (iI x1)), (5, .int (iI x2))]) hx hb dX3_isClear_191 hl rfl (by decide) (fun _ => rfl) (fun x31 ex31 ls hl => ?_)
                    refine lv_goto (tgt := 82) hx hb dX3_isClear_194 (by decide) ?_
                    exact ih_82 x30 x31 (by omega) (by rw [ex30, ex31]; first | exact bF (fun q => bI_no i1 c165 ((alT_s i2).mp q).1) | exact bT ((alT_s i2).mpr ⟨bI_yes i1 c165, fun hq => absurd hq (bI_no hm c170)⟩) | exact bT ((alT_s i2).mpr ⟨bI_yes i1 c165, fun _ => by rw [← ex3]; exact c181⟩) | exact bF (fun q => absurd (((alT_s i2).mp q).2 (bI_yes hm c170)) (by rw [← ex3]; omega))) (by first | assumption | omega) (by first | assumption | omega) _ _ hH ls (lv_sub hl [5, 6, 7, 8, 9, 10, 1, 0] rfl)
            · refine j_iconst hx hb dX3_isClear_156 ?_
              refine lv_goto (tgt := 161) hx hb dX3_isClear_157 (by decide) ?_
              refine j_istore (lv' := fun x32 => [(10, .int (iI x32)), (9, .int (iI x4)), (8, .int (iI x3)), (0, .ref o), (1, .int (iI row)), (2, .int (iI t)), (3, .int (iI (bI left))), (4, .int (iI x1)), (5, .int (iI x2)), (6, .int (iI is)), (7, .int (iI it))]) hx hb dX3_isClear_161 hl (by decide) (fun _ => rfl) (fun x32 ex32 ls hl => ?_)
              have hm : x32 = bI (metO (st 0) (ordO (st 0) it) row t left) := by rw [ex32, ← ex3]; unfold metO; rw [← ex4, ← ex1]; first | exact bT ⟨c131, by omega, by omega⟩ | exact bF (fun q => c131 q.1) | exact bF (fun q => by omega)
              refine lv_iload hx hb dX3_isClear_163 (lv_at hl 9 rfl) ?_
              refine j_if_eq (tgt := 188) hx hb dX3_isClear_165 (by decide) (by omega) (fun c165 => ?_) (fun c165 => ?_)
              · refine j_iconst hx hb dX3_isClear_188 ?_
                refine j_istore (lv' := fun x33 => [(6, .int (iI x33)), (10, .int (iI x32)), (9, .int (iI x4)), (8, .int (iI x3)), (0, .ref o), (1, .int (iI row)), (2, .int (iI t)), (3, .int (iI (bI left))), (4, .int (iI x1)), (5, .int (iI x2)), (7, .int (iI it))]) hx hb dX3_isClear_189 hl (by decide) (fun _ => rfl) (fun x33 ex33 ls hl => ?_)
                refine j_iinc (k := 10) (lv' := fun x34 => [(7, .int (iI x34)), (6, .int (iI x33)), (10, .int (iI x32)), (9, .int (iI x4)), (8, .int (iI x3)), (0, .ref o), (1, .int (iI row)), (2, .int (iI t)), (3, .int (iI (bI left))), (4, .int (iI x1)), (5, .int (iI x2))]) hx hb dX3_isClear_191 hl rfl (by decide) (fun _ => rfl) (fun x34 ex34 ls hl => ?_)
                refine lv_goto (tgt := 82) hx hb dX3_isClear_194 (by decide) ?_
                exact ih_82 x33 x34 (by omega) (by rw [ex33, ex34]; first | exact bF (fun q => bI_no i1 c165 ((alT_s i2).mp q).1) | exact bT ((alT_s i2).mpr ⟨bI_yes i1 c165, fun hq => absurd hq (bI_no hm c170)⟩) | exact bT ((alT_s i2).mpr ⟨bI_yes i1 c165, fun _ => by rw [← ex3]; exact c181⟩) | exact bF (fun q => absurd (((alT_s i2).mp q).2 (bI_yes hm c170)) (by rw [← ex3]; omega))) (by first | assumption | omega) (by first | assumption | omega) _ _ hH ls (lv_sub hl [5, 6, 7, 8, 9, 10, 1, 0] rfl)
              · refine lv_iload hx hb dX3_isClear_168 (lv_at hl 0 rfl) ?_
                refine j_if_eq (tgt := 184) hx hb dX3_isClear_170 (by decide) (by omega) (fun c170 => ?_) (fun c170 => ?_)
                · refine j_iconst hx hb dX3_isClear_184 ?_
                  refine lv_goto (tgt := 189) hx hb dX3_isClear_185 (by decide) ?_
                  refine j_istore (lv' := fun x35 => [(6, .int (iI x35)), (10, .int (iI x32)), (9, .int (iI x4)), (8, .int (iI x3)), (0, .ref o), (1, .int (iI row)), (2, .int (iI t)), (3, .int (iI (bI left))), (4, .int (iI x1)), (5, .int (iI x2)), (7, .int (iI it))]) hx hb dX3_isClear_189 hl (by decide) (fun _ => rfl) (fun x35 ex35 ls hl => ?_)
                  refine j_iinc (k := 10) (lv' := fun x36 => [(7, .int (iI x36)), (6, .int (iI x35)), (10, .int (iI x32)), (9, .int (iI x4)), (8, .int (iI x3)), (0, .ref o), (1, .int (iI row)), (2, .int (iI t)), (3, .int (iI (bI left))), (4, .int (iI x1)), (5, .int (iI x2))]) hx hb dX3_isClear_191 hl rfl (by decide) (fun _ => rfl) (fun x36 ex36 ls hl => ?_)
                  refine lv_goto (tgt := 82) hx hb dX3_isClear_194 (by decide) ?_
                  exact ih_82 x35 x36 (by omega) (by rw [ex35, ex36]; first | exact bF (fun q => bI_no i1 c165 ((alT_s i2).mp q).1) | exact bT ((alT_s i2).mpr ⟨bI_yes i1 c165, fun hq => absurd hq (bI_no hm c170)⟩) | exact bT ((alT_s i2).mpr ⟨bI_yes i1 c165, fun _ => by rw [← ex3]; exact c181⟩) | exact bF (fun q => absurd (((alT_s i2).mp q).2 (bI_yes hm c170)) (by rw [← ex3]; omega))) (by first | assumption | omega) (by first | assumption | omega) _ _ hH ls (lv_sub hl [5, 6, 7, 8, 9, 10, 1, 0] rfl)
                · refine lv_aload_n hx hb dX3_isClear_173 rfl (lv_at hl 3 rfl) ?_
                  refine j_get hx hb hts hown hV hH wM_o rfl in_X3 11 (Nat.le_of_ble_eq_true rfl) q2240 (fun _ h => h) rfl dX3_isClear_174 ?_
                  refine lv_iload hx hb dX3_isClear_177 (lv_at hl 2 rfl) ?_
                  refine j_iald (n := 20) hx hb hV hH wM_11 (by omega) (by omega) dX3_isClear_179 ?_
                  refine j_top (b := shO (st 0) x3) (h3 _ hob.1 hob.2.1) ?_
                  refine lv_iload_n hx hb dX3_isClear_180 rfl (lv_at hl 5 rfl) ?_
                  refine j_icmp_ge (tgt := 188) hx hb dX3_isClear_181 (by decide) (by omega) (by omega) (fun c181 => ?_) (fun c181 => ?_)
                  · refine j_iconst hx hb dX3_isClear_188 ?_
                    refine j_istore (lv' := fun x37 => [(6, .int (iI x37)), (10, .int (iI x32)), (9, .int (iI x4)), (8, .int (iI x3)), (0, .ref o), (1, .int (iI row)), (2, .int (iI t)), (3, .int (iI (bI left))), (4, .int (iI x1)), (5, .int (iI x2)), (7, .int (iI it))]) hx hb dX3_isClear_189 hl (by decide) (fun _ => rfl) (fun x37 ex37 ls hl => ?_)
                    refine j_iinc (k := 10) (lv' := fun x38 => [(7, .int (iI x38)), (6, .int (iI x37)), (10, .int (iI x32)), (9, .int (iI x4)), (8, .int (iI x3)), (0, .ref o), (1, .int (iI row)), (2, .int (iI t)), (3, .int (iI (bI left))), (4, .int (iI x1)), (5, .int (iI x2))]) hx hb dX3_isClear_191 hl rfl (by decide) (fun _ => rfl) (fun x38 ex38 ls hl => ?_)
                    refine lv_goto (tgt := 82) hx hb dX3_isClear_194 (by decide) ?_
                    exact ih_82 x37 x38 (by omega) (by rw [ex37, ex38]; first | exact bF (fun q => bI_no i1 c165 ((alT_s i2).mp q).1) | exact bT ((alT_s i2).mpr ⟨bI_yes i1 c165, fun hq => absurd hq (bI_no hm c170)⟩) | exact bT ((alT_s i2).mpr ⟨bI_yes i1 c165, fun _ => by rw [← ex3]; exact c181⟩) | exact bF (fun q => absurd (((alT_s i2).mp q).2 (bI_yes hm c170)) (by rw [← ex3]; omega))) (by first | assumption | omega) (by first | assumption | omega) _ _ hH ls (lv_sub hl [5, 6, 7, 8, 9, 10, 1, 0] rfl)
                  · refine j_iconst hx hb dX3_isClear_184 ?_
                    refine lv_goto (tgt := 189) hx hb dX3_isClear_185 (by decide) ?_
                    refine j_istore (lv' := fun x39 => [(6, .int (iI x39)), (10, .int (iI x32)), (9, .int (iI x4)), (8, .int (iI x3)), (0, .ref o), (1, .int (iI row)), (2, .int (iI t)), (3, .int (iI (bI left))), (4, .int (iI x1)), (5, .int (iI x2)), (7, .int (iI it))]) hx hb dX3_isClear_189 hl (by decide) (fun _ => rfl) (fun x39 ex39 ls hl => ?_)
                    refine j_iinc (k := 10) (lv' := fun x40 => [(7, .int (iI x40)), (6, .int (iI x39)), (10, .int (iI x32)), (9, .int (iI x4)), (8, .int (iI x3)), (0, .ref o), (1, .int (iI row)), (2, .int (iI t)), (3, .int (iI (bI left))), (4, .int (iI x1)), (5, .int (iI x2))]) hx hb dX3_isClear_191 hl rfl (by decide) (fun _ => rfl) (fun x40 ex40 ls hl => ?_)
                    refine lv_goto (tgt := 82) hx hb dX3_isClear_194 (by decide) ?_
                    exact ih_82 x39 x40 (by omega) (by rw [ex39, ex40]; first | exact bF (fun q => bI_no i1 c165 ((alT_s i2).mp q).1) | exact bT ((alT_s i2).mpr ⟨bI_yes i1 c165, fun hq => absurd hq (bI_no hm c170)⟩) | exact bT ((alT_s i2).mpr ⟨bI_yes i1 c165, fun _ => by rw [← ex3]; exact c181⟩) | exact bF (fun q => absurd (((alT_s i2).mp q).2 (bI_yes hm c170)) (by rw [← ex3]; omega))) (by first | assumption | omega) (by first | assumption | omega) _ _ hH ls (lv_sub hl [5, 6, 7, 8, 9, 10, 1, 0] rfl)
  refine lv_iload hx hb dX3_isClear_26 (lv_at hl 1 rfl) ?_
  refine lv_iload_n hx hb dX3_isClear_28 rfl (lv_at hl 5 rfl) ?_
  refine j_ifeq_b (tgt := 39) hx hb dX3_isClear_29 (by decide) (fun c29 => ?_) (fun c29 => ?_)
  · refine j_iconst hx hb dX3_isClear_39 ?_
    refine j_top (b := pI left (mlO (st 0)) 0) (by first | exact (pI_t c29).symm | exact (pI_f c29).symm) ?_
    refine j_icmp_lt (tgt := 76) hx hb dX3_isClear_40 (by decide) (by omega) (by omega) (fun c40 => ?_) (fun c40 => ?_)
    · refine j_iconst hx hb dX3_isClear_76 ?_
      refine j_istore (lv' := fun x41 => [(6, .int (iI x41)), (5, .int (iI x2)), (4, .int (iI x1)), (0, .ref o), (1, .int (iI row)), (2, .int (iI t)), (3, .int (iI (bI left)))]) hx hb dX3_isClear_77 hl (by decide) (fun _ => rfl) (fun x41 ex41 ls hl => ?_)
      refine j_iconst hx hb dX3_isClear_79 ?_
      refine j_istore (lv' := fun x42 => [(7, .int (iI x42)), (6, .int (iI x41)), (5, .int (iI x2)), (4, .int (iI x1)), (0, .ref o), (1, .int (iI row)), (2, .int (iI t)), (3, .int (iI (bI left)))]) hx hb dX3_isClear_80 hl (by decide) (fun _ => rfl) (fun x42 ex42 ls hl => ?_)
      exact L82 ((cntO (st 0) - x42).toNat + 1) x41 x42 (by omega) (by rw [ex41, ex42]; first | exact bT (alT_0.mpr ⟨by rw [← ex1]; omega, by rw [← ex1]; omega⟩) | exact bF (fun q => by have q1 := alT_0.mp q; rw [← ex1] at q1; omega)) (by first | assumption | omega) (by first | assumption | omega) _ _ hH ls (lv_sub hl [4, 5, 6, 7, 3, 2, 1, 0] rfl)
    · refine lv_iload hx hb dX3_isClear_43 (lv_at hl 0 rfl) ?_
      refine lv_iload_n hx hb dX3_isClear_45 rfl (lv_at hl 5 rfl) ?_
      refine j_ifeq_b (tgt := 58) hx hb dX3_isClear_46 (by decide) (fun c46 => ?_) (fun c46 => ?_)
      · refine lv_aload_n hx hb dX3_isClear_58 rfl (lv_at hl 2 rfl) ?_
        refine j_get hx hb hts hown hV hH wM_o rfl in_X3 0 (Nat.le_of_ble_eq_true rfl) q2229 (fun _ h => h) rfl dX3_isClear_59 ?_
        refine j_iconst hx hb dX3_isClear_62 ?_
        refine j_iald (n := 198) hx hb hV hH wM_0 (by omega) (by omega) dX3_isClear_63 ?_
        refine lv_aload_n hx hb dX3_isClear_64 rfl (lv_at hl 2 rfl) ?_
        refine j_get hx hb hts hown hV hH wM_o rfl in_X3 16 (Nat.le_of_ble_eq_true rfl) q2245 (fun _ h => h) rfl dX3_isClear_65 ?_
        refine j_top (b := mrO (st 0)) (h5.2) ?_
        refine j_isub hx hb dX3_isClear_68 ?_
        refine j_top (b := pI left (st 0 0) (st 0 0 - mrO (st 0))) (by first | exact (pI_t c46).symm | exact (pI_f c46).symm) ?_
        refine j_icmp_gt (tgt := 76) hx hb dX3_isClear_69 (by decide) (by omega) (by omega) (fun c69 => ?_) (fun c69 => ?_)
        · refine j_iconst hx hb dX3_isClear_76 ?_
          refine j_istore (lv' := fun x43 => [(6, .int (iI x43)), (5, .int (iI x2)), (4, .int (iI x1)), (0, .ref o), (1, .int (iI row)), (2, .int (iI t)), (3, .int (iI (bI left)))]) hx hb dX3_isClear_77 hl (by decide) (fun _ => rfl) (fun x43 ex43 ls hl => ?_)
          refine j_iconst hx hb dX3_isClear_79 ?_
          refine j_istore (lv' := fun x44 => [(7, .int (iI x44)), (6, .int (iI x43)), (5, .int (iI x2)), (4, .int (iI x1)), (0, .ref o), (1, .int (iI row)), (2, .int (iI t)), (3, .int (iI (bI left)))]) hx hb dX3_isClear_80 hl (by decide) (fun _ => rfl) (fun x44 ex44 ls hl => ?_)
          exact L82 ((cntO (st 0) - x44).toNat + 1) x43 x44 (by omega) (by rw [ex43, ex44]; first | exact bT (alT_0.mpr ⟨by rw [← ex1]; omega, by rw [← ex1]; omega⟩) | exact bF (fun q => by have q1 := alT_0.mp q; rw [← ex1] at q1; omega)) (by first | assumption | omega) (by first | assumption | omega) _ _ hH ls (lv_sub hl [4, 5, 6, 7, 3, 2, 1, 0] rfl)
        · refine j_iconst hx hb dX3_isClear_72 ?_
          refine lv_goto (tgt := 77) hx hb dX3_isClear_73 (by decide) ?_
          refine j_istore (lv' := fun x45 => [(6, .int (iI x45)), (5, .int (iI x2)), (4, .int (iI x1)), (0, .ref o), (1, .int (iI row)), (2, .int (iI t)), (3, .int (iI (bI left)))]) hx hb dX3_isClear_77 hl (by decide) (fun _ => rfl) (fun x45 ex45 ls hl => ?_)
          refine j_iconst hx hb dX3_isClear_79 ?_
          refine j_istore (lv' := fun x46 => [(7, .int (iI x46)), (6, .int (iI x45)), (5, .int (iI x2)), (4, .int (iI x1)), (0, .ref o), (1, .int (iI row)), (2, .int (iI t)), (3, .int (iI (bI left)))]) hx hb dX3_isClear_80 hl (by decide) (fun _ => rfl) (fun x46 ex46 ls hl => ?_)
          exact L82 ((cntO (st 0) - x46).toNat + 1) x45 x46 (by omega) (by rw [ex45, ex46]; first | exact bT (alT_0.mpr ⟨by rw [← ex1]; omega, by rw [← ex1]; omega⟩) | exact bF (fun q => by have q1 := alT_0.mp q; rw [← ex1] at q1; omega)) (by first | assumption | omega) (by first | assumption | omega) _ _ hH ls (lv_sub hl [4, 5, 6, 7, 3, 2, 1, 0] rfl)
      · refine lv_aload_n hx hb dX3_isClear_49 rfl (lv_at hl 2 rfl) ?_
        refine j_get hx hb hts hown hV hH wM_o rfl in_X3 0 (Nat.le_of_ble_eq_true rfl) q2229 (fun _ h => h) rfl dX3_isClear_50 ?_
        refine j_iconst hx hb dX3_isClear_53 ?_
        refine j_iald (n := 198) hx hb hV hH wM_0 (by omega) (by omega) dX3_isClear_54 ?_
        refine lv_goto (tgt := 69) hx hb dX3_isClear_55 (by decide) ?_
        refine j_top (b := pI left (st 0 0) (st 0 0 - mrO (st 0))) (by first | exact (pI_t c46).symm | exact (pI_f c46).symm) ?_
        refine j_icmp_gt (tgt := 76) hx hb dX3_isClear_69 (by decide) (by omega) (by omega) (fun c69 => ?_) (fun c69 => ?_)
        · refine j_iconst hx hb dX3_isClear_76 ?_
          refine j_istore (lv' := fun x47 => [(6, .int (iI x47)), (5, .int (iI x2)), (4, .int (iI x1)), (0, .ref o), (1, .int (iI row)), (2, .int (iI t)), (3, .int (iI (bI left)))]) hx hb dX3_isClear_77 hl (by decide) (fun _ => rfl) (fun x47 ex47 ls hl => ?_)
          refine j_iconst hx hb dX3_isClear_79 ?_
          refine j_istore (lv' := fun x48 => [(7, .int (iI x48)), (6, .int (iI x47)), (5, .int (iI x2)), (4, .int (iI x1)), (0, .ref o), (1, .int (iI row)), (2, .int (iI t)), (3, .int (iI (bI left)))]) hx hb dX3_isClear_80 hl (by decide) (fun _ => rfl) (fun x48 ex48 ls hl => ?_)
          exact L82 ((cntO (st 0) - x48).toNat + 1) x47 x48 (by omega) (by rw [ex47, ex48]; first | exact bT (alT_0.mpr ⟨by rw [← ex1]; omega, by rw [← ex1]; omega⟩) | exact bF (fun q => by have q1 := alT_0.mp q; rw [← ex1] at q1; omega)) (by first | assumption | omega) (by first | assumption | omega) _ _ hH ls (lv_sub hl [4, 5, 6, 7, 3, 2, 1, 0] rfl)
        · refine j_iconst hx hb dX3_isClear_72 ?_
          refine lv_goto (tgt := 77) hx hb dX3_isClear_73 (by decide) ?_
          refine j_istore (lv' := fun x49 => [(6, .int (iI x49)), (5, .int (iI x2)), (4, .int (iI x1)), (0, .ref o), (1, .int (iI row)), (2, .int (iI t)), (3, .int (iI (bI left)))]) hx hb dX3_isClear_77 hl (by decide) (fun _ => rfl) (fun x49 ex49 ls hl => ?_)
          refine j_iconst hx hb dX3_isClear_79 ?_
          refine j_istore (lv' := fun x50 => [(7, .int (iI x50)), (6, .int (iI x49)), (5, .int (iI x2)), (4, .int (iI x1)), (0, .ref o), (1, .int (iI row)), (2, .int (iI t)), (3, .int (iI (bI left)))]) hx hb dX3_isClear_80 hl (by decide) (fun _ => rfl) (fun x50 ex50 ls hl => ?_)
          exact L82 ((cntO (st 0) - x50).toNat + 1) x49 x50 (by omega) (by rw [ex49, ex50]; first | exact bT (alT_0.mpr ⟨by rw [← ex1]; omega, by rw [← ex1]; omega⟩) | exact bF (fun q => by have q1 := alT_0.mp q; rw [← ex1] at q1; omega)) (by first | assumption | omega) (by first | assumption | omega) _ _ hH ls (lv_sub hl [4, 5, 6, 7, 3, 2, 1, 0] rfl)
  · refine lv_aload_n hx hb dX3_isClear_32 rfl (lv_at hl 2 rfl) ?_
    refine j_get hx hb hts hown hV hH wM_o rfl in_X3 15 (Nat.le_of_ble_eq_true rfl) q2244 (fun _ h => h) rfl dX3_isClear_33 ?_
    refine j_top (b := mlO (st 0)) (h5.1) ?_
    refine lv_goto (tgt := 40) hx hb dX3_isClear_36 (by decide) ?_
    refine j_top (b := pI left (mlO (st 0)) 0) (by first | exact (pI_t c29).symm | exact (pI_f c29).symm) ?_
    refine j_icmp_lt (tgt := 76) hx hb dX3_isClear_40 (by decide) (by omega) (by omega) (fun c40 => ?_) (fun c40 => ?_)
    · refine j_iconst hx hb dX3_isClear_76 ?_
      refine j_istore (lv' := fun x51 => [(6, .int (iI x51)), (5, .int (iI x2)), (4, .int (iI x1)), (0, .ref o), (1, .int (iI row)), (2, .int (iI t)), (3, .int (iI (bI left)))]) hx hb dX3_isClear_77 hl (by decide) (fun _ => rfl) (fun x51 ex51 ls hl => ?_)
      refine j_iconst hx hb dX3_isClear_79 ?_
      refine j_istore (lv' := fun x52 => [(7, .int (iI x52)), (6, .int (iI x51)), (5, .int (iI x2)), (4, .int (iI x1)), (0, .ref o), (1, .int (iI row)), (2, .int (iI t)), (3, .int (iI (bI left)))]) hx hb dX3_isClear_80 hl (by decide) (fun _ => rfl) (fun x52 ex52 ls hl => ?_)
      exact L82 ((cntO (st 0) - x52).toNat + 1) x51 x52 (by omega) (by rw [ex51, ex52]; first | exact bT (alT_0.mpr ⟨by rw [← ex1]; omega, by rw [← ex1]; omega⟩) | exact bF (fun q => by have q1 := alT_0.mp q; rw [← ex1] at q1; omega)) (by first | assumption | omega) (by first | assumption | omega) _ _ hH ls (lv_sub hl [4, 5, 6, 7, 3, 2, 1, 0] rfl)
    · refine lv_iload hx hb dX3_isClear_43 (lv_at hl 0 rfl) ?_
      refine lv_iload_n hx hb dX3_isClear_45 rfl (lv_at hl 5 rfl) ?_
      refine j_ifeq_b (tgt := 58) hx hb dX3_isClear_46 (by decide) (fun c46 => ?_) (fun c46 => ?_)
      · refine lv_aload_n hx hb dX3_isClear_58 rfl (lv_at hl 2 rfl) ?_
        refine j_get hx hb hts hown hV hH wM_o rfl in_X3 0 (Nat.le_of_ble_eq_true rfl) q2229 (fun _ h => h) rfl dX3_isClear_59 ?_
        refine j_iconst hx hb dX3_isClear_62 ?_
        refine j_iald (n := 198) hx hb hV hH wM_0 (by omega) (by omega) dX3_isClear_63 ?_
        refine lv_aload_n hx hb dX3_isClear_64 rfl (lv_at hl 2 rfl) ?_
        refine j_get hx hb hts hown hV hH wM_o rfl in_X3 16 (Nat.le_of_ble_eq_true rfl) q2245 (fun _ h => h) rfl dX3_isClear_65 ?_
        refine j_top (b := mrO (st 0)) (h5.2) ?_
        refine j_isub hx hb dX3_isClear_68 ?_
        refine j_top (b := pI left (st 0 0) (st 0 0 - mrO (st 0))) (by first | exact (pI_t c46).symm | exact (pI_f c46).symm) ?_
        refine j_icmp_gt (tgt := 76) hx hb dX3_isClear_69 (by decide) (by omega) (by omega) (fun c69 => ?_) (fun c69 => ?_)
        · refine j_iconst hx hb dX3_isClear_76 ?_
          refine j_istore (lv' := fun x53 => [(6, .int (iI x53)), (5, .int (iI x2)), (4, .int (iI x1)), (0, .ref o), (1, .int (iI row)), (2, .int (iI t)), (3, .int (iI (bI left)))]) hx hb dX3_isClear_77 hl (by decide) (fun _ => rfl) (fun x53 ex53 ls hl => ?_)
          refine j_iconst hx hb dX3_isClear_79 ?_
          refine j_istore (lv' := fun x54 => [(7, .int (iI x54)), (6, .int (iI x53)), (5, .int (iI x2)), (4, .int (iI x1)), (0, .ref o), (1, .int (iI row)), (2, .int (iI t)), (3, .int (iI (bI left)))]) hx hb dX3_isClear_80 hl (by decide) (fun _ => rfl) (fun x54 ex54 ls hl => ?_)
          exact L82 ((cntO (st 0) - x54).toNat + 1) x53 x54 (by omega) (by rw [ex53, ex54]; first | exact bT (alT_0.mpr ⟨by rw [← ex1]; omega, by rw [← ex1]; omega⟩) | exact bF (fun q => by have q1 := alT_0.mp q; rw [← ex1] at q1; omega)) (by first | assumption | omega) (by first | assumption | omega) _ _ hH ls (lv_sub hl [4, 5, 6, 7, 3, 2, 1, 0] rfl)
        · refine j_iconst hx hb dX3_isClear_72 ?_
          refine lv_goto (tgt := 77) hx hb dX3_isClear_73 (by decide) ?_
          refine j_istore (lv' := fun x55 => [(6, .int (iI x55)), (5, .int (iI x2)), (4, .int (iI x1)), (0, .ref o), (1, .int (iI row)), (2, .int (iI t)), (3, .int (iI (bI left)))]) hx hb dX3_isClear_77 hl (by decide) (fun _ => rfl) (fun x55 ex55 ls hl => ?_)
          refine j_iconst hx hb dX3_isClear_79 ?_
          refine j_istore (lv' := fun x56 => [(7, .int (iI x56)), (6, .int (iI x55)), (5, .int (iI x2)), (4, .int (iI x1)), (0, .ref o), (1, .int (iI row)), (2, .int (iI t)), (3, .int (iI (bI left)))]) hx hb dX3_isClear_80 hl (by decide) (fun _ => rfl) (fun x56 ex56 ls hl => ?_)
          exact L82 ((cntO (st 0) - x56).toNat + 1) x55 x56 (by omega) (by rw [ex55, ex56]; first | exact bT (alT_0.mpr ⟨by rw [← ex1]; omega, by rw [← ex1]; omega⟩) | exact bF (fun q => by have q1 := alT_0.mp q; rw [← ex1] at q1; omega)) (by first | assumption | omega) (by first | assumption | omega) _ _ hH ls (lv_sub hl [4, 5, 6, 7, 3, 2, 1, 0] rfl)
      · refine lv_aload_n hx hb dX3_isClear_49 rfl (lv_at hl 2 rfl) ?_
        refine j_get hx hb hts hown hV hH wM_o rfl in_X3 0 (Nat.le_of_ble_eq_true rfl) q2229 (fun _ h => h) rfl dX3_isClear_50 ?_
        refine j_iconst hx hb dX3_isClear_53 ?_
        refine j_iald (n := 198) hx hb hV hH wM_0 (by omega) (by omega) dX3_isClear_54 ?_
        refine lv_goto (tgt := 69) hx hb dX3_isClear_55 (by decide) ?_
        refine j_top (b := pI left (st 0 0) (st 0 0 - mrO (st 0))) (by first | exact (pI_t c46).symm | exact (pI_f c46).symm) ?_
        refine j_icmp_gt (tgt := 76) hx hb dX3_isClear_69 (by decide) (by omega) (by omega) (fun c69 => ?_) (fun c69 => ?_)
        · refine j_iconst hx hb dX3_isClear_76 ?_
          refine j_istore (lv' := fun x57 => [(6, .int (iI x57)), (5, .int (iI x2)), (4, .int (iI x1)), (0, .ref o), (1, .int (iI row)), (2, .int (iI t)), (3, .int (iI (bI left)))]) hx hb dX3_isClear_77 hl (by decide) (fun _ => rfl) (fun x57 ex57 ls hl => ?_)
          refine j_iconst hx hb dX3_isClear_79 ?_
          refine j_istore (lv' := fun x58 => [(7, .int (iI x58)), (6, .int (iI x57)), (5, .int (iI x2)), (4, .int (iI x1)), (0, .ref o), (1, .int (iI row)), (2, .int (iI t)), (3, .int (iI (bI left)))]) hx hb dX3_isClear_80 hl (by decide) (fun _ => rfl) (fun x58 ex58 ls hl => ?_)
          exact L82 ((cntO (st 0) - x58).toNat + 1) x57 x58 (by omega) (by rw [ex57, ex58]; first | exact bT (alT_0.mpr ⟨by rw [← ex1]; omega, by rw [← ex1]; omega⟩) | exact bF (fun q => by have q1 := alT_0.mp q; rw [← ex1] at q1; omega)) (by first | assumption | omega) (by first | assumption | omega) _ _ hH ls (lv_sub hl [4, 5, 6, 7, 3, 2, 1, 0] rfl)
        · refine j_iconst hx hb dX3_isClear_72 ?_
          refine lv_goto (tgt := 77) hx hb dX3_isClear_73 (by decide) ?_
          refine j_istore (lv' := fun x59 => [(6, .int (iI x59)), (5, .int (iI x2)), (4, .int (iI x1)), (0, .ref o), (1, .int (iI row)), (2, .int (iI t)), (3, .int (iI (bI left)))]) hx hb dX3_isClear_77 hl (by decide) (fun _ => rfl) (fun x59 ex59 ls hl => ?_)
          refine j_iconst hx hb dX3_isClear_79 ?_
          refine j_istore (lv' := fun x60 => [(7, .int (iI x60)), (6, .int (iI x59)), (5, .int (iI x2)), (4, .int (iI x1)), (0, .ref o), (1, .int (iI row)), (2, .int (iI t)), (3, .int (iI (bI left)))]) hx hb dX3_isClear_80 hl (by decide) (fun _ => rfl) (fun x60 ex60 ls hl => ?_)
          exact L82 ((cntO (st 0) - x60).toNat + 1) x59 x60 (by omega) (by rw [ex59, ex60]; first | exact bT (alT_0.mpr ⟨by rw [← ex1]; omega, by rw [← ex1]; omega⟩) | exact bF (fun q => by have q1 := alT_0.mp q; rw [← ex1] at q1; omega)) (by first | assumption | omega) (by first | assumption | omega) _ _ hH ls (lv_sub hl [4, 5, 6, 7, 3, 2, 1, 0] rfl)
